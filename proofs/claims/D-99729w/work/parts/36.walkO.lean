set_option maxRecDepth 100000
section HF
variable {ρ ρ' : Type} {p : Program} {l : Launch} {e : Env} {R : Room} {s : State} {m : MethodId} {args : Array Value} {below : List Frame} {meth : Method} {c : Code} {H : Heap} {locs : List Loc} {cells slots : Nat} {Qf : ρ → State → Prop} {sp : Option ρ}
variable {cc : ByteArray} {pc nL L : Nat} {ls : Array Slot} {rest : List Value}
variable {D : va_G} {ct : CT} {ad : Nat → Nat} {P : Nat → Nat → Option Nat} {A A0 : Nat → Prop} {S : US} {h : AH} {H0 : Heap}

end HF

set_option maxHeartbeats 4000000 in
theorem mYA_newCapacity (l : Launch) (D : va_G) (ct : CT) (ck : Nat → UC) (N : Nat) (ad : Nat → Nat) (P : Nat → Nat → Option Nat) (S : US) (w : Int64) (G0 : GS) (q0 : Nat) (p1 : Int32) (o : (Int32 × GS)) (ho : sA_newCapacity ct G0 q0 p1 = some o) : Met l yJ13_newCapacity (ws_ yJ13_newCapacity cJ13_newCapacity 6 (some .int)) { frames := 2, cells := nmax ct - G0.2.1, slots := zmax ct - G0.2.2, locals := 63 } (mP D clW ct [.ref q0, .int p1] G0.2.1 (MW D clW ck ct N ad P (fun _ => True) S w G0)) (yC (some (.int o.1)) (MW D clW ck ct N ad P (mA N ad G0) S w o.2) G0 o.2 (mA N ad G0)) (nmax ct - G0.2.1) (zmax ct - G0.2.2) (mA N ad G0) := by
  refine Y.start (val := fun (o : (Int32 × GS)) => some (.int o.1)) (Bt := fun (o : (Int32 × GS)) => MW D clW ck ct N ad P (mA N ad G0) S w o.2) (Go := fun (o : (Int32 × GS)) => o.2) ho (by decide) (Nat.le_of_ble_eq_true rfl) (lv := [(0, .ref q0), (1, .int p1)]) rfl ?_
  intro p e s m args below meth c E hr hlk hnm hZ hU hS ls hl
  obtain ⟨⟨hx, hb, hml, hown, hts⟩, hK, hJ⟩ := id E
  unfold sA_newCapacity
  refine x_aload_n hx hb dJ13_newCapacity_0 rfl (lv_at hl 0 rfl) ?_
  refine fx_getR E hU.1.1.2.1 (ci := 11) rfl in_J14 0 (by decide) (hts _ q1017) (fun _ h => h) dJ13_newCapacity_1 (fun r1 => ?_)
  refine X.onR (fun b2 hb_ => ?_)
  subst hb_
  refine fx_alen E hU.1.1.2.1 (t := 2) rfl dJ13_newCapacity_4 (fun v3 => ?_)
  refine x_istore_n (lv' := [(2, .int v3), (0, .ref q0), (1, .int p1)]) hx hb dJ13_newCapacity_5 rfl hl (by decide) rfl (fun ls hl => ?_)
  refine x_iload_n hx hb dJ13_newCapacity_6 rfl (lv_at hl 2 rfl) ?_
  refine x_aload_n hx hb dJ13_newCapacity_7 rfl (lv_at hl 1 rfl) ?_
  refine fx_getI E hU.1.1.2.1 (ci := 11) rfl in_J14 1 (by decide) (hts _ q1018) (fun _ h => h) dJ13_newCapacity_8 (fun v4 => ?_)
  refine x_ishl hx hb dJ13_newCapacity_11 ?_
  refine x_istore_n (lv' := [(3, .int (p1 <<< (v4 &&& 31))), (2, .int v3), (0, .ref q0), (1, .int p1)]) hx hb dJ13_newCapacity_12 rfl hl (by decide) rfl (fun ls hl => ?_)
  refine x_iload_n hx hb dJ13_newCapacity_13 rfl (lv_at hl 0 rfl) ?_
  refine x_iload_n hx hb dJ13_newCapacity_14 rfl (lv_at hl 1 rfl) ?_
  refine x_isub hx hb dJ13_newCapacity_15 ?_
  refine x_istore (lv' := [(4, .int ((p1 <<< (v4 &&& 31)) - v3)), (3, .int (p1 <<< (v4 &&& 31))), (2, .int v3), (0, .ref q0), (1, .int p1)]) hx hb dJ13_newCapacity_16 hl (by decide) rfl (fun ls hl => ?_)
  refine x_iload_n hx hb dJ13_newCapacity_18 rfl (lv_at hl 2 rfl) ?_
  refine x_iload hx hb dJ13_newCapacity_19 (lv_at hl 0 rfl) ?_
  refine x_iload_n hx hb dJ13_newCapacity_21 rfl (lv_at hl 2 rfl) ?_
  refine x_iconst (v := 2) hx hb dJ13_newCapacity_22 (by decide) ?_
  refine x_aload_n hx hb dJ13_newCapacity_23 rfl (lv_at hl 3 rfl) ?_
  refine fx_getI E hU.1.1.2.1 (ci := 11) rfl in_J14 1 (by decide) (hts _ q1018) (fun _ h => h) dJ13_newCapacity_24 (fun v5 => ?_)
  refine x_ishl hx hb dJ13_newCapacity_27 ?_
  refine x_iadd hx hb dJ13_newCapacity_28 ?_
  refine kzJ13_V_newLength E hZ hU hS ⟨Nat.le_of_ble_eq_true rfl, Nat.le_of_ble_eq_true rfl⟩ hl.1 (Nat.le_of_ble_eq_true rfl) dJ13_newCapacity_29 (fun o6 H locs hU hS => ?_)
  refine x_istore (lv' := [(5, .int o6), (4, .int ((p1 <<< (v4 &&& 31)) - v3)), (3, .int (p1 <<< (v4 &&& 31))), (2, .int v3), (0, .ref q0), (1, .int p1)]) hx hb dJ13_newCapacity_32 hl (by decide) rfl (fun ls hl => ?_)
  refine x_iload hx hb dJ13_newCapacity_34 (lv_at hl 0 rfl) ?_
  refine x_ldc hx hb hown (hts _ q1045) dJ13_newCapacity_36 ?_
  refine x_icmp_ne (tgt := 51) hx hb dJ13_newCapacity_38 (by decide) (fun hc => ?_) (fun hc => ?_)
  · refine x_iload hx hb dJ13_newCapacity_51 (lv_at hl 0 rfl) ?_
    refine x_aload_n hx hb dJ13_newCapacity_53 rfl (lv_at hl 4 rfl) ?_
    refine fx_getI E hU.1.1.2.1 (ci := 11) rfl in_J14 1 (by decide) (hts _ q1018) (fun _ h => h) dJ13_newCapacity_54 (fun v7 => ?_)
    refine x_ishr hx hb dJ13_newCapacity_57 ?_
    exact y_iret hx hb hr hlk hZ hU hS rfl rfl hU.1 dJ13_newCapacity_58
  · exact X.none
section KZ
variable {ρ : Type} {p : Program} {l : Launch} {e : Env} {R : Room} {s : State} {m : MethodId} {args : Array Value} {below : List Frame} {meth : Method} {c : Code} {H : Heap} {locs : List Loc} {Qf : ρ → State → Prop}
variable {cc : ByteArray} {pc nL L M q0 : Nat} {ls : Array Slot} {rest : List Value}
variable {D : va_G} {ct : CT} {ck : Nat → UC} {N : Nat} {ad : Nat → Nat} {P : Nat → Nat → Option Nat} {A : Nat → Prop} {S : US} {w : Int64} {G0 G : GS}
theorem kzJ13_A_newCapacity {p1 : Int32} (E : ME p m c cc nL s args RJ13 D clW ct) (hZ : YC ct R s A G0) (hY : YW D clW ck ct N ad P A S w G0 G H) (hS : va_S A s.heap H locs) (hR : 2 + 1 ≤ R.frames ∧ 8 + (6 + 11) + 63 ≤ R.locals) (hsize : ls.size = nL) (hW : (rest.map fun v => v.category).sum ≤ 8) (hdg : decode cc pc = .ok (.invokevirtual 104, 3)) {kp : (Int32 × GS) → Option ρ} (kk : ∀ (o : (Int32 × GS)) (H1 : Heap) (locs1 : List Loc), YW D clW ck ct N ad P A S w G0 o.2 H1 → va_S A s.heap H1 locs1 → X p l e R s m args below meth c H1 locs1 (o.2.2.1 - G0.2.1) (o.2.2.2 - G0.2.2) Qf (kp o) (F0 m (pc + 3) ls (.int o.1 :: rest))) : X p l e R s m args below meth c H locs (G.2.1 - G0.2.1) (G.2.2 - G0.2.2) Qf (hC G.1 q0 11 (callK (sA_newCapacity ct G q0 p1) kp)) (F0 m pc ls (.int p1 :: .ref q0 :: rest)) := X.hC fun fs bw hq => gy_mx (val' := fun (o : (Int32 × GS)) => some (.int o.1)) (len := 3) (So := fun (o : (Int32 × GS)) => S) (Po := fun (o : (Int32 × GS)) => P) (Gn := fun (o : (Int32 × GS)) => o.2) hZ hY hS (fun o ho => rqP (As := [.int p1]) E hY.1.any (recvA E.2.1 hY.1.1.2.1 hq rfl) (by rw [hY.1.2.1]; exact mYA_newCapacity l D ct ck N ad P S w G q0 p1 o ho) ⟨callB_of 1 E.1.2.2.2.2 (lw_meth q1043) rfl rfl rfl (E.1.2.2.2.2 _ q132) (E.1.2.2.2.2 _ q1040) (by decide +kernel) hR, E.1.2.2.2.2 _ q1042, E.2.2.at q1041 rfl, E.1.2.2.2.2 _ q1059, rfl⟩ rfl hsize rfl hW hdg (hY.room hZ)) kk
end KZ

set_option maxHeartbeats 4000000 in
theorem mYY_copyOf_3 (l : Launch) (D : va_G) (ct : CT) (ck : Nat → UC) (N : Nat) (ad : Nat → Nat) (P : Nat → Nat → Option Nat) (S : US) (w : Int64) (G0 : GS) (p1 : (Option Nat)) (p2 : Int32) (o : ((Option Nat) × GS)) (ho : sY_copyOf_3 ct G0 p1 p2 = some o) : Met l yJ16_copyOf_3 (ws_ yJ16_copyOf_3 cJ16_copyOf_3 3 (some (.array .byte))) { frames := 1, cells := nmax ct - G0.2.1, slots := zmax ct - G0.2.2, locals := 60 } (mP D clW ct [va_rf p1, .int p2] G0.2.1 (MW D clW ck ct N ad P (fun _ => True) S w G0)) (yC (some (va_rf o.1)) (MW D clW ck ct N ad P (mA N ad G0) S w o.2) G0 o.2 (mA N ad G0)) (nmax ct - G0.2.1) (zmax ct - G0.2.2) (mA N ad G0) := by
  refine Y.start (val := fun (o : ((Option Nat) × GS)) => some (va_rf o.1)) (Bt := fun (o : ((Option Nat) × GS)) => MW D clW ck ct N ad P (mA N ad G0) S w o.2) (Go := fun (o : ((Option Nat) × GS)) => o.2) ho (by decide) (by rcases p1 with _ | _ <;> exact Nat.le_of_ble_eq_true rfl) (lv := [(0, va_rf p1), (1, .int p2)]) (by rcases p1 with _ | _ <;> rfl) ?_
  intro p e s m args below meth c E hr hlk hnm hZ hU hS ls hl
  obtain ⟨⟨hx, hb, hml, hown, hts⟩, hK, hJ⟩ := id E
  replace hr : meth.sig.returnType = some (FieldType.array FieldType.byte) ∧ ((∃ n, (FieldType.array FieldType.byte) = .object n) ∨ ∃ t, (FieldType.array FieldType.byte) = .array t) := ⟨hr, Or.inr ⟨_, rfl⟩⟩
  unfold sY_copyOf_3
  refine x_iload_n hx hb dJ16_copyOf_3_0 rfl (lv_at hl 1 rfl) ?_
  refine x_aload_nO hx hb dJ16_copyOf_3_1 rfl (lv_at hl 0 rfl) ?_
  refine X.onR (fun b1 hb_ => ?_)
  subst hb_
  refine fx_alen E hU.1.1.2.1 (t := 2) rfl dJ16_copyOf_3_2 (fun v2 => ?_)
  refine x_icmp_ne (tgt := 14) hx hb dJ16_copyOf_3_3 (by decide) (fun hc => ?_) (fun hc => ?_)
  · refine x_iload_n hx hb dJ16_copyOf_3_14 rfl (lv_at hl 1 rfl) ?_
    refine gy_newa (atype := .byte) (t := 2) (ty := .byte) (x := .inl (fun _ => 0)) E hZ hU hS (hts _ q315) rfl rfl (fun h => h) (fun _ => rfl) (by decide) dJ16_copyOf_3_15 (fun q3 G4 H hU hS => ?_)
    refine x_astore_n (lv' := [(2, .ref q3), (0, .ref b1), (1, .int p2)]) hx hb dJ16_copyOf_3_17 rfl hl (by decide) rfl (fun ls hl => ?_)
    refine x_aload_n hx hb dJ16_copyOf_3_18 rfl (lv_at hl 1 rfl) ?_
    refine x_iconst (v := 0) hx hb dJ16_copyOf_3_19 (by decide) ?_
    refine x_aload_n hx hb dJ16_copyOf_3_20 rfl (lv_at hl 0 rfl) ?_
    refine x_iconst (v := 0) hx hb dJ16_copyOf_3_21 (by decide) ?_
    refine x_aload_n hx hb dJ16_copyOf_3_22 rfl (lv_at hl 1 rfl) ?_
    refine fx_alen E hU.1.1.2.1 (t := 2) rfl dJ16_copyOf_3_23 (fun v5 => ?_)
    refine x_iload_n hx hb dJ16_copyOf_3_24 rfl (lv_at hl 2 rfl) ?_
    refine kJ16_min E ⟨Nat.le_of_ble_eq_true rfl, Nat.le_of_ble_eq_true rfl⟩ hl.1 (Nat.le_of_ble_eq_true rfl) dJ16_copyOf_3_25 (hU.room0 hZ) ?_
    refine gy_copyB E hU hS (hts _ q414) (hts _ q416) (hts _ q415) (hts _ q136) ⟨Nat.le_of_ble_eq_true rfl, Nat.le_of_ble_eq_true rfl⟩ hl.1 (Nat.le_of_ble_eq_true rfl) dJ16_copyOf_3_28 (fun G6 H locs hU hS => ?_)
    refine x_aload_n hx hb dJ16_copyOf_3_31 rfl (lv_at hl 0 rfl) ?_
    exact y_aret (r := (some q3)) hx hb hr hlk hZ hU hS rfl rfl hU.1 dJ16_copyOf_3_32
  · refine x_aload_n hx hb dJ16_copyOf_3_6 rfl (lv_at hl 0 rfl) ?_
    exact X.none
section KZ
variable {ρ : Type} {p : Program} {l : Launch} {e : Env} {R : Room} {s : State} {m : MethodId} {args : Array Value} {below : List Frame} {meth : Method} {c : Code} {H : Heap} {locs : List Loc} {Qf : ρ → State → Prop}
variable {cc : ByteArray} {pc nL L M q0 : Nat} {ls : Array Slot} {rest : List Value}
variable {D : va_G} {ct : CT} {ck : Nat → UC} {N : Nat} {ad : Nat → Nat} {P : Nat → Nat → Option Nat} {A : Nat → Prop} {S : US} {w : Int64} {G0 G : GS}
theorem kzJ13_Y_copyOf_3 {p1 : (Option Nat)} {p2 : Int32} (E : ME p m c cc nL s args RJ13 D clW ct) (hZ : YC ct R s A G0) (hY : YW D clW ck ct N ad P A S w G0 G H) (hS : va_S A s.heap H locs) (hR : 1 + 1 ≤ R.frames ∧ 8 + (3 + 11) + 60 ≤ R.locals) (hsize : ls.size = nL) (hW : (rest.map fun v => v.category).sum ≤ 8) (hdg : decode cc pc = .ok (.invokestatic 108, 3)) {kp : ((Option Nat) × GS) → Option ρ} (kk : ∀ (o : ((Option Nat) × GS)) (H1 : Heap) (locs1 : List Loc), YW D clW ck ct N ad P A S w G0 o.2 H1 → va_S A s.heap H1 locs1 → X p l e R s m args below meth c H1 locs1 (o.2.2.1 - G0.2.1) (o.2.2.2 - G0.2.2) Qf (kp o) (F0 m (pc + 3) ls (va_rf o.1 :: rest))) : X p l e R s m args below meth c H locs (G.2.1 - G0.2.1) (G.2.2 - G0.2.2) Qf (callK (sY_copyOf_3 ct G p1 p2) kp) (F0 m pc ls (.int p2 :: va_rf p1 :: rest)) := gy_mx (val' := fun (o : ((Option Nat) × GS)) => some (va_rf o.1)) (len := 3) (So := fun (o : ((Option Nat) × GS)) => S) (Po := fun (o : ((Option Nat) × GS)) => P) (Gn := fun (o : ((Option Nat) × GS)) => o.2) hZ hY hS (fun o ho => rqS (As := [va_rf p1, .int p2]) E hY.1.any (by rw [hY.1.2.1]; exact mYY_copyOf_3 l D ct ck N ad P S w G p1 p2 o ho) (va_cwS 2 E.1.2.2.2.2 (lw_S q1046 q1047 q135 q1048) rfl rfl rfl (by decide +kernel) hR) rfl hsize rfl hW hdg (hY.room hZ)) kk
end KZ

set_option maxHeartbeats 4000000 in
theorem mYA_ensureCapacityInternal (l : Launch) (D : va_G) (ct : CT) (ck : Nat → UC) (N : Nat) (ad : Nat → Nat) (P : Nat → Nat → Option Nat) (S : US) (w : Int64) (G0 : GS) (q0 : Nat) (p1 : Int32) (o : GS) (ho : sA_ensureCapacityInternal ct G0 q0 p1 = some o) : Met l yJ13_ensureCapacityInternal (ws_ yJ13_ensureCapacityInternal cJ13_ensureCapacityInternal 3 none) { frames := 3, cells := nmax ct - G0.2.1, slots := zmax ct - G0.2.2, locals := 88 } (mP D clW ct [.ref q0, .int p1] G0.2.1 (MW D clW ck ct N ad P (fun _ => True) S w G0)) (yC (none) (MW D clW ck ct N ad P (mA N ad G0) S w o) G0 o (mA N ad G0)) (nmax ct - G0.2.1) (zmax ct - G0.2.2) (mA N ad G0) := by
  refine Y.start (val := fun (o : GS) => none) (Bt := fun (o : GS) => MW D clW ck ct N ad P (mA N ad G0) S w o) (Go := fun (o : GS) => o) ho (by decide) (Nat.le_of_ble_eq_true rfl) (lv := [(0, .ref q0), (1, .int p1)]) rfl ?_
  intro p e s m args below meth c E hr hlk hnm hZ hU hS ls hl
  obtain ⟨⟨hx, hb, hml, hown, hts⟩, hK, hJ⟩ := id E
  unfold sA_ensureCapacityInternal
  refine x_aload_n hx hb dJ13_ensureCapacityInternal_0 rfl (lv_at hl 0 rfl) ?_
  refine fx_getR E hU.1.1.2.1 (ci := 11) rfl in_J14 0 (by decide) (hts _ q1017) (fun _ h => h) dJ13_ensureCapacityInternal_1 (fun r1 => ?_)
  refine X.onR (fun b2 hb_ => ?_)
  subst hb_
  refine fx_alen E hU.1.1.2.1 (t := 2) rfl dJ13_ensureCapacityInternal_4 (fun v3 => ?_)
  refine x_aload_n hx hb dJ13_ensureCapacityInternal_5 rfl (lv_at hl 0 rfl) ?_
  refine fx_getI E hU.1.1.2.1 (ci := 11) rfl in_J14 1 (by decide) (hts _ q1018) (fun _ h => h) dJ13_ensureCapacityInternal_6 (fun v4 => ?_)
  refine x_ishr hx hb dJ13_ensureCapacityInternal_9 ?_
  refine x_istore_n (lv' := [(2, .int (v3 >>> (v4 &&& 31))), (0, .ref q0), (1, .int p1)]) hx hb dJ13_ensureCapacityInternal_10 rfl hl (by decide) rfl (fun ls hl => ?_)
  refine x_iload_n hx hb dJ13_ensureCapacityInternal_11 rfl (lv_at hl 2 rfl) ?_
  refine x_iload_n hx hb dJ13_ensureCapacityInternal_12 rfl (lv_at hl 0 rfl) ?_
  refine x_isub hx hb dJ13_ensureCapacityInternal_13 ?_
  refine x_if_le (tgt := 38) hx hb dJ13_ensureCapacityInternal_14 (by decide) (fun hc => ?_) (fun hc => ?_)
  · exact y_vret hx hb hr hlk hZ hU hS rfl rfl hU.1 dJ13_ensureCapacityInternal_38
  · refine x_aload_n hx hb dJ13_ensureCapacityInternal_17 rfl (lv_at hl 1 rfl) ?_
    refine x_aload_n hx hb dJ13_ensureCapacityInternal_18 rfl (lv_at hl 1 rfl) ?_
    refine fx_getR E hU.1.1.2.1 (ci := 11) rfl in_J14 0 (by decide) (hts _ q1017) (fun _ h => h) dJ13_ensureCapacityInternal_19 (fun r5 => ?_)
    refine x_aload_n hx hb dJ13_ensureCapacityInternal_22 rfl (lv_at hl 1 rfl) ?_
    refine x_iload_n hx hb dJ13_ensureCapacityInternal_23 rfl (lv_at hl 2 rfl) ?_
    refine kzJ13_A_newCapacity E hZ hU hS ⟨Nat.le_of_ble_eq_true rfl, Nat.le_of_ble_eq_true rfl⟩ hl.1 (by rcases r5 with _ | _ <;> exact Nat.le_of_ble_eq_true rfl) dJ13_ensureCapacityInternal_24 (fun o6 H locs hU hS => ?_)
    refine x_aload_n hx hb dJ13_ensureCapacityInternal_27 rfl (lv_at hl 1 rfl) ?_
    refine fx_getI E hU.1.1.2.1 (ci := 11) rfl in_J14 1 (by decide) (hts _ q1018) (fun _ h => h) dJ13_ensureCapacityInternal_28 (fun v7 => ?_)
    refine x_ishl hx hb dJ13_ensureCapacityInternal_31 ?_
    refine kzJ13_Y_copyOf_3 E hZ hU hS ⟨Nat.le_of_ble_eq_true rfl, Nat.le_of_ble_eq_true rfl⟩ hl.1 (Nat.le_of_ble_eq_true rfl) dJ13_ensureCapacityInternal_32 (fun o8 H locs hU hS => ?_)
    refine gy_put (v := va_rf o8.1) (ty0 := tyJ14) E hU hS (ci := 11) rfl in_J14 tyJ14_ok nmJ14 0 (by decide) (hts _ q1017) (fun _ h => h) (Or.inl rfl) (by cases o8.1 <;> rfl) (by cases o8.1 <;> rfl) dJ13_ensureCapacityInternal_35 (fun G9 H locs hU hS => ?_)
    exact y_vret hx hb hr hlk hZ hU hS rfl rfl hU.1 dJ13_ensureCapacityInternal_38
section KZ
variable {ρ : Type} {p : Program} {l : Launch} {e : Env} {R : Room} {s : State} {m : MethodId} {args : Array Value} {below : List Frame} {meth : Method} {c : Code} {H : Heap} {locs : List Loc} {Qf : ρ → State → Prop}
variable {cc : ByteArray} {pc nL L M q0 : Nat} {ls : Array Slot} {rest : List Value}
variable {D : va_G} {ct : CT} {ck : Nat → UC} {N : Nat} {ad : Nat → Nat} {P : Nat → Nat → Option Nat} {A : Nat → Prop} {S : US} {w : Int64} {G0 G : GS}
theorem kzJ13_A_ensureCapacityInternal {p1 : Int32} (E : ME p m c cc nL s args RJ13 D clW ct) (hZ : YC ct R s A G0) (hY : YW D clW ck ct N ad P A S w G0 G H) (hS : va_S A s.heap H locs) (hR : 3 + 1 ≤ R.frames ∧ 8 + (3 + 11) + 88 ≤ R.locals) (hsize : ls.size = nL) (hW : (rest.map fun v => v.category).sum ≤ 8) (hdg : decode cc pc = .ok (.invokevirtual 100, 3)) {kp : GS → Option ρ} (kk : ∀ (o : GS) (H1 : Heap) (locs1 : List Loc), YW D clW ck ct N ad P A S w G0 o H1 → va_S A s.heap H1 locs1 → X p l e R s m args below meth c H1 locs1 (o.2.1 - G0.2.1) (o.2.2 - G0.2.2) Qf (kp o) (F0 m (pc + 3) ls (rest))) : X p l e R s m args below meth c H locs (G.2.1 - G0.2.1) (G.2.2 - G0.2.2) Qf (hC G.1 q0 11 (callK (sA_ensureCapacityInternal ct G q0 p1) kp)) (F0 m pc ls (.int p1 :: .ref q0 :: rest)) := X.hC fun fs bw hq => gy_mx (val' := fun (o : GS) => none) (len := 3) (So := fun (o : GS) => S) (Po := fun (o : GS) => P) (Gn := fun (o : GS) => o) hZ hY hS (fun o ho => rqP (As := [.int p1]) E hY.1.any (recvA E.2.1 hY.1.1.2.1 hq rfl) (by rw [hY.1.2.1]; exact mYA_ensureCapacityInternal l D ct ck N ad P S w G q0 p1 o ho) ⟨callB_of 1 E.1.2.2.2.2 (lw_meth q1039) rfl rfl rfl (E.1.2.2.2.2 _ q132) (E.1.2.2.2.2 _ q1036) (by decide +kernel) hR, E.1.2.2.2.2 _ q1038, E.2.2.at q1037 rfl, E.1.2.2.2.2 _ q1059, rfl⟩ rfl hsize rfl hW hdg (hY.room hZ)) kk
end KZ

set_option maxHeartbeats 4000000 in
theorem mYA_init (l : Launch) (D : va_G) (ct : CT) (ck : Nat → UC) (N : Nat) (ad : Nat → Nat) (P : Nat → Nat → Option Nat) (S : US) (w : Int64) (G0 : GS) (q0 : Nat) (p1 : Int32) (o : GS) (ho : sA_init ct G0 q0 p1 = some o) : Met l yJ13_init (ws_ yJ13_init cJ13_init 2 none) { frames := 1, cells := nmax ct - G0.2.1, slots := zmax ct - G0.2.2, locals := 60 } (mP D clW ct [.ref q0, .int p1] G0.2.1 (MW D clW ck ct N ad P (fun _ => True) S w G0)) (yC (none) (MW D clW ck ct N ad P (mA N ad G0) S w o) G0 o (mA N ad G0)) (nmax ct - G0.2.1) (zmax ct - G0.2.2) (mA N ad G0) := by
  refine Y.start (val := fun (o : GS) => none) (Bt := fun (o : GS) => MW D clW ck ct N ad P (mA N ad G0) S w o) (Go := fun (o : GS) => o) ho (by decide) (Nat.le_of_ble_eq_true rfl) (lv := [(0, .ref q0), (1, .int p1)]) rfl ?_
  intro p e s m args below meth c E hr hlk hnm hZ hU hS ls hl
  obtain ⟨⟨hx, hb, hml, hown, hts⟩, hK, hJ⟩ := id E
  unfold sA_init
  refine x_aload_n hx hb dJ13_init_0 rfl (lv_at hl 0 rfl) ?_
  refine gx_objInit E (hts _ q1008) (hts _ q155) (hts _ q156) ⟨Nat.le_of_ble_eq_true rfl, Nat.le_of_ble_eq_true rfl⟩ hl.1 (Nat.le_of_ble_eq_true rfl) dJ13_init_1 ?_
  refine gx_gets E hU.1.1 (List.mem_of_getElem? (i := 0) rfl) (hts _ q1009) (fun _ h => h) dJ13_init_4 ?_
  refine x_if_eq (tgt := 25) hx hb dJ13_init_7 (by decide) (fun hc => ?_) (fun hc => ?_)
  · refine x_aload_n hx hb dJ13_init_25 rfl (lv_at hl 0 rfl) ?_
    refine x_iload_n hx hb dJ13_init_26 rfl (lv_at hl 1 rfl) ?_
    exact X.none
  · refine x_aload_n hx hb dJ13_init_10 rfl (lv_at hl 0 rfl) ?_
    refine x_iload_n hx hb dJ13_init_11 rfl (lv_at hl 1 rfl) ?_
    refine gy_newa (atype := .byte) (t := 2) (ty := .byte) (x := .inl (fun _ => 0)) E hZ hU hS (hts _ q315) rfl rfl (fun h => h) (fun _ => rfl) (by decide) dJ13_init_12 (fun q1 G2 H hU hS => ?_)
    refine gy_put (v := .ref q1) (ty0 := tyJ14) E hU hS (ci := 11) rfl in_J14 tyJ14_ok nmJ14 0 (by decide) (hts _ q1017) (fun _ h => h) (Or.inl rfl) rfl rfl dJ13_init_14 (fun G3 H locs hU hS => ?_)
    refine x_aload_n hx hb dJ13_init_17 rfl (lv_at hl 0 rfl) ?_
    refine x_iconst (v := 0) hx hb dJ13_init_18 (by decide) ?_
    refine gy_put (v := .int (0 : Int32)) (ty0 := tyJ14) E hU hS (ci := 11) rfl in_J14 tyJ14_ok nmJ14 1 (by decide) (hts _ q1018) (fun _ h => h) (Or.inl rfl) rfl rfl dJ13_init_19 (fun G4 H locs hU hS => ?_)
    refine x_goto (tgt := 38) hx hb dJ13_init_22 (by decide) ?_
    exact y_vret hx hb hr hlk hZ hU hS rfl rfl hU.1 dJ13_init_38
section KZ
variable {ρ : Type} {p : Program} {l : Launch} {e : Env} {R : Room} {s : State} {m : MethodId} {args : Array Value} {below : List Frame} {meth : Method} {c : Code} {H : Heap} {locs : List Loc} {Qf : ρ → State → Prop}
variable {cc : ByteArray} {pc nL L M q0 : Nat} {ls : Array Slot} {rest : List Value}
variable {D : va_G} {ct : CT} {ck : Nat → UC} {N : Nat} {ad : Nat → Nat} {P : Nat → Nat → Option Nat} {A : Nat → Prop} {S : US} {w : Int64} {G0 G : GS}
theorem kzJ14_A_init {p1 : Int32} (E : ME p m c cc nL s args RJ14 D clW ct) (hZ : YC ct R s A G0) (hY : YW D clW ck ct N ad P A S w G0 G H) (hS : va_S A s.heap H locs) (hR : 1 + 1 ≤ R.frames ∧ 8 + (2 + 11) + 60 ≤ R.locals) (hsize : ls.size = nL) (hW : (rest.map fun v => v.category).sum ≤ 8) (hdg : decode cc pc = .ok (.invokespecial 1, 3)) {kp : GS → Option ρ} (kk : ∀ (o : GS) (H1 : Heap) (locs1 : List Loc), YW D clW ck ct N ad P A S w G0 o H1 → va_S A s.heap H1 locs1 → X p l e R s m args below meth c H1 locs1 (o.2.1 - G0.2.1) (o.2.2 - G0.2.2) Qf (kp o) (F0 m (pc + 3) ls (rest))) : X p l e R s m args below meth c H locs (G.2.1 - G0.2.1) (G.2.2 - G0.2.2) Qf (callK (sA_init ct G q0 p1) kp) (F0 m pc ls (.int p1 :: .ref q0 :: rest)) := gy_mx (val' := fun (o : GS) => none) (len := 3) (So := fun (o : GS) => S) (Po := fun (o : GS) => P) (Gn := fun (o : GS) => o) hZ hY hS (fun o ho => rqI (As := [.int p1]) E hY.1.any (by rw [hY.1.2.1]; exact mYA_init l D ct ck N ad P S w G q0 p1 o ho) ⟨callB_of 1 E.1.2.2.2.2 (lw_meth q1007) rfl rfl rfl (E.1.2.2.2.2 _ q132) (E.1.2.2.2.2 _ q1005) (by decide +kernel) hR, rfl, E.1.2.2.2.2 _ q1006⟩ rfl hsize rfl hW hdg (hY.room hZ)) kk
end KZ

set_option maxHeartbeats 4000000 in
theorem mYB_init (l : Launch) (D : va_G) (ct : CT) (ck : Nat → UC) (N : Nat) (ad : Nat → Nat) (P : Nat → Nat → Option Nat) (S : US) (w : Int64) (G0 : GS) (q0 : Nat) (o : GS) (ho : sB_init ct G0 q0 = some o) : Met l yJ14_init (ws_ yJ14_init cJ14_init 1 none) { frames := 2, cells := nmax ct - G0.2.1, slots := zmax ct - G0.2.2, locals := 81 } (mP D clW ct [.ref q0] G0.2.1 (MW D clW ck ct N ad P (fun _ => True) S w G0)) (yC (none) (MW D clW ck ct N ad P (mA N ad G0) S w o) G0 o (mA N ad G0)) (nmax ct - G0.2.1) (zmax ct - G0.2.2) (mA N ad G0) := by
  refine Y.start (val := fun (o : GS) => none) (Bt := fun (o : GS) => MW D clW ck ct N ad P (mA N ad G0) S w o) (Go := fun (o : GS) => o) ho (by decide) (Nat.le_of_ble_eq_true rfl) (lv := [(0, .ref q0)]) rfl ?_
  intro p e s m args below meth c E hr hlk hnm hZ hU hS ls hl
  obtain ⟨⟨hx, hb, hml, hown, hts⟩, hK, hJ⟩ := id E
  unfold sB_init
  refine x_aload_n hx hb dJ14_init_0 rfl (lv_at hl 0 rfl) ?_
  refine x_bipush (v := 16) hx hb dJ14_init_1 (by decide) ?_
  refine kzJ14_A_init E hZ hU hS ⟨Nat.le_of_ble_eq_true rfl, Nat.le_of_ble_eq_true rfl⟩ hl.1 (Nat.le_of_ble_eq_true rfl) dJ14_init_3 (fun o1 H locs hU hS => ?_)
  exact y_vret hx hb hr hlk hZ hU hS rfl rfl hU.1 dJ14_init_6
section KZ
variable {ρ : Type} {p : Program} {l : Launch} {e : Env} {R : Room} {s : State} {m : MethodId} {args : Array Value} {below : List Frame} {meth : Method} {c : Code} {H : Heap} {locs : List Loc} {Qf : ρ → State → Prop}
variable {cc : ByteArray} {pc nL L M q0 : Nat} {ls : Array Slot} {rest : List Value}
variable {D : va_G} {ct : CT} {ck : Nat → UC} {N : Nat} {ad : Nat → Nat} {P : Nat → Nat → Option Nat} {A : Nat → Prop} {S : US} {w : Int64} {G0 G : GS}
theorem kzX7_B_init (E : ME p m c cc nL s args RX7 D clW ct) (hZ : YC ct R s A G0) (hY : YW D clW ck ct N ad P A S w G0 G H) (hS : va_S A s.heap H locs) (hR : 2 + 1 ≤ R.frames ∧ 8 + (1 + 11) + 81 ≤ R.locals) (hsize : ls.size = nL) (hW : (rest.map fun v => v.category).sum ≤ 8) (hdg : decode cc pc = .ok (.invokespecial 18, 3)) {kp : GS → Option ρ} (kk : ∀ (o : GS) (H1 : Heap) (locs1 : List Loc), YW D clW ck ct N ad P A S w G0 o H1 → va_S A s.heap H1 locs1 → X p l e R s m args below meth c H1 locs1 (o.2.1 - G0.2.1) (o.2.2 - G0.2.2) Qf (kp o) (F0 m (pc + 3) ls (rest))) : X p l e R s m args below meth c H locs (G.2.1 - G0.2.1) (G.2.2 - G0.2.2) Qf (callK (sB_init ct G q0) kp) (F0 m pc ls (.ref q0 :: rest)) := gy_mx (val' := fun (o : GS) => none) (len := 3) (So := fun (o : GS) => S) (Po := fun (o : GS) => P) (Gn := fun (o : GS) => o) hZ hY hS (fun o ho => rqI (As := []) E hY.1.any (by rw [hY.1.2.1]; exact mYB_init l D ct ck N ad P S w G q0 o ho) ⟨callB_of 0 E.1.2.2.2.2 (lw_meth q1004) rfl rfl rfl (E.1.2.2.2.2 _ q133) (E.1.2.2.2.2 _ q1292) (by decide +kernel) hR, rfl, E.1.2.2.2.2 _ q1003⟩ rfl hsize rfl hW hdg (hY.room hZ)) kk
theorem kzX5_B_init (E : ME p m c cc nL s args RX5 D clW ct) (hZ : YC ct R s A G0) (hY : YW D clW ck ct N ad P A S w G0 G H) (hS : va_S A s.heap H locs) (hR : 2 + 1 ≤ R.frames ∧ 8 + (1 + 11) + 81 ≤ R.locals) (hsize : ls.size = nL) (hW : (rest.map fun v => v.category).sum ≤ 8) (hdg : decode cc pc = .ok (.invokespecial 233, 3)) {kp : GS → Option ρ} (kk : ∀ (o : GS) (H1 : Heap) (locs1 : List Loc), YW D clW ck ct N ad P A S w G0 o H1 → va_S A s.heap H1 locs1 → X p l e R s m args below meth c H1 locs1 (o.2.1 - G0.2.1) (o.2.2 - G0.2.2) Qf (kp o) (F0 m (pc + 3) ls (rest))) : X p l e R s m args below meth c H locs (G.2.1 - G0.2.1) (G.2.2 - G0.2.2) Qf (callK (sB_init ct G q0) kp) (F0 m pc ls (.ref q0 :: rest)) := gy_mx (val' := fun (o : GS) => none) (len := 3) (So := fun (o : GS) => S) (Po := fun (o : GS) => P) (Gn := fun (o : GS) => o) hZ hY hS (fun o ho => rqI (As := []) E hY.1.any (by rw [hY.1.2.1]; exact mYB_init l D ct ck N ad P S w G q0 o ho) ⟨callB_of 0 E.1.2.2.2.2 (lw_meth q1004) rfl rfl rfl (E.1.2.2.2.2 _ q133) (E.1.2.2.2.2 _ q1002) (by decide +kernel) hR, rfl, E.1.2.2.2.2 _ q1003⟩ rfl hsize rfl hW hdg (hY.room hZ)) kk
theorem kzJ16_B_init (E : ME p m c cc nL s args RJ16 D clW ct) (hZ : YC ct R s A G0) (hY : YW D clW ck ct N ad P A S w G0 G H) (hS : va_S A s.heap H locs) (hR : 2 + 1 ≤ R.frames ∧ 8 + (1 + 11) + 81 ≤ R.locals) (hsize : ls.size = nL) (hW : (rest.map fun v => v.category).sum ≤ 8) (hdg : decode cc pc = .ok (.invokespecial 47, 3)) {kp : GS → Option ρ} (kk : ∀ (o : GS) (H1 : Heap) (locs1 : List Loc), YW D clW ck ct N ad P A S w G0 o H1 → va_S A s.heap H1 locs1 → X p l e R s m args below meth c H1 locs1 (o.2.1 - G0.2.1) (o.2.2 - G0.2.2) Qf (kp o) (F0 m (pc + 3) ls (rest))) : X p l e R s m args below meth c H locs (G.2.1 - G0.2.1) (G.2.2 - G0.2.2) Qf (callK (sB_init ct G q0) kp) (F0 m pc ls (.ref q0 :: rest)) := gy_mx (val' := fun (o : GS) => none) (len := 3) (So := fun (o : GS) => S) (Po := fun (o : GS) => P) (Gn := fun (o : GS) => o) hZ hY hS (fun o ho => rqI (As := []) E hY.1.any (by rw [hY.1.2.1]; exact mYB_init l D ct ck N ad P S w G q0 o ho) ⟨callB_of 0 E.1.2.2.2.2 (lw_meth q1004) rfl rfl rfl (E.1.2.2.2.2 _ q133) (E.1.2.2.2.2 _ q1127) (by decide +kernel) hR, rfl, E.1.2.2.2.2 _ q1003⟩ rfl hsize rfl hW hdg (hY.room hZ)) kk
end KZ

set_option maxHeartbeats 4000000 in
theorem mYA_append (l : Launch) (D : va_G) (ct : CT) (ck : Nat → UC) (N : Nat) (ad : Nat → Nat) (P : Nat → Nat → Option Nat) (S : US) (w : Int64) (G0 : GS) (q0 : Nat) (p1 : Int32) (o : ((Option Nat) × GS)) (ho : sA_append ct G0 q0 p1 = some o) : Met l yJ13_append (ws_ yJ13_append cJ13_append 2 (some (.object "java/lang/AbstractStringBuilder"))) { frames := 4, cells := nmax ct - G0.2.1, slots := zmax ct - G0.2.2, locals := 110 } (mP D clW ct [.ref q0, .int p1] G0.2.1 (MW D clW ck ct N ad P (fun _ => True) S w G0)) (yC (some (va_rf o.1)) (MW D clW ck ct N ad P (mA N ad G0) S w o.2) G0 o.2 (mA N ad G0)) (nmax ct - G0.2.1) (zmax ct - G0.2.2) (mA N ad G0) := by
  refine Y.start (val := fun (o : ((Option Nat) × GS)) => some (va_rf o.1)) (Bt := fun (o : ((Option Nat) × GS)) => MW D clW ck ct N ad P (mA N ad G0) S w o.2) (Go := fun (o : ((Option Nat) × GS)) => o.2) ho (by decide) (Nat.le_of_ble_eq_true rfl) (lv := [(0, .ref q0), (1, .int p1)]) rfl ?_
  intro p e s m args below meth c E hr hlk hnm hZ hU hS ls hl
  obtain ⟨⟨hx, hb, hml, hown, hts⟩, hK, hJ⟩ := id E
  replace hr : meth.sig.returnType = some (FieldType.object "java/lang/AbstractStringBuilder") ∧ ((∃ n, (FieldType.object "java/lang/AbstractStringBuilder") = .object n) ∨ ∃ t, (FieldType.object "java/lang/AbstractStringBuilder") = .array t) := ⟨hr, Or.inl ⟨_, rfl⟩⟩
  unfold sA_append
  refine x_aload_n hx hb dJ13_append_0 rfl (lv_at hl 0 rfl) ?_
  refine x_aload_n hx hb dJ13_append_1 rfl (lv_at hl 0 rfl) ?_
  refine fx_getI E hU.1.1.2.1 (ci := 11) rfl in_J14 3 (by decide) (hts _ q1020) (fun _ h => h) dJ13_append_2 (fun v1 => ?_)
  refine x_iconst (v := 1) hx hb dJ13_append_5 (by decide) ?_
  refine x_iadd hx hb dJ13_append_6 ?_
  refine kzJ13_A_ensureCapacityInternal E hZ hU hS ⟨Nat.le_of_ble_eq_true rfl, Nat.le_of_ble_eq_true rfl⟩ hl.1 (Nat.le_of_ble_eq_true rfl) dJ13_append_7 (fun o2 H locs hU hS => ?_)
  refine x_aload_n hx hb dJ13_append_10 rfl (lv_at hl 0 rfl) ?_
  refine kzJ13_A_isLatin1 E hZ hU hS ⟨Nat.le_of_ble_eq_true rfl, Nat.le_of_ble_eq_true rfl⟩ hl.1 (Nat.le_of_ble_eq_true rfl) dJ13_append_11 (fun o3 H locs hU hS => ?_)
  refine X.join2Y (fun (x : Unit) g H locs => YW D clW ck ct N ad P (mA N ad G0) S w G0 o2 H ∧ va_S (mA N ad G0) s.heap H locs ∧ ∃ ls : Array Slot, g = F0 m 45 ls [] ∧ lv_has ls 2 [(0, .ref q0), (1, .int p1)]) (fun (x : Unit) => o2.2.1 - G0.2.1) (fun (x : Unit) => o2.2.2 - G0.2.2) ?_ (fun j4 hj4 => ?_)
  · rintro _ _ H locs ⟨hU, hS, ls, rfl, hl⟩
    refine X.cs (cells2 := o2.2.1 - G0.2.1) (slots2 := o2.2.2 - G0.2.2) rfl rfl ?_
    refine X.eqs (sp2 := sA_append_J45 q0 o2) rfl ?_
    unfold sA_append_J45
    refine x_aload_n hx hb dJ13_append_45 rfl (lv_at hl 0 rfl) ?_
    refine kzJ13_A_isLatin1 E hZ hU hS ⟨Nat.le_of_ble_eq_true rfl, Nat.le_of_ble_eq_true rfl⟩ hl.1 (Nat.le_of_ble_eq_true rfl) dJ13_append_46 (fun o11 H locs hU hS => ?_)
    refine X.join2Y (fun (x : Unit) g H locs => YW D clW ck ct N ad P (mA N ad G0) S w G0 o2 H ∧ va_S (mA N ad G0) s.heap H locs ∧ ∃ ls : Array Slot, g = F0 m 56 ls [] ∧ lv_has ls 2 [(0, .ref q0), (1, .int p1)]) (fun (x : Unit) => o2.2.1 - G0.2.1) (fun (x : Unit) => o2.2.2 - G0.2.2) ?_ (fun j12 hj12 => ?_)
    · rintro _ _ H locs ⟨hU, hS, ls, rfl, hl⟩
      refine X.cs (cells2 := o2.2.1 - G0.2.1) (slots2 := o2.2.2 - G0.2.2) rfl rfl ?_
      refine X.eqs (sp2 := sA_append_J56 q0 o2) rfl ?_
      unfold sA_append_J56
      refine x_aload_n hx hb dJ13_append_56 rfl (lv_at hl 0 rfl) ?_
      refine fx_getR E hU.1.1.2.1 (ci := 11) rfl in_J14 0 (by decide) (hts _ q1017) (fun _ h => h) dJ13_append_57 (fun r13 => ?_)
      refine x_aload_n hx hb dJ13_append_60 rfl (lv_at hl 0 rfl) ?_
      refine x_dup hx hb dJ13_append_61 rfl ?_
      refine fx_getI E hU.1.1.2.1 (ci := 11) rfl in_J14 3 (by decide) (hts _ q1020) (fun _ h => h) dJ13_append_62 (fun v14 => ?_)
      refine x_dup_x1 hx hb dJ13_append_65 rfl rfl ?_
      refine x_iconst (v := 1) hx hb dJ13_append_66 (by decide) ?_
      refine x_iadd hx hb dJ13_append_67 ?_
      refine gy_put (v := .int (v14 + (1 : Int32))) (ty0 := tyJ14) E hU hS (ci := 11) rfl in_J14 tyJ14_ok nmJ14 3 (by decide) (hts _ q1020) (fun _ h => h) (Or.inl rfl) rfl rfl dJ13_append_68 (fun G15 H locs hU hS => ?_)
      refine x_iload_n hx hb dJ13_append_71 rfl (lv_at hl 1 rfl) ?_
      exact X.none
    · refine x_if_eq (tgt := 56) hx hb dJ13_append_49 (by decide) (fun hc => ?_) (fun hc => ?_)
      · exact hj12 () _ _ _ ⟨hU, hS, _, rfl, lv_sub hl [0, 1] rfl⟩
      · refine x_aload_n hx hb dJ13_append_52 rfl (lv_at hl 0 rfl) ?_
        exact X.none
  · refine x_if_eq (tgt := 45) hx hb dJ13_append_14 (by decide) (fun hc => ?_) (fun hc => ?_)
    · exact hj4 () _ _ _ ⟨hU, hS, _, rfl, lv_sub hl [0, 1] rfl⟩
    · refine x_iload_n hx hb dJ13_append_17 rfl (lv_at hl 1 rfl) ?_
      refine kzJ13_T_canEncode_2 E hZ hU hS ⟨Nat.le_of_ble_eq_true rfl, Nat.le_of_ble_eq_true rfl⟩ hl.1 (Nat.le_of_ble_eq_true rfl) dJ13_append_18 (fun o5 H locs hU hS => ?_)
      refine x_if_eq (tgt := 45) hx hb dJ13_append_21 (by decide) (fun hc => ?_) (fun hc => ?_)
      · exact hj4 () _ _ _ ⟨hU, hS, _, rfl, lv_sub hl [0, 1] rfl⟩
      · refine x_aload_n hx hb dJ13_append_24 rfl (lv_at hl 0 rfl) ?_
        refine fx_getR E hU.1.1.2.1 (ci := 11) rfl in_J14 0 (by decide) (hts _ q1017) (fun _ h => h) dJ13_append_25 (fun r6 => ?_)
        refine x_aload_n hx hb dJ13_append_28 rfl (lv_at hl 0 rfl) ?_
        refine x_dup hx hb dJ13_append_29 rfl ?_
        refine fx_getI E hU.1.1.2.1 (ci := 11) rfl in_J14 3 (by decide) (hts _ q1020) (fun _ h => h) dJ13_append_30 (fun v7 => ?_)
        refine x_dup_x1 hx hb dJ13_append_33 rfl rfl ?_
        refine x_iconst (v := 1) hx hb dJ13_append_34 (by decide) ?_
        refine x_iadd hx hb dJ13_append_35 ?_
        refine gy_put (v := .int (v7 + (1 : Int32))) (ty0 := tyJ14) E hU hS (ci := 11) rfl in_J14 tyJ14_ok nmJ14 3 (by decide) (hts _ q1020) (fun _ h => h) (Or.inl rfl) rfl rfl dJ13_append_36 (fun G8 H locs hU hS => ?_)
        refine x_iload_n hx hb dJ13_append_39 rfl (lv_at hl 1 rfl) ?_
        refine x_i2b hx hb dJ13_append_40 rfl ?_
        refine X.onR (fun b9 hb_ => ?_)
        subst hb_
        refine gy_bast E hU hS dJ13_append_41 (fun G10 H locs hU hS => ?_)
        refine x_goto (tgt := 75) hx hb dJ13_append_42 (by decide) ?_
        refine x_aload_n hx hb dJ13_append_75 rfl (lv_at hl 0 rfl) ?_
        exact y_aret (r := (some q0)) hx hb hr hlk hZ hU hS rfl rfl hU.1 dJ13_append_76
section KZ
variable {ρ : Type} {p : Program} {l : Launch} {e : Env} {R : Room} {s : State} {m : MethodId} {args : Array Value} {below : List Frame} {meth : Method} {c : Code} {H : Heap} {locs : List Loc} {Qf : ρ → State → Prop}
variable {cc : ByteArray} {pc nL L M q0 : Nat} {ls : Array Slot} {rest : List Value}
variable {D : va_G} {ct : CT} {ck : Nat → UC} {N : Nat} {ad : Nat → Nat} {P : Nat → Nat → Option Nat} {A : Nat → Prop} {S : US} {w : Int64} {G0 G : GS}
theorem kzJ14_A_append {p1 : Int32} (E : ME p m c cc nL s args RJ14 D clW ct) (hZ : YC ct R s A G0) (hY : YW D clW ck ct N ad P A S w G0 G H) (hS : va_S A s.heap H locs) (hR : 4 + 1 ≤ R.frames ∧ 8 + (2 + 11) + 110 ≤ R.locals) (hsize : ls.size = nL) (hW : (rest.map fun v => v.category).sum ≤ 8) (hdg : decode cc pc = .ok (.invokespecial 50, 3)) {kp : ((Option Nat) × GS) → Option ρ} (kk : ∀ (o : ((Option Nat) × GS)) (H1 : Heap) (locs1 : List Loc), YW D clW ck ct N ad P A S w G0 o.2 H1 → va_S A s.heap H1 locs1 → X p l e R s m args below meth c H1 locs1 (o.2.2.1 - G0.2.1) (o.2.2.2 - G0.2.2) Qf (kp o) (F0 m (pc + 3) ls (va_rf o.1 :: rest))) : X p l e R s m args below meth c H locs (G.2.1 - G0.2.1) (G.2.2 - G0.2.2) Qf (hC G.1 q0 11 (callK (sA_append ct G q0 p1) kp)) (F0 m pc ls (.int p1 :: .ref q0 :: rest)) := X.hC fun fs bw hq => gy_mx (val' := fun (o : ((Option Nat) × GS)) => some (va_rf o.1)) (len := 3) (So := fun (o : ((Option Nat) × GS)) => S) (Po := fun (o : ((Option Nat) × GS)) => P) (Gn := fun (o : ((Option Nat) × GS)) => o.2) hZ hY hS (fun o ho => rqSU (As := [.int p1]) (C := "java/lang/StringBuilder") E hY.1.any (E.2.1.1 11 _ rfl).2 (recvA E.2.1 hY.1.1.2.1 hq rfl) (by rw [hY.1.2.1]; exact mYA_append l D ct ck N ad P S w G q0 p1 o ho) (va_cwSU 1 E.1.2.2.2.2 (lw_SU q1033 q2502 q549 q1034 q132 q1035) rfl rfl rfl (by decide +kernel) hR) rfl hsize rfl hW hdg (hY.room hZ)) kk
end KZ

set_option maxHeartbeats 4000000 in
theorem mYB_append (l : Launch) (D : va_G) (ct : CT) (ck : Nat → UC) (N : Nat) (ad : Nat → Nat) (P : Nat → Nat → Option Nat) (S : US) (w : Int64) (G0 : GS) (q0 : Nat) (p1 : Int32) (o : ((Option Nat) × GS)) (ho : sB_append ct G0 q0 p1 = some o) : Met l yJ14_append (ws_ yJ14_append cJ14_append 2 (some (.object "java/lang/StringBuilder"))) { frames := 5, cells := nmax ct - G0.2.1, slots := zmax ct - G0.2.2, locals := 131 } (mP D clW ct [.ref q0, .int p1] G0.2.1 (MW D clW ck ct N ad P (fun _ => True) S w G0)) (yC (some (va_rf o.1)) (MW D clW ck ct N ad P (mA N ad G0) S w o.2) G0 o.2 (mA N ad G0)) (nmax ct - G0.2.1) (zmax ct - G0.2.2) (mA N ad G0) := by
  refine Y.start (val := fun (o : ((Option Nat) × GS)) => some (va_rf o.1)) (Bt := fun (o : ((Option Nat) × GS)) => MW D clW ck ct N ad P (mA N ad G0) S w o.2) (Go := fun (o : ((Option Nat) × GS)) => o.2) ho (by decide) (Nat.le_of_ble_eq_true rfl) (lv := [(0, .ref q0), (1, .int p1)]) rfl ?_
  intro p e s m args below meth c E hr hlk hnm hZ hU hS ls hl
  obtain ⟨⟨hx, hb, hml, hown, hts⟩, hK, hJ⟩ := id E
  replace hr : meth.sig.returnType = some (FieldType.object "java/lang/StringBuilder") ∧ ((∃ n, (FieldType.object "java/lang/StringBuilder") = .object n) ∨ ∃ t, (FieldType.object "java/lang/StringBuilder") = .array t) := ⟨hr, Or.inl ⟨_, rfl⟩⟩
  unfold sB_append
  refine x_aload_n hx hb dJ14_append_0 rfl (lv_at hl 0 rfl) ?_
  refine x_iload_n hx hb dJ14_append_1 rfl (lv_at hl 1 rfl) ?_
  refine kzJ14_A_append E hZ hU hS ⟨Nat.le_of_ble_eq_true rfl, Nat.le_of_ble_eq_true rfl⟩ hl.1 (Nat.le_of_ble_eq_true rfl) dJ14_append_2 (fun o1 H locs hU hS => ?_)
  refine x_pop hx hb dJ14_append_5 (by rcases o1.1 with _ | _ <;> rfl) ?_
  refine x_aload_n hx hb dJ14_append_6 rfl (lv_at hl 0 rfl) ?_
  exact y_aret (r := (some q0)) hx hb hr hlk hZ hU hS rfl rfl hU.1 dJ14_append_7
section KZ
variable {ρ : Type} {p : Program} {l : Launch} {e : Env} {R : Room} {s : State} {m : MethodId} {args : Array Value} {below : List Frame} {meth : Method} {c : Code} {H : Heap} {locs : List Loc} {Qf : ρ → State → Prop}
variable {cc : ByteArray} {pc nL L M q0 : Nat} {ls : Array Slot} {rest : List Value}
variable {D : va_G} {ct : CT} {ck : Nat → UC} {N : Nat} {ad : Nat → Nat} {P : Nat → Nat → Option Nat} {A : Nat → Prop} {S : US} {w : Int64} {G0 G : GS}
theorem kzX7_B_append {p1 : Int32} (E : ME p m c cc nL s args RX7 D clW ct) (hZ : YC ct R s A G0) (hY : YW D clW ck ct N ad P A S w G0 G H) (hS : va_S A s.heap H locs) (hR : 5 + 1 ≤ R.frames ∧ 8 + (2 + 11) + 131 ≤ R.locals) (hsize : ls.size = nL) (hW : (rest.map fun v => v.category).sum ≤ 8) (hdg : decode cc pc = .ok (.invokevirtual 29, 3)) {kp : ((Option Nat) × GS) → Option ρ} (kk : ∀ (o : ((Option Nat) × GS)) (H1 : Heap) (locs1 : List Loc), YW D clW ck ct N ad P A S w G0 o.2 H1 → va_S A s.heap H1 locs1 → X p l e R s m args below meth c H1 locs1 (o.2.2.1 - G0.2.1) (o.2.2.2 - G0.2.2) Qf (kp o) (F0 m (pc + 3) ls (va_rf o.1 :: rest))) : X p l e R s m args below meth c H locs (G.2.1 - G0.2.1) (G.2.2 - G0.2.2) Qf (hC G.1 q0 11 (callK (sB_append ct G q0 p1) kp)) (F0 m pc ls (.int p1 :: .ref q0 :: rest)) := X.hC fun fs bw hq => gy_mx (val' := fun (o : ((Option Nat) × GS)) => some (va_rf o.1)) (len := 3) (So := fun (o : ((Option Nat) × GS)) => S) (Po := fun (o : ((Option Nat) × GS)) => P) (Gn := fun (o : ((Option Nat) × GS)) => o.2) hZ hY hS (fun o ho => rqV (As := [.int p1]) E hY.1.any (recvA E.2.1 hY.1.1.2.1 hq rfl) (by rw [hY.1.2.1]; exact mYB_append l D ct ck N ad P S w G q0 p1 o ho) (cwV 1 E.1.2.2.2.2 (lw_V q1310 q1030 q1031 q133 q1032) rfl rfl rfl (by decide +kernel) hR) rfl hsize rfl hW hdg (hY.room hZ)) kk
theorem kzX5_B_append {p1 : Int32} (E : ME p m c cc nL s args RX5 D clW ct) (hZ : YC ct R s A G0) (hY : YW D clW ck ct N ad P A S w G0 G H) (hS : va_S A s.heap H locs) (hR : 5 + 1 ≤ R.frames ∧ 8 + (2 + 11) + 131 ≤ R.locals) (hsize : ls.size = nL) (hW : (rest.map fun v => v.category).sum ≤ 8) (hdg : decode cc pc = .ok (.invokevirtual 234, 3)) {kp : ((Option Nat) × GS) → Option ρ} (kk : ∀ (o : ((Option Nat) × GS)) (H1 : Heap) (locs1 : List Loc), YW D clW ck ct N ad P A S w G0 o.2 H1 → va_S A s.heap H1 locs1 → X p l e R s m args below meth c H1 locs1 (o.2.2.1 - G0.2.1) (o.2.2.2 - G0.2.2) Qf (kp o) (F0 m (pc + 3) ls (va_rf o.1 :: rest))) : X p l e R s m args below meth c H locs (G.2.1 - G0.2.1) (G.2.2 - G0.2.2) Qf (hC G.1 q0 11 (callK (sB_append ct G q0 p1) kp)) (F0 m pc ls (.int p1 :: .ref q0 :: rest)) := X.hC fun fs bw hq => gy_mx (val' := fun (o : ((Option Nat) × GS)) => some (va_rf o.1)) (len := 3) (So := fun (o : ((Option Nat) × GS)) => S) (Po := fun (o : ((Option Nat) × GS)) => P) (Gn := fun (o : ((Option Nat) × GS)) => o.2) hZ hY hS (fun o ho => rqV (As := [.int p1]) E hY.1.any (recvA E.2.1 hY.1.1.2.1 hq rfl) (by rw [hY.1.2.1]; exact mYB_append l D ct ck N ad P S w G q0 p1 o ho) (cwV 1 E.1.2.2.2.2 (lw_V q1029 q1030 q1031 q133 q1032) rfl rfl rfl (by decide +kernel) hR) rfl hsize rfl hW hdg (hY.room hZ)) kk
end KZ

set_option maxHeartbeats 4000000 in
theorem mYB_length (l : Launch) (D : va_G) (ct : CT) (ck : Nat → UC) (N : Nat) (ad : Nat → Nat) (P : Nat → Nat → Option Nat) (S : US) (w : Int64) (G0 : GS) (q0 : Nat) (o : (Int32 × GS)) (ho : sB_length ct G0 q0 = some o) : Met l yJ14_length (ws_ yJ14_length cJ14_length 1 (some .int)) { frames := 2, cells := nmax ct - G0.2.1, slots := zmax ct - G0.2.2, locals := 60 } (mP D clW ct [.ref q0] G0.2.1 (MW D clW ck ct N ad P (fun _ => True) S w G0)) (yC (some (.int o.1)) (MW D clW ck ct N ad P (mA N ad G0) S w o.2) G0 o.2 (mA N ad G0)) (nmax ct - G0.2.1) (zmax ct - G0.2.2) (mA N ad G0) := by
  refine Y.start (val := fun (o : (Int32 × GS)) => some (.int o.1)) (Bt := fun (o : (Int32 × GS)) => MW D clW ck ct N ad P (mA N ad G0) S w o.2) (Go := fun (o : (Int32 × GS)) => o.2) ho (by decide) (Nat.le_of_ble_eq_true rfl) (lv := [(0, .ref q0)]) rfl ?_
  intro p e s m args below meth c E hr hlk hnm hZ hU hS ls hl
  obtain ⟨⟨hx, hb, hml, hown, hts⟩, hK, hJ⟩ := id E
  unfold sB_length
  refine x_aload_n hx hb dJ14_length_0 rfl (lv_at hl 0 rfl) ?_
  refine kzJ14_A_length E hZ hU hS ⟨Nat.le_of_ble_eq_true rfl, Nat.le_of_ble_eq_true rfl⟩ hl.1 (Nat.le_of_ble_eq_true rfl) dJ14_length_1 (fun o1 H locs hU hS => ?_)
  exact y_iret hx hb hr hlk hZ hU hS rfl rfl hU.1 dJ14_length_4
section KZ
variable {ρ : Type} {p : Program} {l : Launch} {e : Env} {R : Room} {s : State} {m : MethodId} {args : Array Value} {below : List Frame} {meth : Method} {c : Code} {H : Heap} {locs : List Loc} {Qf : ρ → State → Prop}
variable {cc : ByteArray} {pc nL L M q0 : Nat} {ls : Array Slot} {rest : List Value}
variable {D : va_G} {ct : CT} {ck : Nat → UC} {N : Nat} {ad : Nat → Nat} {P : Nat → Nat → Option Nat} {A : Nat → Prop} {S : US} {w : Int64} {G0 G : GS}
theorem kzJ8_B_length (E : ME p m c cc nL s args RJ8 D clW ct) (hZ : YC ct R s A G0) (hY : YW D clW ck ct N ad P A S w G0 G H) (hS : va_S A s.heap H locs) (hR : 2 + 1 ≤ R.frames ∧ 8 + (1 + 11) + 60 ≤ R.locals) (hsize : ls.size = nL) (hW : (rest.map fun v => v.category).sum ≤ 8) (hdg : decode cc pc = .ok (.invokevirtual 549, 3)) {kp : (Int32 × GS) → Option ρ} (kk : ∀ (o : (Int32 × GS)) (H1 : Heap) (locs1 : List Loc), YW D clW ck ct N ad P A S w G0 o.2 H1 → va_S A s.heap H1 locs1 → X p l e R s m args below meth c H1 locs1 (o.2.2.1 - G0.2.1) (o.2.2.2 - G0.2.2) Qf (kp o) (F0 m (pc + 3) ls (.int o.1 :: rest))) : X p l e R s m args below meth c H locs (G.2.1 - G0.2.1) (G.2.2 - G0.2.2) Qf (hC G.1 q0 11 (callK (sB_length ct G q0) kp)) (F0 m pc ls (.ref q0 :: rest)) := X.hC fun fs bw hq => gy_mx (val' := fun (o : (Int32 × GS)) => some (.int o.1)) (len := 3) (So := fun (o : (Int32 × GS)) => S) (Po := fun (o : (Int32 × GS)) => P) (Gn := fun (o : (Int32 × GS)) => o.2) hZ hY hS (fun o ho => rqU (As := []) E hY.1.any (recvA E.2.1 hY.1.1.2.1 hq rfl) (by rw [hY.1.2.1]; exact mYB_length l D ct ck N ad P S w G q0 o ho) (va_cwO 0 E.1.2.2.2.2 (lw_O q1107 q1109 q1108 q1110 q1111 q133 q1112) rfl rfl rfl q1114 (by decide +kernel) hR) rfl hsize rfl hW hdg (hY.room hZ)) kk
end KZ

set_option maxHeartbeats 4000000 in
theorem mYY_checkLength (l : Launch) (D : va_G) (ct : CT) (ck : Nat → UC) (N : Nat) (ad : Nat → Nat) (P : Nat → Nat → Option Nat) (S : US) (w : Int64) (G0 : GS) (p1 : Int32) (p2 : Int32) (o : GS) (ho : sY_checkLength ct G0 p1 p2 = some o) : Met l yJ16_checkLength (ws_ yJ16_checkLength cJ16_checkLength 2 none) { frames := 3, cells := nmax ct - G0.2.1, slots := zmax ct - G0.2.2, locals := 101 } (mP D clW ct [.int p1, .int p2] G0.2.1 (MW D clW ck ct N ad P (fun _ => True) S w G0)) (yC (none) (MW D clW ck ct N ad P (mA N ad G0) S w o) G0 o (mA N ad G0)) (nmax ct - G0.2.1) (zmax ct - G0.2.2) (mA N ad G0) := by
  refine Y.start (val := fun (o : GS) => none) (Bt := fun (o : GS) => MW D clW ck ct N ad P (mA N ad G0) S w o) (Go := fun (o : GS) => o) ho (by decide) (Nat.le_of_ble_eq_true rfl) (lv := [(0, .int p1), (1, .int p2)]) rfl ?_
  intro p e s m args below meth c E hr hlk hnm hZ hU hS ls hl
  obtain ⟨⟨hx, hb, hml, hown, hts⟩, hK, hJ⟩ := id E
  unfold sY_checkLength
  refine x_iload_n hx hb dJ16_checkLength_0 rfl (lv_at hl 1 rfl) ?_
  refine x_iload_n hx hb dJ16_checkLength_1 rfl (lv_at hl 0 rfl) ?_
  refine x_icmp_ge (tgt := 37) hx hb dJ16_checkLength_2 (by decide) (fun hc => ?_) (fun hc => ?_)
  · exact y_vret hx hb hr hlk hZ hU hS rfl rfl hU.1 dJ16_checkLength_37
  · exact X.none
section KZ
variable {ρ : Type} {p : Program} {l : Launch} {e : Env} {R : Room} {s : State} {m : MethodId} {args : Array Value} {below : List Frame} {meth : Method} {c : Code} {H : Heap} {locs : List Loc} {Qf : ρ → State → Prop}
variable {cc : ByteArray} {pc nL L M q0 : Nat} {ls : Array Slot} {rest : List Value}
variable {D : va_G} {ct : CT} {ck : Nat → UC} {N : Nat} {ad : Nat → Nat} {P : Nat → Nat → Option Nat} {A : Nat → Prop} {S : US} {w : Int64} {G0 G : GS}
theorem kzJ16_Y_checkLength {p1 : Int32} {p2 : Int32} (E : ME p m c cc nL s args RJ16 D clW ct) (hZ : YC ct R s A G0) (hY : YW D clW ck ct N ad P A S w G0 G H) (hS : va_S A s.heap H locs) (hR : 3 + 1 ≤ R.frames ∧ 8 + (2 + 11) + 101 ≤ R.locals) (hsize : ls.size = nL) (hW : (rest.map fun v => v.category).sum ≤ 8) (hdg : decode cc pc = .ok (.invokestatic 343, 3)) {kp : GS → Option ρ} (kk : ∀ (o : GS) (H1 : Heap) (locs1 : List Loc), YW D clW ck ct N ad P A S w G0 o H1 → va_S A s.heap H1 locs1 → X p l e R s m args below meth c H1 locs1 (o.2.1 - G0.2.1) (o.2.2 - G0.2.2) Qf (kp o) (F0 m (pc + 3) ls (rest))) : X p l e R s m args below meth c H locs (G.2.1 - G0.2.1) (G.2.2 - G0.2.2) Qf (callK (sY_checkLength ct G p1 p2) kp) (F0 m pc ls (.int p2 :: .int p1 :: rest)) := gy_mx (val' := fun (o : GS) => none) (len := 3) (So := fun (o : GS) => S) (Po := fun (o : GS) => P) (Gn := fun (o : GS) => o) hZ hY hS (fun o ho => rqS (As := [.int p1, .int p2]) E hY.1.any (by rw [hY.1.2.1]; exact mYY_checkLength l D ct ck N ad P S w G p1 p2 o ho) (va_cwS 2 E.1.2.2.2.2 (lw_S q1122 q1123 q135 q1124) rfl rfl rfl (by decide +kernel) hR) rfl hsize rfl hW hdg (hY.room hZ)) kk
end KZ

set_option maxHeartbeats 4000000 in
theorem mYY_copyOfRangeByte (l : Launch) (D : va_G) (ct : CT) (ck : Nat → UC) (N : Nat) (ad : Nat → Nat) (P : Nat → Nat → Option Nat) (S : US) (w : Int64) (G0 : GS) (p1 : (Option Nat)) (p2 : Int32) (p3 : Int32) (o : ((Option Nat) × GS)) (ho : sY_copyOfRangeByte ct G0 p1 p2 p3 = some o) : Met l yJ16_copyOfRangeByte (ws_ yJ16_copyOfRangeByte cJ16_copyOfRangeByte 5 (some (.array .byte))) { frames := 4, cells := nmax ct - G0.2.1, slots := zmax ct - G0.2.2, locals := 122 } (mP D clW ct [va_rf p1, .int p2, .int p3] G0.2.1 (MW D clW ck ct N ad P (fun _ => True) S w G0)) (yC (some (va_rf o.1)) (MW D clW ck ct N ad P (mA N ad G0) S w o.2) G0 o.2 (mA N ad G0)) (nmax ct - G0.2.1) (zmax ct - G0.2.2) (mA N ad G0) := by
  refine Y.start (val := fun (o : ((Option Nat) × GS)) => some (va_rf o.1)) (Bt := fun (o : ((Option Nat) × GS)) => MW D clW ck ct N ad P (mA N ad G0) S w o.2) (Go := fun (o : ((Option Nat) × GS)) => o.2) ho (by decide) (by rcases p1 with _ | _ <;> exact Nat.le_of_ble_eq_true rfl) (lv := [(0, va_rf p1), (1, .int p2), (2, .int p3)]) (by rcases p1 with _ | _ <;> rfl) ?_
  intro p e s m args below meth c E hr hlk hnm hZ hU hS ls hl
  obtain ⟨⟨hx, hb, hml, hown, hts⟩, hK, hJ⟩ := id E
  replace hr : meth.sig.returnType = some (FieldType.array FieldType.byte) ∧ ((∃ n, (FieldType.array FieldType.byte) = .object n) ∨ ∃ t, (FieldType.array FieldType.byte) = .array t) := ⟨hr, Or.inr ⟨_, rfl⟩⟩
  unfold sY_copyOfRangeByte
  refine x_iload_n hx hb dJ16_copyOfRangeByte_0 rfl (lv_at hl 1 rfl) ?_
  refine x_iload_n hx hb dJ16_copyOfRangeByte_1 rfl (lv_at hl 2 rfl) ?_
  refine kzJ16_Y_checkLength E hZ hU hS ⟨Nat.le_of_ble_eq_true rfl, Nat.le_of_ble_eq_true rfl⟩ hl.1 (Nat.le_of_ble_eq_true rfl) dJ16_copyOfRangeByte_2 (fun o1 H locs hU hS => ?_)
  refine x_iload_n hx hb dJ16_copyOfRangeByte_5 rfl (lv_at hl 2 rfl) ?_
  refine x_iload_n hx hb dJ16_copyOfRangeByte_6 rfl (lv_at hl 1 rfl) ?_
  refine x_isub hx hb dJ16_copyOfRangeByte_7 ?_
  refine x_istore_n (lv' := [(3, .int (p3 - p2)), (0, va_rf p1), (1, .int p2), (2, .int p3)]) hx hb dJ16_copyOfRangeByte_8 rfl hl (by decide) rfl (fun ls hl => ?_)
  refine x_iload_n hx hb dJ16_copyOfRangeByte_9 rfl (lv_at hl 0 rfl) ?_
  refine gy_newa (atype := .byte) (t := 2) (ty := .byte) (x := .inl (fun _ => 0)) E hZ hU hS (hts _ q315) rfl rfl (fun h => h) (fun _ => rfl) (by decide) dJ16_copyOfRangeByte_10 (fun q2 G3 H hU hS => ?_)
  refine x_astore (lv' := [(4, .ref q2), (3, .int (p3 - p2)), (0, va_rf p1), (1, .int p2), (2, .int p3)]) hx hb dJ16_copyOfRangeByte_12 hl (by decide) rfl (fun ls hl => ?_)
  refine x_aload_nO hx hb dJ16_copyOfRangeByte_14 rfl (lv_at hl 2 rfl) ?_
  refine x_iload_n hx hb dJ16_copyOfRangeByte_15 rfl (lv_at hl 3 rfl) ?_
  refine x_aload hx hb dJ16_copyOfRangeByte_16 (lv_at hl 0 rfl) ?_
  refine x_iconst (v := 0) hx hb dJ16_copyOfRangeByte_18 (by decide) ?_
  refine x_aload_nO hx hb dJ16_copyOfRangeByte_19 rfl (lv_at hl 2 rfl) ?_
  refine X.onR (fun b4 hb_ => ?_)
  subst hb_
  refine fx_alen E hU.1.1.2.1 (t := 2) rfl dJ16_copyOfRangeByte_20 (fun v5 => ?_)
  refine x_iload_n hx hb dJ16_copyOfRangeByte_21 rfl (lv_at hl 3 rfl) ?_
  refine x_isub hx hb dJ16_copyOfRangeByte_22 ?_
  refine x_iload_n hx hb dJ16_copyOfRangeByte_23 rfl (lv_at hl 1 rfl) ?_
  refine kJ16_min E ⟨Nat.le_of_ble_eq_true rfl, Nat.le_of_ble_eq_true rfl⟩ hl.1 (Nat.le_of_ble_eq_true rfl) dJ16_copyOfRangeByte_24 (hU.room0 hZ) ?_
  refine gy_copyB E hU hS (hts _ q414) (hts _ q416) (hts _ q415) (hts _ q136) ⟨Nat.le_of_ble_eq_true rfl, Nat.le_of_ble_eq_true rfl⟩ hl.1 (Nat.le_of_ble_eq_true rfl) dJ16_copyOfRangeByte_27 (fun G6 H locs hU hS => ?_)
  refine x_aload hx hb dJ16_copyOfRangeByte_30 (lv_at hl 0 rfl) ?_
  exact y_aret (r := (some q2)) hx hb hr hlk hZ hU hS rfl rfl hU.1 dJ16_copyOfRangeByte_32
section KZ
variable {ρ : Type} {p : Program} {l : Launch} {e : Env} {R : Room} {s : State} {m : MethodId} {args : Array Value} {below : List Frame} {meth : Method} {c : Code} {H : Heap} {locs : List Loc} {Qf : ρ → State → Prop}
variable {cc : ByteArray} {pc nL L M q0 : Nat} {ls : Array Slot} {rest : List Value}
variable {D : va_G} {ct : CT} {ck : Nat → UC} {N : Nat} {ad : Nat → Nat} {P : Nat → Nat → Option Nat} {A : Nat → Prop} {S : US} {w : Int64} {G0 G : GS}
theorem kzJ16_Y_copyOfRangeByte {p1 : (Option Nat)} {p2 : Int32} {p3 : Int32} (E : ME p m c cc nL s args RJ16 D clW ct) (hZ : YC ct R s A G0) (hY : YW D clW ck ct N ad P A S w G0 G H) (hS : va_S A s.heap H locs) (hR : 4 + 1 ≤ R.frames ∧ 8 + (5 + 11) + 122 ≤ R.locals) (hsize : ls.size = nL) (hW : (rest.map fun v => v.category).sum ≤ 8) (hdg : decode cc pc = .ok (.invokestatic 339, 3)) {kp : ((Option Nat) × GS) → Option ρ} (kk : ∀ (o : ((Option Nat) × GS)) (H1 : Heap) (locs1 : List Loc), YW D clW ck ct N ad P A S w G0 o.2 H1 → va_S A s.heap H1 locs1 → X p l e R s m args below meth c H1 locs1 (o.2.2.1 - G0.2.1) (o.2.2.2 - G0.2.2) Qf (kp o) (F0 m (pc + 3) ls (va_rf o.1 :: rest))) : X p l e R s m args below meth c H locs (G.2.1 - G0.2.1) (G.2.2 - G0.2.2) Qf (callK (sY_copyOfRangeByte ct G p1 p2 p3) kp) (F0 m pc ls (.int p3 :: .int p2 :: va_rf p1 :: rest)) := gy_mx (val' := fun (o : ((Option Nat) × GS)) => some (va_rf o.1)) (len := 3) (So := fun (o : ((Option Nat) × GS)) => S) (Po := fun (o : ((Option Nat) × GS)) => P) (Gn := fun (o : ((Option Nat) × GS)) => o.2) hZ hY hS (fun o ho => rqS (As := [va_rf p1, .int p2, .int p3]) E hY.1.any (by rw [hY.1.2.1]; exact mYY_copyOfRangeByte l D ct ck N ad P S w G p1 p2 p3 o ho) (va_cwS 3 E.1.2.2.2.2 (lw_S q1119 q1120 q135 q1121) rfl rfl rfl (by decide +kernel) hR) rfl hsize rfl hW hdg (hY.room hZ)) kk
end KZ

set_option maxHeartbeats 4000000 in
theorem mYY_copyOfRange (l : Launch) (D : va_G) (ct : CT) (ck : Nat → UC) (N : Nat) (ad : Nat → Nat) (P : Nat → Nat → Option Nat) (S : US) (w : Int64) (G0 : GS) (p1 : (Option Nat)) (p2 : Int32) (p3 : Int32) (o : ((Option Nat) × GS)) (ho : sY_copyOfRange ct G0 p1 p2 p3 = some o) : Met l yJ16_copyOfRange (ws_ yJ16_copyOfRange cJ16_copyOfRange 3 (some (.array .byte))) { frames := 5, cells := nmax ct - G0.2.1, slots := zmax ct - G0.2.2, locals := 146 } (mP D clW ct [va_rf p1, .int p2, .int p3] G0.2.1 (MW D clW ck ct N ad P (fun _ => True) S w G0)) (yC (some (va_rf o.1)) (MW D clW ck ct N ad P (mA N ad G0) S w o.2) G0 o.2 (mA N ad G0)) (nmax ct - G0.2.1) (zmax ct - G0.2.2) (mA N ad G0) := by
  refine Y.start (val := fun (o : ((Option Nat) × GS)) => some (va_rf o.1)) (Bt := fun (o : ((Option Nat) × GS)) => MW D clW ck ct N ad P (mA N ad G0) S w o.2) (Go := fun (o : ((Option Nat) × GS)) => o.2) ho (by decide) (by rcases p1 with _ | _ <;> exact Nat.le_of_ble_eq_true rfl) (lv := [(0, va_rf p1), (1, .int p2), (2, .int p3)]) (by rcases p1 with _ | _ <;> rfl) ?_
  intro p e s m args below meth c E hr hlk hnm hZ hU hS ls hl
  obtain ⟨⟨hx, hb, hml, hown, hts⟩, hK, hJ⟩ := id E
  replace hr : meth.sig.returnType = some (FieldType.array FieldType.byte) ∧ ((∃ n, (FieldType.array FieldType.byte) = .object n) ∨ ∃ t, (FieldType.array FieldType.byte) = .array t) := ⟨hr, Or.inr ⟨_, rfl⟩⟩
  unfold sY_copyOfRange
  refine x_iload_n hx hb dJ16_copyOfRange_0 rfl (lv_at hl 1 rfl) ?_
  refine x_if_ne (tgt := 10) hx hb dJ16_copyOfRange_1 (by decide) (fun hc => ?_) (fun hc => ?_)
  · refine x_aload_nO hx hb dJ16_copyOfRange_10 rfl (lv_at hl 0 rfl) ?_
    refine x_iload_n hx hb dJ16_copyOfRange_11 rfl (lv_at hl 1 rfl) ?_
    refine x_iload_n hx hb dJ16_copyOfRange_12 rfl (lv_at hl 2 rfl) ?_
    refine kzJ16_Y_copyOfRangeByte E hZ hU hS ⟨Nat.le_of_ble_eq_true rfl, Nat.le_of_ble_eq_true rfl⟩ hl.1 (Nat.le_of_ble_eq_true rfl) dJ16_copyOfRange_13 (fun o1 H locs hU hS => ?_)
    exact y_aret (r := o1.1) hx hb hr hlk hZ hU hS rfl rfl hU.1 dJ16_copyOfRange_16
  · refine x_iload_n hx hb dJ16_copyOfRange_4 rfl (lv_at hl 2 rfl) ?_
    refine x_aload_nO hx hb dJ16_copyOfRange_5 rfl (lv_at hl 0 rfl) ?_
    refine X.onR (fun b2 hb_ => ?_)
    subst hb_
    refine fx_alen E hU.1.1.2.1 (t := 2) rfl dJ16_copyOfRange_6 (fun v3 => ?_)
    refine x_icmp_eq (tgt := 17) hx hb dJ16_copyOfRange_7 (by decide) (fun hc => ?_) (fun hc => ?_)
    · refine x_aload_n hx hb dJ16_copyOfRange_17 rfl (lv_at hl 0 rfl) ?_
      exact X.none
    · refine x_aload_n hx hb dJ16_copyOfRange_10 rfl (lv_at hl 0 rfl) ?_
      refine x_iload_n hx hb dJ16_copyOfRange_11 rfl (lv_at hl 1 rfl) ?_
      refine x_iload_n hx hb dJ16_copyOfRange_12 rfl (lv_at hl 2 rfl) ?_
      refine kzJ16_Y_copyOfRangeByte E hZ hU hS ⟨Nat.le_of_ble_eq_true rfl, Nat.le_of_ble_eq_true rfl⟩ hl.1 (Nat.le_of_ble_eq_true rfl) dJ16_copyOfRange_13 (fun o4 H locs hU hS => ?_)
      exact y_aret (r := o4.1) hx hb hr hlk hZ hU hS rfl rfl hU.1 dJ16_copyOfRange_16
section KZ
variable {ρ : Type} {p : Program} {l : Launch} {e : Env} {R : Room} {s : State} {m : MethodId} {args : Array Value} {below : List Frame} {meth : Method} {c : Code} {H : Heap} {locs : List Loc} {Qf : ρ → State → Prop}
variable {cc : ByteArray} {pc nL L M q0 : Nat} {ls : Array Slot} {rest : List Value}
variable {D : va_G} {ct : CT} {ck : Nat → UC} {N : Nat} {ad : Nat → Nat} {P : Nat → Nat → Option Nat} {A : Nat → Prop} {S : US} {w : Int64} {G0 G : GS}
theorem kzJ8_Y_copyOfRange {p1 : (Option Nat)} {p2 : Int32} {p3 : Int32} (E : ME p m c cc nL s args RJ8 D clW ct) (hZ : YC ct R s A G0) (hY : YW D clW ck ct N ad P A S w G0 G H) (hS : va_S A s.heap H locs) (hR : 5 + 1 ≤ R.frames ∧ 8 + (3 + 11) + 146 ≤ R.locals) (hsize : ls.size = nL) (hW : (rest.map fun v => v.category).sum ≤ 8) (hdg : decode cc pc = .ok (.invokestatic 54, 3)) {kp : ((Option Nat) × GS) → Option ρ} (kk : ∀ (o : ((Option Nat) × GS)) (H1 : Heap) (locs1 : List Loc), YW D clW ck ct N ad P A S w G0 o.2 H1 → va_S A s.heap H1 locs1 → X p l e R s m args below meth c H1 locs1 (o.2.2.1 - G0.2.1) (o.2.2.2 - G0.2.2) Qf (kp o) (F0 m (pc + 3) ls (va_rf o.1 :: rest))) : X p l e R s m args below meth c H locs (G.2.1 - G0.2.1) (G.2.2 - G0.2.2) Qf (callK (sY_copyOfRange ct G p1 p2 p3) kp) (F0 m pc ls (.int p3 :: .int p2 :: va_rf p1 :: rest)) := gy_mx (val' := fun (o : ((Option Nat) × GS)) => some (va_rf o.1)) (len := 3) (So := fun (o : ((Option Nat) × GS)) => S) (Po := fun (o : ((Option Nat) × GS)) => P) (Gn := fun (o : ((Option Nat) × GS)) => o.2) hZ hY hS (fun o ho => rqS (As := [va_rf p1, .int p2, .int p3]) E hY.1.any (by rw [hY.1.2.1]; exact mYY_copyOfRange l D ct ck N ad P S w G p1 p2 p3 o ho) (va_cwS 3 E.1.2.2.2.2 (lw_S q1116 q1117 q135 q1118) rfl rfl rfl (by decide +kernel) hR) rfl hsize rfl hW hdg (hY.room hZ)) kk
end KZ

set_option maxHeartbeats 4000000 in
theorem mYS_init_2 (l : Launch) (D : va_G) (ct : CT) (ck : Nat → UC) (N : Nat) (ad : Nat → Nat) (P : Nat → Nat → Option Nat) (S : US) (w : Int64) (G0 : GS) (q0 : Nat) (p1 : (Option Nat)) (p2 : (Option Nat)) (o : GS) (ho : sS_init_2 ct G0 q0 p1 p2 = some o) : Met l yJ8_init_2 (ws_ yJ8_init_2 cJ8_init_2 5 none) { frames := 6, cells := nmax ct - G0.2.1, slots := zmax ct - G0.2.2, locals := 168 } (mP D clW ct [.ref q0, va_rf p1, va_rf p2] G0.2.1 (MW D clW ck ct N ad P (fun _ => True) S w G0)) (yC (none) (MW D clW ck ct N ad P (mA N ad G0) S w o) G0 o (mA N ad G0)) (nmax ct - G0.2.1) (zmax ct - G0.2.2) (mA N ad G0) := by
  refine Y.start (val := fun (o : GS) => none) (Bt := fun (o : GS) => MW D clW ck ct N ad P (mA N ad G0) S w o) (Go := fun (o : GS) => o) ho (by decide) (by rcases p1 with _ | _ <;> rcases p2 with _ | _ <;> exact Nat.le_of_ble_eq_true rfl) (lv := [(0, .ref q0), (1, va_rf p1), (2, va_rf p2)]) (by rcases p1 with _ | _ <;> rcases p2 with _ | _ <;> rfl) ?_
  intro p e s m args below meth c E hr hlk hnm hZ hU hS ls hl
  obtain ⟨⟨hx, hb, hml, hown, hts⟩, hK, hJ⟩ := id E
  unfold sS_init_2
  refine x_aload_n hx hb dJ8_init_2_0 rfl (lv_at hl 0 rfl) ?_
  refine gx_objInit E (hts _ q1101) (hts _ q155) (hts _ q156) ⟨Nat.le_of_ble_eq_true rfl, Nat.le_of_ble_eq_true rfl⟩ hl.1 (Nat.le_of_ble_eq_true rfl) dJ8_init_2_1 ?_
  refine x_aload_nO hx hb dJ8_init_2_4 rfl (lv_at hl 1 rfl) ?_
  refine X.onR (fun b1 hb_ => ?_)
  subst hb_
  refine kzJ8_A_getValue E hZ hU hS ⟨Nat.le_of_ble_eq_true rfl, Nat.le_of_ble_eq_true rfl⟩ hl.1 (Nat.le_of_ble_eq_true rfl) dJ8_init_2_5 (fun o2 H locs hU hS => ?_)
  refine x_astore_nO (lv' := [(3, va_rf o2), (0, .ref q0), (1, .ref b1), (2, va_rf p2)]) hx hb dJ8_init_2_8 rfl hl (by decide) (by rcases p2 with _ | _ <;> rfl) (fun ls hl => ?_)
  refine x_aload_n hx hb dJ8_init_2_9 rfl (lv_at hl 2 rfl) ?_
  refine kzJ8_B_length E hZ hU hS ⟨Nat.le_of_ble_eq_true rfl, Nat.le_of_ble_eq_true rfl⟩ hl.1 (Nat.le_of_ble_eq_true rfl) dJ8_init_2_10 (fun o3 H locs hU hS => ?_)
  refine x_istore (lv' := [(4, .int o3.1), (3, va_rf o2), (0, .ref q0), (1, .ref b1), (2, va_rf p2)]) hx hb dJ8_init_2_13 hl (by decide) (by rcases o2 with _ | _ <;> rfl) (fun ls hl => ?_)
  refine x_aload_n hx hb dJ8_init_2_15 rfl (lv_at hl 3 rfl) ?_
  refine kzJ8_A_isLatin1 E hZ hU hS ⟨Nat.le_of_ble_eq_true rfl, Nat.le_of_ble_eq_true rfl⟩ hl.1 (Nat.le_of_ble_eq_true rfl) dJ8_init_2_16 (fun o4 H locs hU hS => ?_)
  refine x_if_eq (tgt := 41) hx hb dJ8_init_2_19 (by decide) (fun hc => ?_) (fun hc => ?_)
  · refine gx_gets E hU.1.1 (List.mem_of_getElem? (i := 0) rfl) (hts _ q866) (fun _ h => h) dJ8_init_2_41 ?_
    refine X.join2Y (fun (x : Unit) g H locs => YW D clW ck ct N ad P (mA N ad G0) S w G0 o3.2 H ∧ va_S (mA N ad G0) s.heap H locs ∧ ∃ ls : Array Slot, g = F0 m 79 ls [] ∧ lv_has ls 5 [(0, .ref q0), (3, va_rf o2), (4, .int o3.1)]) (fun (x : Unit) => o3.2.2.1 - G0.2.1) (fun (x : Unit) => o3.2.2.2 - G0.2.2) ?_ (fun j5 hj5 => ?_)
    · rintro _ _ H locs ⟨hU, hS, ls, rfl, hl⟩
      refine X.cs (cells2 := o3.2.2.1 - G0.2.1) (slots2 := o3.2.2.2 - G0.2.2) rfl rfl ?_
      refine X.eqs (sp2 := sS_init_2_J79 q0 ct o2 o3) rfl ?_
      unfold sS_init_2_J79
      refine x_aload_n hx hb dJ8_init_2_79 rfl (lv_at hl 0 rfl) ?_
      refine x_iconst (v := 1) hx hb dJ8_init_2_80 (by decide) ?_
      refine gy_put (v := .int (1 : Int32)) (ty0 := tyJ8) E hU hS (ci := 13) rfl in_J8 tyJ8_ok nmJ8 1 (by decide) (hts _ q1208) (fun _ h => h) (Or.inr ⟨rfl, hnm, rfl⟩) rfl rfl dJ8_init_2_81 (fun G7 H locs hU hS => ?_)
      refine x_aload_n hx hb dJ8_init_2_84 rfl (lv_at hl 0 rfl) ?_
      refine x_aload_nO hx hb dJ8_init_2_85 rfl (lv_at hl 1 rfl) ?_
      refine x_iconst (v := 0) hx hb dJ8_init_2_86 (by decide) ?_
      refine x_iload hx hb dJ8_init_2_87 (lv_at hl 2 rfl) ?_
      refine x_iconst (v := 1) hx hb dJ8_init_2_89 (by decide) ?_
      refine x_ishl hx hb dJ8_init_2_90 ?_
      refine kzJ8_Y_copyOfRange E hZ hU hS ⟨Nat.le_of_ble_eq_true rfl, Nat.le_of_ble_eq_true rfl⟩ hl.1 (Nat.le_of_ble_eq_true rfl) dJ8_init_2_91 (fun o8 H locs hU hS => ?_)
      refine gy_put (v := va_rf o8.1) (ty0 := tyJ8) E hU hS (ci := 13) rfl in_J8 tyJ8_ok nmJ8 0 (by decide) (hts _ q1207) (fun _ h => h) (Or.inr ⟨rfl, hnm, rfl⟩) (by cases o8.1 <;> rfl) (by cases o8.1 <;> rfl) dJ8_init_2_94 (fun G9 H locs hU hS => ?_)
      exact y_vret hx hb hr hlk hZ hU hS rfl rfl hU.1 dJ8_init_2_97
    · refine x_if_eq (tgt := 79) hx hb dJ8_init_2_44 (by decide) (fun hc => ?_) (fun hc => ?_)
      · exact hj5 () _ _ _ ⟨hU, hS, _, rfl, lv_sub hl [2, 1, 0] rfl⟩
      · refine x_aload_n hx hb dJ8_init_2_47 rfl (lv_at hl 3 rfl) ?_
        refine fx_getI E hU.1.1.2.1 (ci := 11) rfl in_J14 2 (by decide) (hts _ q1019) (fun _ h => h) dJ8_init_2_48 (fun v6 => ?_)
        refine x_if_eq (tgt := 79) hx hb dJ8_init_2_51 (by decide) (fun hc => ?_) (fun hc => ?_)
        · exact hj5 () _ _ _ ⟨hU, hS, _, rfl, lv_sub hl [2, 1, 0] rfl⟩
        · refine x_aload_n hx hb dJ8_init_2_54 rfl (lv_at hl 2 rfl) ?_
          refine x_aload_nO hx hb dJ8_init_2_55 rfl (lv_at hl 1 rfl) ?_
          refine x_iconst (v := 0) hx hb dJ8_init_2_56 (by decide) ?_
          refine x_iload hx hb dJ8_init_2_57 (lv_at hl 0 rfl) ?_
          exact X.none
  · refine x_aload_n hx hb dJ8_init_2_22 rfl (lv_at hl 2 rfl) ?_
    refine x_iconst (v := 0) hx hb dJ8_init_2_23 (by decide) ?_
    refine gy_put (v := .int (0 : Int32)) (ty0 := tyJ8) E hU hS (ci := 13) rfl in_J8 tyJ8_ok nmJ8 1 (by decide) (hts _ q1208) (fun _ h => h) (Or.inr ⟨rfl, hnm, rfl⟩) rfl rfl dJ8_init_2_24 (fun G10 H locs hU hS => ?_)
    refine x_aload_n hx hb dJ8_init_2_27 rfl (lv_at hl 2 rfl) ?_
    refine x_aload_nO hx hb dJ8_init_2_28 rfl (lv_at hl 1 rfl) ?_
    refine x_iconst (v := 0) hx hb dJ8_init_2_29 (by decide) ?_
    refine x_iload hx hb dJ8_init_2_30 (lv_at hl 0 rfl) ?_
    refine kzJ8_Y_copyOfRange E hZ hU hS ⟨Nat.le_of_ble_eq_true rfl, Nat.le_of_ble_eq_true rfl⟩ hl.1 (Nat.le_of_ble_eq_true rfl) dJ8_init_2_32 (fun o11 H locs hU hS => ?_)
    refine gy_put (v := va_rf o11.1) (ty0 := tyJ8) E hU hS (ci := 13) rfl in_J8 tyJ8_ok nmJ8 0 (by decide) (hts _ q1207) (fun _ h => h) (Or.inr ⟨rfl, hnm, rfl⟩) (by cases o11.1 <;> rfl) (by cases o11.1 <;> rfl) dJ8_init_2_35 (fun G12 H locs hU hS => ?_)
    refine x_goto (tgt := 97) hx hb dJ8_init_2_38 (by decide) ?_
    exact y_vret hx hb hr hlk hZ hU hS rfl rfl hU.1 dJ8_init_2_97
section KZ
variable {ρ : Type} {p : Program} {l : Launch} {e : Env} {R : Room} {s : State} {m : MethodId} {args : Array Value} {below : List Frame} {meth : Method} {c : Code} {H : Heap} {locs : List Loc} {Qf : ρ → State → Prop}
variable {cc : ByteArray} {pc nL L M q0 : Nat} {ls : Array Slot} {rest : List Value}
variable {D : va_G} {ct : CT} {ck : Nat → UC} {N : Nat} {ad : Nat → Nat} {P : Nat → Nat → Option Nat} {A : Nat → Prop} {S : US} {w : Int64} {G0 G : GS}
theorem kzJ8_S_init_2 {p1 : (Option Nat)} {p2 : (Option Nat)} (E : ME p m c cc nL s args RJ8 D clW ct) (hZ : YC ct R s A G0) (hY : YW D clW ck ct N ad P A S w G0 G H) (hS : va_S A s.heap H locs) (hR : 6 + 1 ≤ R.frames ∧ 8 + (5 + 11) + 168 ≤ R.locals) (hsize : ls.size = nL) (hW : (rest.map fun v => v.category).sum ≤ 8) (hdg : decode cc pc = .ok (.invokespecial 489, 3)) {kp : GS → Option ρ} (kk : ∀ (o : GS) (H1 : Heap) (locs1 : List Loc), YW D clW ck ct N ad P A S w G0 o H1 → va_S A s.heap H1 locs1 → X p l e R s m args below meth c H1 locs1 (o.2.1 - G0.2.1) (o.2.2 - G0.2.2) Qf (kp o) (F0 m (pc + 3) ls (rest))) : X p l e R s m args below meth c H locs (G.2.1 - G0.2.1) (G.2.2 - G0.2.2) Qf (callK (sS_init_2 ct G q0 p1 p2) kp) (F0 m pc ls (va_rf p2 :: va_rf p1 :: .ref q0 :: rest)) := gy_mx (val' := fun (o : GS) => none) (len := 3) (So := fun (o : GS) => S) (Po := fun (o : GS) => P) (Gn := fun (o : GS) => o) hZ hY hS (fun o ho => rqI (As := [va_rf p1, va_rf p2]) E hY.1.any (by rw [hY.1.2.1]; exact mYS_init_2 l D ct ck N ad P S w G q0 p1 p2 o ho) ⟨callB_of 2 E.1.2.2.2.2 (lw_meth q1100) rfl rfl rfl (E.1.2.2.2.2 _ q126) (E.1.2.2.2.2 _ q1098) (by decide +kernel) hR, rfl, E.1.2.2.2.2 _ q1099⟩ rfl hsize rfl hW hdg (hY.room hZ)) kk
end KZ

set_option maxHeartbeats 4000000 in
theorem mYS_init (l : Launch) (D : va_G) (ct : CT) (ck : Nat → UC) (N : Nat) (ad : Nat → Nat) (P : Nat → Nat → Option Nat) (S : US) (w : Int64) (G0 : GS) (q0 : Nat) (p1 : (Option Nat)) (o : GS) (ho : sS_init ct G0 q0 p1 = some o) : Met l yJ8_init (ws_ yJ8_init cJ8_init 2 none) { frames := 7, cells := nmax ct - G0.2.1, slots := zmax ct - G0.2.2, locals := 192 } (mP D clW ct [.ref q0, va_rf p1] G0.2.1 (MW D clW ck ct N ad P (fun _ => True) S w G0)) (yC (none) (MW D clW ck ct N ad P (mA N ad G0) S w o) G0 o (mA N ad G0)) (nmax ct - G0.2.1) (zmax ct - G0.2.2) (mA N ad G0) := by
  refine Y.start (val := fun (o : GS) => none) (Bt := fun (o : GS) => MW D clW ck ct N ad P (mA N ad G0) S w o) (Go := fun (o : GS) => o) ho (by decide) (by rcases p1 with _ | _ <;> exact Nat.le_of_ble_eq_true rfl) (lv := [(0, .ref q0), (1, va_rf p1)]) (by rcases p1 with _ | _ <;> rfl) ?_
  intro p e s m args below meth c E hr hlk hnm hZ hU hS ls hl
  obtain ⟨⟨hx, hb, hml, hown, hts⟩, hK, hJ⟩ := id E
  unfold sS_init
  refine x_aload_n hx hb dJ8_init_0 rfl (lv_at hl 0 rfl) ?_
  refine x_aload_nO hx hb dJ8_init_1 rfl (lv_at hl 1 rfl) ?_
  refine x_null hx hb dJ8_init_2 ?_
  refine kzJ8_S_init_2 E hZ hU hS ⟨Nat.le_of_ble_eq_true rfl, Nat.le_of_ble_eq_true rfl⟩ hl.1 (Nat.le_of_ble_eq_true rfl) dJ8_init_3 (fun o1 H locs hU hS => ?_)
  exact y_vret hx hb hr hlk hZ hU hS rfl rfl hU.1 dJ8_init_6
section KZ
variable {ρ : Type} {p : Program} {l : Launch} {e : Env} {R : Room} {s : State} {m : MethodId} {args : Array Value} {below : List Frame} {meth : Method} {c : Code} {H : Heap} {locs : List Loc} {Qf : ρ → State → Prop}
variable {cc : ByteArray} {pc nL L M q0 : Nat} {ls : Array Slot} {rest : List Value}
variable {D : va_G} {ct : CT} {ck : Nat → UC} {N : Nat} {ad : Nat → Nat} {P : Nat → Nat → Option Nat} {A : Nat → Prop} {S : US} {w : Int64} {G0 G : GS}
theorem kzJ14_S_init {p1 : (Option Nat)} (E : ME p m c cc nL s args RJ14 D clW ct) (hZ : YC ct R s A G0) (hY : YW D clW ck ct N ad P A S w G0 G H) (hS : va_S A s.heap H locs) (hR : 7 + 1 ≤ R.frames ∧ 8 + (2 + 11) + 192 ≤ R.locals) (hsize : ls.size = nL) (hW : (rest.map fun v => v.category).sum ≤ 8) (hdg : decode cc pc = .ok (.invokespecial 137, 3)) {kp : GS → Option ρ} (kk : ∀ (o : GS) (H1 : Heap) (locs1 : List Loc), YW D clW ck ct N ad P A S w G0 o H1 → va_S A s.heap H1 locs1 → X p l e R s m args below meth c H1 locs1 (o.2.1 - G0.2.1) (o.2.2 - G0.2.2) Qf (kp o) (F0 m (pc + 3) ls (rest))) : X p l e R s m args below meth c H locs (G.2.1 - G0.2.1) (G.2.2 - G0.2.2) Qf (callK (sS_init ct G q0 p1) kp) (F0 m pc ls (va_rf p1 :: .ref q0 :: rest)) := gy_mx (val' := fun (o : GS) => none) (len := 3) (So := fun (o : GS) => S) (Po := fun (o : GS) => P) (Gn := fun (o : GS) => o) hZ hY hS (fun o ho => rqI (As := [va_rf p1]) E hY.1.any (by rw [hY.1.2.1]; exact mYS_init l D ct ck N ad P S w G q0 p1 o ho) ⟨callB_of 1 E.1.2.2.2.2 (lw_meth q1097) rfl rfl rfl (E.1.2.2.2.2 _ q126) (E.1.2.2.2.2 _ q1095) (by decide +kernel) hR, rfl, E.1.2.2.2.2 _ q1096⟩ rfl hsize rfl hW hdg (hY.room hZ)) kk
end KZ

set_option maxHeartbeats 4000000 in
theorem mYB_toString (l : Launch) (D : va_G) (ct : CT) (ck : Nat → UC) (N : Nat) (ad : Nat → Nat) (P : Nat → Nat → Option Nat) (S : US) (w : Int64) (G0 : GS) (q0 : Nat) (o : ((Option Nat) × GS)) (ho : sB_toString ct G0 q0 = some o) : Met l yJ14_toString (ws_ yJ14_toString cJ14_toString 1 (some (.object "java/lang/String"))) { frames := 8, cells := nmax ct - G0.2.1, slots := zmax ct - G0.2.2, locals := 213 } (mP D clW ct [.ref q0] G0.2.1 (MW D clW ck ct N ad P (fun _ => True) S w G0)) (yC (some (va_rf o.1)) (MW D clW ck ct N ad P (mA N ad G0) S w o.2) G0 o.2 (mA N ad G0)) (nmax ct - G0.2.1) (zmax ct - G0.2.2) (mA N ad G0) := by
  refine Y.start (val := fun (o : ((Option Nat) × GS)) => some (va_rf o.1)) (Bt := fun (o : ((Option Nat) × GS)) => MW D clW ck ct N ad P (mA N ad G0) S w o.2) (Go := fun (o : ((Option Nat) × GS)) => o.2) ho (by decide) (Nat.le_of_ble_eq_true rfl) (lv := [(0, .ref q0)]) rfl ?_
  intro p e s m args below meth c E hr hlk hnm hZ hU hS ls hl
  obtain ⟨⟨hx, hb, hml, hown, hts⟩, hK, hJ⟩ := id E
  replace hr : meth.sig.returnType = some (FieldType.object "java/lang/String") ∧ ((∃ n, (FieldType.object "java/lang/String") = .object n) ∨ ∃ t, (FieldType.object "java/lang/String") = .array t) := ⟨hr, Or.inl ⟨_, rfl⟩⟩
  unfold sB_toString
  refine gy_new (ty := tyJ8) E hZ hU hS in_J8 tyJ8_ok (hts _ q1093) (hts _ q1094) (hts _ q126) (ci := 13) rfl (by decide) dJ14_toString_0 (fun q1 G2 H hU hS => ?_)
  refine x_dup hx hb dJ14_toString_3 rfl ?_
  refine x_aload_n hx hb dJ14_toString_4 rfl (lv_at hl 0 rfl) ?_
  refine kzJ14_S_init E hZ hU hS ⟨Nat.le_of_ble_eq_true rfl, Nat.le_of_ble_eq_true rfl⟩ hl.1 (Nat.le_of_ble_eq_true rfl) dJ14_toString_5 (fun o3 H locs hU hS => ?_)
  exact y_aret (r := (some q1)) hx hb hr hlk hZ hU hS rfl rfl hU.1 dJ14_toString_8
section KZ
variable {ρ : Type} {p : Program} {l : Launch} {e : Env} {R : Room} {s : State} {m : MethodId} {args : Array Value} {below : List Frame} {meth : Method} {c : Code} {H : Heap} {locs : List Loc} {Qf : ρ → State → Prop}
variable {cc : ByteArray} {pc nL L M q0 : Nat} {ls : Array Slot} {rest : List Value}
variable {D : va_G} {ct : CT} {ck : Nat → UC} {N : Nat} {ad : Nat → Nat} {P : Nat → Nat → Option Nat} {A : Nat → Prop} {S : US} {w : Int64} {G0 G : GS}
theorem kzX5_B_toString (E : ME p m c cc nL s args RX5 D clW ct) (hZ : YC ct R s A G0) (hY : YW D clW ck ct N ad P A S w G0 G H) (hS : va_S A s.heap H locs) (hR : 8 + 1 ≤ R.frames ∧ 8 + (1 + 11) + 213 ≤ R.locals) (hsize : ls.size = nL) (hW : (rest.map fun v => v.category).sum ≤ 8) (hdg : decode cc pc = .ok (.invokevirtual 238, 3)) {kp : ((Option Nat) × GS) → Option ρ} (kk : ∀ (o : ((Option Nat) × GS)) (H1 : Heap) (locs1 : List Loc), YW D clW ck ct N ad P A S w G0 o.2 H1 → va_S A s.heap H1 locs1 → X p l e R s m args below meth c H1 locs1 (o.2.2.1 - G0.2.1) (o.2.2.2 - G0.2.2) Qf (kp o) (F0 m (pc + 3) ls (va_rf o.1 :: rest))) : X p l e R s m args below meth c H locs (G.2.1 - G0.2.1) (G.2.2 - G0.2.2) Qf (hC G.1 q0 11 (callK (sB_toString ct G q0) kp)) (F0 m pc ls (.ref q0 :: rest)) := X.hC fun fs bw hq => gy_mx (val' := fun (o : ((Option Nat) × GS)) => some (va_rf o.1)) (len := 3) (So := fun (o : ((Option Nat) × GS)) => S) (Po := fun (o : ((Option Nat) × GS)) => P) (Gn := fun (o : ((Option Nat) × GS)) => o.2) hZ hY hS (fun o ho => rqV (As := []) E hY.1.any (recvA E.2.1 hY.1.1.2.1 hq rfl) (by rw [hY.1.2.1]; exact mYB_toString l D ct ck N ad P S w G q0 o ho) (cwV 0 E.1.2.2.2.2 (lw_V q1089 q1090 q1091 q133 q1092) rfl rfl rfl (by decide +kernel) hR) rfl hsize rfl hW hdg (hY.room hZ)) kk
theorem kzJ16_B_toString (E : ME p m c cc nL s args RJ16 D clW ct) (hZ : YC ct R s A G0) (hY : YW D clW ck ct N ad P A S w G0 G H) (hS : va_S A s.heap H locs) (hR : 8 + 1 ≤ R.frames ∧ 8 + (1 + 11) + 213 ≤ R.locals) (hsize : ls.size = nL) (hW : (rest.map fun v => v.category).sum ≤ 8) (hdg : decode cc pc = .ok (.invokevirtual 61, 3)) {kp : ((Option Nat) × GS) → Option ρ} (kk : ∀ (o : ((Option Nat) × GS)) (H1 : Heap) (locs1 : List Loc), YW D clW ck ct N ad P A S w G0 o.2 H1 → va_S A s.heap H1 locs1 → X p l e R s m args below meth c H1 locs1 (o.2.2.1 - G0.2.1) (o.2.2.2 - G0.2.2) Qf (kp o) (F0 m (pc + 3) ls (va_rf o.1 :: rest))) : X p l e R s m args below meth c H locs (G.2.1 - G0.2.1) (G.2.2 - G0.2.2) Qf (hC G.1 q0 11 (callK (sB_toString ct G q0) kp)) (F0 m pc ls (.ref q0 :: rest)) := X.hC fun fs bw hq => gy_mx (val' := fun (o : ((Option Nat) × GS)) => some (va_rf o.1)) (len := 3) (So := fun (o : ((Option Nat) × GS)) => S) (Po := fun (o : ((Option Nat) × GS)) => P) (Gn := fun (o : ((Option Nat) × GS)) => o.2) hZ hY hS (fun o ho => rqV (As := []) E hY.1.any (recvA E.2.1 hY.1.1.2.1 hq rfl) (by rw [hY.1.2.1]; exact mYB_toString l D ct ck N ad P S w G q0 o ho) (cwV 0 E.1.2.2.2.2 (lw_V q1184 q1090 q1091 q133 q1092) rfl rfl rfl (by decide +kernel) hR) rfl hsize rfl hW hdg (hY.room hZ)) kk
end KZ
