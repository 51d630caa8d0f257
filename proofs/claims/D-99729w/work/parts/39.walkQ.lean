set_option maxRecDepth 100000
section HF
variable {ρ ρ' : Type} {p : Program} {l : Launch} {e : Env} {R : Room} {s : State} {m : MethodId} {args : Array Value} {below : List Frame} {meth : Method} {c : Code} {H : Heap} {locs : List Loc} {cells slots : Nat} {Qf : ρ → State → Prop} {sp : Option ρ}
variable {cc : ByteArray} {pc nL L : Nat} {ls : Array Slot} {rest : List Value}
variable {D : va_G} {ct : CT} {ad : Nat → Nat} {P : Nat → Nat → Option Nat} {A A0 : Nat → Prop} {S : US} {h : AH} {H0 : Heap}

end HF

set_option maxHeartbeats 4000000 in
theorem mY7_init (l : Launch) (D : va_G) (ct : CT) (ck : Nat → UC) (N : Nat) (ad : Nat → Nat) (P : Nat → Nat → Option Nat) (S : US) (w : Int64) (G0 : GS) (q0 : Nat) (p1 : (Option Nat)) (o : GS) (ho : s7_init ct G0 q0 p1 = some o) : Met l yX7_init (ws_ yX7_init cX7_init 2 none) { frames := 7, cells := nmax ct - G0.2.1, slots := zmax ct - G0.2.2, locals := 191 } (mP D clW ct [.ref q0, va_rf p1] G0.2.1 (MW D clW ck ct N ad P (fun _ => True) S w G0)) (yC (none) (MW D clW ck ct N ad P (mA N ad G0) S w o) G0 o (mA N ad G0)) (nmax ct - G0.2.1) (zmax ct - G0.2.2) (mA N ad G0) := by
  refine Y.start (val := fun (o : GS) => none) (Bt := fun (o : GS) => MW D clW ck ct N ad P (mA N ad G0) S w o) (Go := fun (o : GS) => o) ho (by decide) (by rcases p1 with _ | _ <;> exact Nat.le_of_ble_eq_true rfl) (lv := [(0, .ref q0), (1, va_rf p1)]) (by rcases p1 with _ | _ <;> rfl) ?_
  intro p e s m args below meth c E hr hlk hnm hZ hU hS ls hl
  obtain ⟨⟨hx, hb, hml, hown, hts⟩, hK, hJ⟩ := id E
  unfold s7_init
  refine x_aload_n hx hb dX7_init_0 rfl (lv_at hl 0 rfl) ?_
  refine gx_objInit E (hts _ q1288) (hts _ q155) (hts _ q156) ⟨Nat.le_of_ble_eq_true rfl, Nat.le_of_ble_eq_true rfl⟩ hl.1 (Nat.le_of_ble_eq_true rfl) dX7_init_1 ?_
  refine x_aload_n hx hb dX7_init_4 rfl (lv_at hl 0 rfl) ?_
  refine gy_new (ty := tyJ2) E hZ hU hS in_J2 tyJ2_ok (hts _ q1289) (hts _ q164) (hts _ q117) (ci := 10) rfl (by decide) dX7_init_5 (fun q1 G2 H hU hS => ?_)
  refine x_dup hx hb dX7_init_8 rfl ?_
  refine kzX7_L_init E hZ hU hS ⟨Nat.le_of_ble_eq_true rfl, Nat.le_of_ble_eq_true rfl⟩ hl.1 (Nat.le_of_ble_eq_true rfl) dX7_init_9 (fun o3 H locs hU hS => ?_)
  refine gy_put (v := .ref q1) (ty0 := tyX7) E hU hS (ci := 6) rfl in_X7 tyX7_ok nmX7 0 (by decide) (hts _ q1295) (fun _ h => h) (Or.inr ⟨rfl, hnm, rfl⟩) rfl rfl dX7_init_12 (fun G4 H locs hU hS => ?_)
  refine x_aload_n hx hb dX7_init_15 rfl (lv_at hl 0 rfl) ?_
  refine gy_new (ty := tyJ14) E hZ hU hS in_J14 tyJ14_ok (hts _ q1291) (hts _ q1001) (hts _ q133) (ci := 11) rfl (by decide) dX7_init_16 (fun q5 G6 H hU hS => ?_)
  refine x_dup hx hb dX7_init_19 rfl ?_
  refine kzX7_B_init E hZ hU hS ⟨Nat.le_of_ble_eq_true rfl, Nat.le_of_ble_eq_true rfl⟩ hl.1 (Nat.le_of_ble_eq_true rfl) dX7_init_20 (fun o7 H locs hU hS => ?_)
  refine gy_put (v := .ref q5) (ty0 := tyX7) E hU hS (ci := 6) rfl in_X7 tyX7_ok nmX7 1 (by decide) (hts _ q1296) (fun _ h => h) (Or.inr ⟨rfl, hnm, rfl⟩) rfl rfl dX7_init_23 (fun G8 H locs hU hS => ?_)
  refine x_aload_n hx hb dX7_init_26 rfl (lv_at hl 0 rfl) ?_
  refine fx_getR E hU.1.1.2.1 (ci := 6) rfl in_X7 0 (by decide) (hts _ q1295) (fun _ h => h) dX7_init_27 (fun r9 => ?_)
  refine x_aload_nO hx hb dX7_init_30 rfl (lv_at hl 1 rfl) ?_
  refine X.onR (fun b10 hb_ => ?_)
  subst hb_
  refine kzX7_L_add E hZ hU hS ⟨Nat.le_of_ble_eq_true rfl, Nat.le_of_ble_eq_true rfl⟩ hl.1 (Nat.le_of_ble_eq_true rfl) dX7_init_31 (fun o11 H locs hU hS => ?_)
  refine x_pop hx hb dX7_init_36 rfl ?_
  exact y_vret hx hb hr hlk hZ hU hS rfl rfl hU.1 dX7_init_37

set_option maxHeartbeats 4000000 in
theorem mY7_add (l : Launch) (D : va_G) (ct : CT) (ck : Nat → UC) (N : Nat) (ad : Nat → Nat) (P : Nat → Nat → Option Nat) (S : US) (w : Int64) (G0 : GS) (q0 : Nat) (p1 : Int32) (p2 : (Option Nat)) (o : GS) (ho : s7_add ct G0 q0 p1 p2 = some o) : Met l yX7_add (ws_ yX7_add cX7_add 3 none) { frames := 7, cells := nmax ct - G0.2.1, slots := zmax ct - G0.2.2, locals := 191 } (mP D clW ct [.ref q0, .int p1, va_rf p2] G0.2.1 (MW D clW ck ct N ad P (fun _ => True) S w G0)) (yC (none) (MW D clW ck ct N ad P (mA N ad G0) S w o) G0 o (mA N ad G0)) (nmax ct - G0.2.1) (zmax ct - G0.2.2) (mA N ad G0) := by
  refine Y.start (val := fun (o : GS) => none) (Bt := fun (o : GS) => MW D clW ck ct N ad P (mA N ad G0) S w o) (Go := fun (o : GS) => o) ho (by decide) (by rcases p2 with _ | _ <;> exact Nat.le_of_ble_eq_true rfl) (lv := [(0, .ref q0), (1, .int p1), (2, va_rf p2)]) (by rcases p2 with _ | _ <;> rfl) ?_
  intro p e s m args below meth c E hr hlk hnm hZ hU hS ls hl
  obtain ⟨⟨hx, hb, hml, hown, hts⟩, hK, hJ⟩ := id E
  unfold s7_add
  refine x_aload_n hx hb dX7_add_0 rfl (lv_at hl 0 rfl) ?_
  refine fx_getR E hU.1.1.2.1 (ci := 6) rfl in_X7 1 (by decide) (hts _ q1296) (fun _ h => h) dX7_add_1 (fun r1 => ?_)
  refine x_iload_n hx hb dX7_add_4 rfl (lv_at hl 1 rfl) ?_
  refine X.onR (fun b2 hb_ => ?_)
  subst hb_
  refine kzX7_B_append E hZ hU hS ⟨Nat.le_of_ble_eq_true rfl, Nat.le_of_ble_eq_true rfl⟩ hl.1 (Nat.le_of_ble_eq_true rfl) dX7_add_5 (fun o3 H locs hU hS => ?_)
  refine x_pop hx hb dX7_add_8 (by rcases o3.1 with _ | _ <;> rfl) ?_
  refine x_aload_n hx hb dX7_add_9 rfl (lv_at hl 0 rfl) ?_
  refine fx_getR E hU.1.1.2.1 (ci := 6) rfl in_X7 0 (by decide) (hts _ q1295) (fun _ h => h) dX7_add_10 (fun r4 => ?_)
  refine x_aload_nO hx hb dX7_add_13 rfl (lv_at hl 2 rfl) ?_
  refine X.onR (fun b5 hb_ => ?_)
  subst hb_
  refine kzX7_L_add E hZ hU hS ⟨Nat.le_of_ble_eq_true rfl, Nat.le_of_ble_eq_true rfl⟩ hl.1 (Nat.le_of_ble_eq_true rfl) dX7_add_14 (fun o6 H locs hU hS => ?_)
  refine x_pop hx hb dX7_add_19 rfl ?_
  exact y_vret hx hb hr hlk hZ hU hS rfl rfl hU.1 dX7_add_20

set_option maxHeartbeats 4000000 in
theorem mY7_plain (l : Launch) (D : va_G) (ct : CT) (ck : Nat → UC) (N : Nat) (ad : Nat → Nat) (P : Nat → Nat → Option Nat) (S : US) (w : Int64) (G0 : GS) (q0 : Nat) (o : ((Option Nat) × GS)) (ho : s7_plain ct G0 q0 = some o) : Met l yX7_plain (ws_ yX7_plain cX7_plain 1 (some (.object "HorizonSeam$Form"))) { frames := 4, cells := nmax ct - G0.2.1, slots := zmax ct - G0.2.2, locals := 104 } (mP D clW ct [.ref q0] G0.2.1 (MW D clW ck ct N ad P (fun _ => True) S w G0)) (yC (some (va_rf o.1)) (MW D clW ck ct N ad P (mA N ad G0) S w o.2) G0 o.2 (mA N ad G0)) (nmax ct - G0.2.1) (zmax ct - G0.2.2) (mA N ad G0) := by
  refine Y.start (val := fun (o : ((Option Nat) × GS)) => some (va_rf o.1)) (Bt := fun (o : ((Option Nat) × GS)) => MW D clW ck ct N ad P (mA N ad G0) S w o.2) (Go := fun (o : ((Option Nat) × GS)) => o.2) ho (by decide) (Nat.le_of_ble_eq_true rfl) (lv := [(0, .ref q0)]) rfl ?_
  intro p e s m args below meth c E hr hlk hnm hZ hU hS ls hl
  obtain ⟨⟨hx, hb, hml, hown, hts⟩, hK, hJ⟩ := id E
  replace hr : meth.sig.returnType = some (FieldType.object "HorizonSeam$Form") ∧ ((∃ n, (FieldType.object "HorizonSeam$Form") = .object n) ∨ ∃ t, (FieldType.object "HorizonSeam$Form") = .array t) := ⟨hr, Or.inl ⟨_, rfl⟩⟩
  unfold s7_plain
  refine x_aload_n hx hb dX7_plain_0 rfl (lv_at hl 0 rfl) ?_
  refine fx_getR E hU.1.1.2.1 (ci := 6) rfl in_X7 0 (by decide) (hts _ q1295) (fun _ h => h) dX7_plain_1 (fun r1 => ?_)
  refine X.onR (fun b2 hb_ => ?_)
  subst hb_
  refine kzX7_L_size E hZ hU hS ⟨Nat.le_of_ble_eq_true rfl, Nat.le_of_ble_eq_true rfl⟩ hl.1 (Nat.le_of_ble_eq_true rfl) dX7_plain_4 (fun o3 H locs hU hS => ?_)
  refine x_iconst (v := 1) hx hb dX7_plain_9 (by decide) ?_
  refine x_icmp_ne (tgt := 29) hx hb dX7_plain_10 (by decide) (fun hc => ?_) (fun hc => ?_)
  · refine x_aload_n hx hb dX7_plain_29 rfl (lv_at hl 0 rfl) ?_
    exact y_aret (r := (some q0)) hx hb hr hlk hZ hU hS rfl rfl hU.1 dX7_plain_30
  · refine x_aload_n hx hb dX7_plain_13 rfl (lv_at hl 0 rfl) ?_
    refine fx_getR E hU.1.1.2.1 (ci := 6) rfl in_X7 0 (by decide) (hts _ q1295) (fun _ h => h) dX7_plain_14 (fun r4 => ?_)
    refine x_iconst (v := 0) hx hb dX7_plain_17 (by decide) ?_
    refine X.onR (fun b5 hb_ => ?_)
    subst hb_
    refine kzX7_L_get E hZ hU hS ⟨Nat.le_of_ble_eq_true rfl, Nat.le_of_ble_eq_true rfl⟩ hl.1 (Nat.le_of_ble_eq_true rfl) dX7_plain_18 (fun o6 H locs hU hS => ?_)
    refine X.onR (fun b7 hb_ => ?_)
    subst hb_
    refine fx_castF E hU.1.1.2.1 (hts _ q519) dX7_plain_23 ?_
    refine x_goto (tgt := 30) hx hb dX7_plain_26 (by decide) ?_
    exact y_aret (r := (some b7)) hx hb hr hlk hZ hU hS rfl rfl hU.1 dX7_plain_30

set_option maxHeartbeats 4000000 in
theorem mY8_init (l : Launch) (D : va_G) (ct : CT) (ck : Nat → UC) (N : Nat) (ad : Nat → Nat) (P : Nat → Nat → Option Nat) (S : US) (w : Int64) (G0 : GS) (q0 : Nat) (p1 : Int32) (o : GS) (ho : s8_init ct G0 q0 p1 = some o) : Met l yX8_init (ws_ yX8_init cX8_init 2 none) { frames := 1, cells := nmax ct - G0.2.1, slots := zmax ct - G0.2.2, locals := 60 } (mP D clW ct [.ref q0, .int p1] G0.2.1 (MW D clW ck ct N ad P (fun _ => True) S w G0)) (yC (none) (MW D clW ck ct N ad P (mA N ad G0) S w o) G0 o (mA N ad G0)) (nmax ct - G0.2.1) (zmax ct - G0.2.2) (mA N ad G0) := by
  refine Y.start (val := fun (o : GS) => none) (Bt := fun (o : GS) => MW D clW ck ct N ad P (mA N ad G0) S w o) (Go := fun (o : GS) => o) ho (by decide) (Nat.le_of_ble_eq_true rfl) (lv := [(0, .ref q0), (1, .int p1)]) rfl ?_
  intro p e s m args below meth c E hr hlk hnm hZ hU hS ls hl
  obtain ⟨⟨hx, hb, hml, hown, hts⟩, hK, hJ⟩ := id E
  unfold s8_init
  refine x_aload_n hx hb dX8_init_0 rfl (lv_at hl 0 rfl) ?_
  refine gx_objInit E (hts _ q1270) (hts _ q155) (hts _ q156) ⟨Nat.le_of_ble_eq_true rfl, Nat.le_of_ble_eq_true rfl⟩ hl.1 (Nat.le_of_ble_eq_true rfl) dX8_init_1 ?_
  refine x_aload_n hx hb dX8_init_4 rfl (lv_at hl 0 rfl) ?_
  refine x_iload_n hx hb dX8_init_5 rfl (lv_at hl 1 rfl) ?_
  refine gy_put (v := .int p1) (ty0 := tyX8) E hU hS (ci := 7) rfl in_X8 tyX8_ok nmX8 0 (by decide) (hts _ q1271) (fun _ h => h) (Or.inr ⟨rfl, hnm, rfl⟩) rfl rfl dX8_init_6 (fun G1 H locs hU hS => ?_)
  exact y_vret hx hb hr hlk hZ hU hS rfl rfl hU.1 dX8_init_9

set_option maxHeartbeats 4000000 in
theorem mY9_init (l : Launch) (D : va_G) (ct : CT) (ck : Nat → UC) (N : Nat) (ad : Nat → Nat) (P : Nat → Nat → Option Nat) (S : US) (w : Int64) (G0 : GS) (q0 : Nat) (p1 : Int32) (o : GS) (ho : s9_init ct G0 q0 p1 = some o) : Met l yX9_init (ws_ yX9_init cX9_init 2 none) { frames := 1, cells := nmax ct - G0.2.1, slots := zmax ct - G0.2.2, locals := 60 } (mP D clW ct [.ref q0, .int p1] G0.2.1 (MW D clW ck ct N ad P (fun _ => True) S w G0)) (yC (none) (MW D clW ck ct N ad P (mA N ad G0) S w o) G0 o (mA N ad G0)) (nmax ct - G0.2.1) (zmax ct - G0.2.2) (mA N ad G0) := by
  refine Y.start (val := fun (o : GS) => none) (Bt := fun (o : GS) => MW D clW ck ct N ad P (mA N ad G0) S w o) (Go := fun (o : GS) => o) ho (by decide) (Nat.le_of_ble_eq_true rfl) (lv := [(0, .ref q0), (1, .int p1)]) rfl ?_
  intro p e s m args below meth c E hr hlk hnm hZ hU hS ls hl
  obtain ⟨⟨hx, hb, hml, hown, hts⟩, hK, hJ⟩ := id E
  unfold s9_init
  refine x_aload_n hx hb dX9_init_0 rfl (lv_at hl 0 rfl) ?_
  refine gx_objInit E (hts _ q1280) (hts _ q155) (hts _ q156) ⟨Nat.le_of_ble_eq_true rfl, Nat.le_of_ble_eq_true rfl⟩ hl.1 (Nat.le_of_ble_eq_true rfl) dX9_init_1 ?_
  refine x_aload_n hx hb dX9_init_4 rfl (lv_at hl 0 rfl) ?_
  refine x_iload_n hx hb dX9_init_5 rfl (lv_at hl 1 rfl) ?_
  refine gy_put (v := .int p1) (ty0 := tyX9) E hU hS (ci := 8) rfl in_X9 tyX9_ok nmX9 0 (by decide) (hts _ q1281) (fun _ h => h) (Or.inr ⟨rfl, hnm, rfl⟩) rfl rfl dX9_init_6 (fun G1 H locs hU hS => ?_)
  exact y_vret hx hb hr hlk hZ hU hS rfl rfl hU.1 dX9_init_9

set_option maxHeartbeats 4000000 in
theorem mY10_init (l : Launch) (D : va_G) (ct : CT) (ck : Nat → UC) (N : Nat) (ad : Nat → Nat) (P : Nat → Nat → Option Nat) (S : US) (w : Int64) (G0 : GS) (q0 : Nat) (p1 : (Option Nat)) (o : GS) (ho : s10_init ct G0 q0 p1 = some o) : Met l yX10_init (ws_ yX10_init cX10_init 2 none) { frames := 1, cells := nmax ct - G0.2.1, slots := zmax ct - G0.2.2, locals := 60 } (mP D clW ct [.ref q0, va_rf p1] G0.2.1 (MW D clW ck ct N ad P (fun _ => True) S w G0)) (yC (none) (MW D clW ck ct N ad P (mA N ad G0) S w o) G0 o (mA N ad G0)) (nmax ct - G0.2.1) (zmax ct - G0.2.2) (mA N ad G0) := by
  refine Y.start (val := fun (o : GS) => none) (Bt := fun (o : GS) => MW D clW ck ct N ad P (mA N ad G0) S w o) (Go := fun (o : GS) => o) ho (by decide) (by rcases p1 with _ | _ <;> exact Nat.le_of_ble_eq_true rfl) (lv := [(0, .ref q0), (1, va_rf p1)]) (by rcases p1 with _ | _ <;> rfl) ?_
  intro p e s m args below meth c E hr hlk hnm hZ hU hS ls hl
  obtain ⟨⟨hx, hb, hml, hown, hts⟩, hK, hJ⟩ := id E
  unfold s10_init
  refine x_aload_n hx hb dX10_init_0 rfl (lv_at hl 0 rfl) ?_
  refine gx_objInit E (hts _ q1320) (hts _ q155) (hts _ q156) ⟨Nat.le_of_ble_eq_true rfl, Nat.le_of_ble_eq_true rfl⟩ hl.1 (Nat.le_of_ble_eq_true rfl) dX10_init_1 ?_
  refine x_aload_n hx hb dX10_init_4 rfl (lv_at hl 0 rfl) ?_
  refine x_aload_nO hx hb dX10_init_5 rfl (lv_at hl 1 rfl) ?_
  refine gy_put (v := va_rf p1) (ty0 := tyX10) E hU hS (ci := 9) rfl in_X10 tyX10_ok nmX10 0 (by decide) (hts _ q1321) (fun _ h => h) (Or.inr ⟨rfl, hnm, rfl⟩) (by cases p1 <;> rfl) (by cases p1 <;> rfl) dX10_init_6 (fun G1 H locs hU hS => ?_)
  exact y_vret hx hb hr hlk hZ hU hS rfl rfl hU.1 dX10_init_9
