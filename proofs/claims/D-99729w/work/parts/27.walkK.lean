set_option maxRecDepth 100000
section HF
variable {ρ ρ' : Type} {p : Program} {l : Launch} {e : Env} {R : Room} {s : State} {m : MethodId} {args : Array Value} {below : List Frame} {meth : Method} {c : Code} {H : Heap} {locs : List Loc} {cells slots : Nat} {Qf : ρ → State → Prop} {sp : Option ρ}
variable {cc : ByteArray} {pc nL L : Nat} {ls : Array Slot} {rest : List Value}
variable {D : va_G} {ct : CT} {ad : Nat → Nat} {P : Nat → Nat → Option Nat} {A A0 : Nat → Prop} {S : US} {h : AH} {H0 : Heap}

end HF

set_option maxHeartbeats 4000000 in
theorem mY3_init (l : Launch) (D : va_G) (ct : CT) (ck : Nat → UC) (N : Nat) (ad : Nat → Nat) (P : Nat → Nat → Option Nat) (S : US) (w : Int64) (G0 : GS) (q0 : Nat) (p1 : (Option Nat)) (o : GS) (ho : s3_init ct G0 q0 p1 = some o) : Met l yX3_init (ws_ yX3_init cX3_init 3 none) { frames := 1, cells := nmax ct - G0.2.1, slots := zmax ct - G0.2.2, locals := 60 } (mP D clW ct [.ref q0, va_rf p1] G0.2.1 (MW D clW ck ct N ad P (fun _ => True) S w G0)) (yC (none) (MW D clW ck ct N ad P (mA N ad G0) S w o) G0 o (mA N ad G0)) (nmax ct - G0.2.1) (zmax ct - G0.2.2) (mA N ad G0) := by
  refine Y.start (val := fun (o : GS) => none) (Bt := fun (o : GS) => MW D clW ck ct N ad P (mA N ad G0) S w o) (Go := fun (o : GS) => o) ho (by decide) (by rcases p1 with _ | _ <;> exact Nat.le_of_ble_eq_true rfl) (lv := [(0, .ref q0), (1, va_rf p1)]) (by rcases p1 with _ | _ <;> rfl) ?_
  intro p e s m args below meth c E hr hlk hnm hZ hU hS ls hl
  obtain ⟨⟨hx, hb, hml, hown, hts⟩, hK, hJ⟩ := id E
  unfold s3_init
  refine x_aload_n hx hb dX3_init_0 rfl (lv_at hl 0 rfl) ?_
  refine x_aload_nO hx hb dX3_init_1 rfl (lv_at hl 1 rfl) ?_
  refine gy_put (v := va_rf p1) (ty0 := tyX3) E hU hS (ci := 3) rfl in_X3 tyX3_ok nmX3 7 (by decide) (hts _ q246) (fun _ h => h) (Or.inr ⟨rfl, hnm, rfl⟩) (by cases p1 <;> rfl) (by cases p1 <;> rfl) dX3_init_2 (fun G1 H locs hU hS => ?_)
  refine x_aload_n hx hb dX3_init_5 rfl (lv_at hl 0 rfl) ?_
  refine gx_objInit E (hts _ q227) (hts _ q155) (hts _ q156) ⟨Nat.le_of_ble_eq_true rfl, Nat.le_of_ble_eq_true rfl⟩ hl.1 (Nat.le_of_ble_eq_true rfl) dX3_init_6 ?_
  refine x_aload_n hx hb dX3_init_9 rfl (lv_at hl 0 rfl) ?_
  refine x_bipush (v := 12) hx hb dX3_init_10 (by decide) ?_
  refine gy_newa (atype := .int) (t := 0) (ty := .int) (x := .inl (fun _ => 0)) E hZ hU hS (hts _ q189) rfl rfl (fun h => h) (fun _ => rfl) (by decide) dX3_init_12 (fun q2 G3 H hU hS => ?_)
  refine gy_put (v := .ref q2) (ty0 := tyX3) E hU hS (ci := 3) rfl in_X3 tyX3_ok nmX3 0 (by decide) (hts _ q228) (fun _ h => h) (Or.inr ⟨rfl, hnm, rfl⟩) rfl rfl dX3_init_14 (fun G4 H locs hU hS => ?_)
  refine x_aload_n hx hb dX3_init_17 rfl (lv_at hl 0 rfl) ?_
  refine x_bipush (v := 12) hx hb dX3_init_18 (by decide) ?_
  refine gy_newa (atype := .int) (t := 0) (ty := .int) (x := .inl (fun _ => 0)) E hZ hU hS (hts _ q189) rfl rfl (fun h => h) (fun _ => rfl) (by decide) dX3_init_20 (fun q5 G6 H hU hS => ?_)
  refine gy_put (v := .ref q5) (ty0 := tyX3) E hU hS (ci := 3) rfl in_X3 tyX3_ok nmX3 1 (by decide) (hts _ q231) (fun _ h => h) (Or.inr ⟨rfl, hnm, rfl⟩) rfl rfl dX3_init_22 (fun G7 H locs hU hS => ?_)
  refine x_aload_n hx hb dX3_init_25 rfl (lv_at hl 0 rfl) ?_
  refine x_bipush (v := 12) hx hb dX3_init_26 (by decide) ?_
  refine gy_newa (atype := .int) (t := 0) (ty := .int) (x := .inl (fun _ => 0)) E hZ hU hS (hts _ q189) rfl rfl (fun h => h) (fun _ => rfl) (by decide) dX3_init_28 (fun q8 G9 H hU hS => ?_)
  refine gy_put (v := .ref q8) (ty0 := tyX3) E hU hS (ci := 3) rfl in_X3 tyX3_ok nmX3 2 (by decide) (hts _ q234) (fun _ h => h) (Or.inr ⟨rfl, hnm, rfl⟩) rfl rfl dX3_init_30 (fun G10 H locs hU hS => ?_)
  refine x_aload_n hx hb dX3_init_33 rfl (lv_at hl 0 rfl) ?_
  refine x_bipush (v := 6) hx hb dX3_init_34 (by decide) ?_
  refine gy_newa (atype := .int) (t := 0) (ty := .int) (x := .inl (fun _ => 0)) E hZ hU hS (hts _ q189) rfl rfl (fun h => h) (fun _ => rfl) (by decide) dX3_init_36 (fun q11 G12 H hU hS => ?_)
  refine gy_put (v := .ref q11) (ty0 := tyX3) E hU hS (ci := 3) rfl in_X3 tyX3_ok nmX3 3 (by decide) (hts _ q237) (fun _ h => h) (Or.inr ⟨rfl, hnm, rfl⟩) rfl rfl dX3_init_38 (fun G13 H locs hU hS => ?_)
  refine x_aload_n hx hb dX3_init_41 rfl (lv_at hl 0 rfl) ?_
  refine x_bipush (v := 6) hx hb dX3_init_42 (by decide) ?_
  refine gy_newa (atype := .int) (t := 0) (ty := .int) (x := .inl (fun _ => 0)) E hZ hU hS (hts _ q189) rfl rfl (fun h => h) (fun _ => rfl) (by decide) dX3_init_44 (fun q14 G15 H hU hS => ?_)
  refine gy_put (v := .ref q14) (ty0 := tyX3) E hU hS (ci := 3) rfl in_X3 tyX3_ok nmX3 4 (by decide) (hts _ q240) (fun _ h => h) (Or.inr ⟨rfl, hnm, rfl⟩) rfl rfl dX3_init_46 (fun G16 H locs hU hS => ?_)
  refine x_aload_n hx hb dX3_init_49 rfl (lv_at hl 0 rfl) ?_
  refine x_bipush (v := 12) hx hb dX3_init_50 (by decide) ?_
  refine gy_newa (atype := .int) (t := 0) (ty := .int) (x := .inl (fun _ => 0)) E hZ hU hS (hts _ q189) rfl rfl (fun h => h) (fun _ => rfl) (by decide) dX3_init_52 (fun q17 G18 H hU hS => ?_)
  refine gy_put (v := .ref q17) (ty0 := tyX3) E hU hS (ci := 3) rfl in_X3 tyX3_ok nmX3 5 (by decide) (hts _ q243) (fun _ h => h) (Or.inr ⟨rfl, hnm, rfl⟩) rfl rfl dX3_init_54 (fun G19 H locs hU hS => ?_)
  refine x_iconst (v := 0) hx hb dX3_init_57 (by decide) ?_
  refine x_istore_n (lv' := [(2, .int (0 : Int32)), (0, .ref q0), (1, va_rf p1)]) hx hb dX3_init_58 rfl hl (by decide) (by rcases p1 with _ | _ <;> rfl) (fun ls hl => ?_)
  refine X.loopY (I := fun (x : (GS × Int32)) g H locs => YW D clW ck ct N ad P (mA N ad G0) S w G0 x.1 H ∧ va_S (mA N ad G0) s.heap H locs ∧ ∃ ls : Array Slot, g = F0 m 59 ls [] ∧ lv_has ls 3 [(0, .ref q0), (2, .int x.2)]) (cf := (fun (x : (GS × Int32)) => x.1.2.1 - G0.2.1)) (sf := (fun (x : (GS × Int32)) => x.1.2.2 - G0.2.2)) (fun rc22 ih22 => ?_) FUEL (G19, (0 : Int32)) _ _ _ ⟨hU, hS, _, rfl, lv_sub hl [1, 0] rfl⟩
  rintro ⟨G20, v21⟩ _ H locs ⟨hU, hS, ls, rfl, hl⟩
  have hU : YW D clW ck ct N ad P (mA N ad G0) S w G0 G20 H := hU
  have hl : lv_has ls 3 [(0, .ref q0), (2, .int v21)] := hl
  refine X.cs (cells2 := G20.2.1 - G0.2.1) (slots2 := G20.2.2 - G0.2.2) rfl rfl ?_
  refine X.eqs (sp2 := s3_init_L59 q0 rc22 G20 v21) rfl ?_
  unfold s3_init_L59
  refine x_iload_n hx hb dX3_init_59 rfl (lv_at hl 1 rfl) ?_
  refine x_iconst (v := 3) hx hb dX3_init_60 (by decide) ?_
  refine x_icmp_ge (tgt := 78) hx hb dX3_init_61 (by decide) (fun hc => ?_) (fun hc => ?_)
  · exact y_vret hx hb hr hlk hZ hU hS rfl rfl hU.1 dX3_init_78
  · refine x_aload_n hx hb dX3_init_64 rfl (lv_at hl 0 rfl) ?_
    refine fx_getR E hU.1.1.2.1 (ci := 3) rfl in_X3 1 (by decide) (hts _ q231) (fun _ h => h) dX3_init_65 (fun r23 => ?_)
    refine x_iload_n hx hb dX3_init_68 rfl (lv_at hl 1 rfl) ?_
    refine x_bipush (v := 50) hx hb dX3_init_69 (by decide) ?_
    refine X.onR (fun b24 hb_ => ?_)
    subst hb_
    refine gy_iast E hU hS dX3_init_71 (fun G25 H locs hU hS => ?_)
    refine x_iinc (v := (v21 + (1 : Int32))) (lv' := [(2, .int (v21 + (1 : Int32))), (0, .ref q0)]) (k := 1) hx hb dX3_init_72 hl rfl rfl (by decide) rfl (fun ls hl => ?_)
    refine x_goto (tgt := 59) hx hb dX3_init_75 (by decide) ?_
    exact ih22 (G25, (v21 + (1 : Int32))) _ _ _ ⟨hU, hS, _, rfl, lv_sub hl [1, 0] rfl⟩
section KZ
variable {ρ : Type} {p : Program} {l : Launch} {e : Env} {R : Room} {s : State} {m : MethodId} {args : Array Value} {below : List Frame} {meth : Method} {c : Code} {H : Heap} {locs : List Loc} {Qf : ρ → State → Prop}
variable {cc : ByteArray} {pc nL L M q0 : Nat} {ls : Array Slot} {rest : List Value}
variable {D : va_G} {ct : CT} {ck : Nat → UC} {N : Nat} {ad : Nat → Nat} {P : Nat → Nat → Option Nat} {A : Nat → Prop} {S : US} {w : Int64} {G0 G : GS}
theorem kzX1_3_init {p1 : (Option Nat)} (E : ME p m c cc nL s args RX1 D clW ct) (hZ : YC ct R s A G0) (hY : YW D clW ck ct N ad P A S w G0 G H) (hS : va_S A s.heap H locs) (hR : 1 + 1 ≤ R.frames ∧ 8 + (3 + 11) + 60 ≤ R.locals) (hsize : ls.size = nL) (hW : (rest.map fun v => v.category).sum ≤ 8) (hdg : decode cc pc = .ok (.invokespecial 37, 3)) {kp : GS → Option ρ} (kk : ∀ (o : GS) (H1 : Heap) (locs1 : List Loc), YW D clW ck ct N ad P A S w G0 o H1 → va_S A s.heap H1 locs1 → X p l e R s m args below meth c H1 locs1 (o.2.1 - G0.2.1) (o.2.2 - G0.2.2) Qf (kp o) (F0 m (pc + 3) ls (rest))) : X p l e R s m args below meth c H locs (G.2.1 - G0.2.1) (G.2.2 - G0.2.2) Qf (callK (s3_init ct G q0 p1) kp) (F0 m pc ls (va_rf p1 :: .ref q0 :: rest)) := gy_mx (val' := fun (o : GS) => none) (len := 3) (So := fun (o : GS) => S) (Po := fun (o : GS) => P) (Gn := fun (o : GS) => o) hZ hY hS (fun o ho => rqI (As := [va_rf p1]) E hY.1.any (by rw [hY.1.2.1]; exact mY3_init l D ct ck N ad P S w G q0 p1 o ho) ⟨callB_of 1 E.1.2.2.2.2 (lw_meth q226) rfl rfl rfl (E.1.2.2.2.2 _ q118) (E.1.2.2.2.2 _ q224) (by decide +kernel) hR, rfl, E.1.2.2.2.2 _ q225⟩ rfl hsize rfl hW hdg (hY.room hZ)) kk
theorem kzX3_3_init {p1 : (Option Nat)} (E : ME p m c cc nL s args RX3 D clW ct) (hZ : YC ct R s A G0) (hY : YW D clW ck ct N ad P A S w G0 G H) (hS : va_S A s.heap H locs) (hR : 1 + 1 ≤ R.frames ∧ 8 + (3 + 11) + 60 ≤ R.locals) (hsize : ls.size = nL) (hW : (rest.map fun v => v.category).sum ≤ 8) (hdg : decode cc pc = .ok (.invokespecial 34, 3)) {kp : GS → Option ρ} (kk : ∀ (o : GS) (H1 : Heap) (locs1 : List Loc), YW D clW ck ct N ad P A S w G0 o H1 → va_S A s.heap H1 locs1 → X p l e R s m args below meth c H1 locs1 (o.2.1 - G0.2.1) (o.2.2 - G0.2.2) Qf (kp o) (F0 m (pc + 3) ls (rest))) : X p l e R s m args below meth c H locs (G.2.1 - G0.2.1) (G.2.2 - G0.2.2) Qf (callK (s3_init ct G q0 p1) kp) (F0 m pc ls (va_rf p1 :: .ref q0 :: rest)) := gy_mx (val' := fun (o : GS) => none) (len := 3) (So := fun (o : GS) => S) (Po := fun (o : GS) => P) (Gn := fun (o : GS) => o) hZ hY hS (fun o ho => rqI (As := [va_rf p1]) E hY.1.any (by rw [hY.1.2.1]; exact mY3_init l D ct ck N ad P S w G q0 p1 o ho) ⟨callB_of 1 E.1.2.2.2.2 (lw_meth q226) rfl rfl rfl (E.1.2.2.2.2 _ q118) (E.1.2.2.2.2 _ q344) (by decide +kernel) hR, rfl, E.1.2.2.2.2 _ q225⟩ rfl hsize rfl hW hdg (hY.room hZ)) kk
theorem kzX5_3_init {p1 : (Option Nat)} (E : ME p m c cc nL s args RX5 D clW ct) (hZ : YC ct R s A G0) (hY : YW D clW ck ct N ad P A S w G0 G H) (hS : va_S A s.heap H locs) (hR : 1 + 1 ≤ R.frames ∧ 8 + (3 + 11) + 60 ≤ R.locals) (hsize : ls.size = nL) (hW : (rest.map fun v => v.category).sum ≤ 8) (hdg : decode cc pc = .ok (.invokespecial 24, 3)) {kp : GS → Option ρ} (kk : ∀ (o : GS) (H1 : Heap) (locs1 : List Loc), YW D clW ck ct N ad P A S w G0 o H1 → va_S A s.heap H1 locs1 → X p l e R s m args below meth c H1 locs1 (o.2.1 - G0.2.1) (o.2.2 - G0.2.2) Qf (kp o) (F0 m (pc + 3) ls (rest))) : X p l e R s m args below meth c H locs (G.2.1 - G0.2.1) (G.2.2 - G0.2.2) Qf (callK (s3_init ct G q0 p1) kp) (F0 m pc ls (va_rf p1 :: .ref q0 :: rest)) := gy_mx (val' := fun (o : GS) => none) (len := 3) (So := fun (o : GS) => S) (Po := fun (o : GS) => P) (Gn := fun (o : GS) => o) hZ hY hS (fun o ho => rqI (As := [va_rf p1]) E hY.1.any (by rw [hY.1.2.1]; exact mY3_init l D ct ck N ad P S w G q0 p1 o ho) ⟨callB_of 1 E.1.2.2.2.2 (lw_meth q226) rfl rfl rfl (E.1.2.2.2.2 _ q118) (E.1.2.2.2.2 _ q775) (by decide +kernel) hR, rfl, E.1.2.2.2.2 _ q225⟩ rfl hsize rfl hW hdg (hY.room hZ)) kk
end KZ

set_option maxHeartbeats 4000000 in
theorem mY2_init (l : Launch) (D : va_G) (ct : CT) (ck : Nat → UC) (N : Nat) (ad : Nat → Nat) (P : Nat → Nat → Option Nat) (S : US) (w : Int64) (G0 : GS) (q0 : Nat) (o : GS) (ho : s2_init ct G0 q0 = some o) : Met l yX2_init (ws_ yX2_init cX2_init 1 none) { frames := 4, cells := nmax ct - G0.2.1, slots := zmax ct - G0.2.2, locals := 120 } (mP D clW ct [.ref q0] G0.2.1 (MW D clW ck ct N ad P (fun _ => True) S w G0)) (yC (none) (MW D clW ck ct N ad P (mA N ad G0) S w o) G0 o (mA N ad G0)) (nmax ct - G0.2.1) (zmax ct - G0.2.2) (mA N ad G0) := by
  refine Y.start (val := fun (o : GS) => none) (Bt := fun (o : GS) => MW D clW ck ct N ad P (mA N ad G0) S w o) (Go := fun (o : GS) => o) ho (by decide) (Nat.le_of_ble_eq_true rfl) (lv := [(0, .ref q0)]) rfl ?_
  intro p e s m args below meth c E hr hlk hnm hZ hU hS ls hl
  obtain ⟨⟨hx, hb, hml, hown, hts⟩, hK, hJ⟩ := id E
  unfold s2_init
  refine x_aload_n hx hb dX2_init_0 rfl (lv_at hl 0 rfl) ?_
  refine gx_objInit E (hts _ q162) (hts _ q155) (hts _ q156) ⟨Nat.le_of_ble_eq_true rfl, Nat.le_of_ble_eq_true rfl⟩ hl.1 (Nat.le_of_ble_eq_true rfl) dX2_init_1 ?_
  refine x_aload_n hx hb dX2_init_4 rfl (lv_at hl 0 rfl) ?_
  refine gy_new (ty := tyJ2) E hZ hU hS in_J2 tyJ2_ok (hts _ q163) (hts _ q164) (hts _ q117) (ci := 10) rfl (by decide) dX2_init_5 (fun q1 G2 H hU hS => ?_)
  refine x_dup hx hb dX2_init_8 rfl ?_
  refine kzX2_L_init E hZ hU hS ⟨Nat.le_of_ble_eq_true rfl, Nat.le_of_ble_eq_true rfl⟩ hl.1 (Nat.le_of_ble_eq_true rfl) dX2_init_9 (fun o3 H locs hU hS => ?_)
  refine gy_put (v := .ref q1) (ty0 := tyX2) E hU hS (ci := 2) rfl in_X2 tyX2_ok nmX2 0 (by decide) (hts _ q190) (fun _ h => h) (Or.inr ⟨rfl, hnm, rfl⟩) rfl rfl dX2_init_12 (fun G4 H locs hU hS => ?_)
  refine x_aload_n hx hb dX2_init_15 rfl (lv_at hl 0 rfl) ?_
  refine gy_new (ty := tyJ2) E hZ hU hS in_J2 tyJ2_ok (hts _ q163) (hts _ q164) (hts _ q117) (ci := 10) rfl (by decide) dX2_init_16 (fun q5 G6 H hU hS => ?_)
  refine x_dup hx hb dX2_init_19 rfl ?_
  refine kzX2_L_init E hZ hU hS ⟨Nat.le_of_ble_eq_true rfl, Nat.le_of_ble_eq_true rfl⟩ hl.1 (Nat.le_of_ble_eq_true rfl) dX2_init_20 (fun o7 H locs hU hS => ?_)
  refine gy_put (v := .ref q5) (ty0 := tyX2) E hU hS (ci := 2) rfl in_X2 tyX2_ok nmX2 1 (by decide) (hts _ q194) (fun _ h => h) (Or.inr ⟨rfl, hnm, rfl⟩) rfl rfl dX2_init_23 (fun G8 H locs hU hS => ?_)
  refine x_aload_n hx hb dX2_init_26 rfl (lv_at hl 0 rfl) ?_
  refine x_iconst (v := 3) hx hb dX2_init_27 (by decide) ?_
  refine gy_put (v := .int (3 : Int32)) (ty0 := tyX2) E hU hS (ci := 2) rfl in_X2 tyX2_ok nmX2 2 (by decide) (hts _ q197) (fun _ h => h) (Or.inl rfl) rfl rfl dX2_init_28 (fun G9 H locs hU hS => ?_)
  refine x_aload_n hx hb dX2_init_31 rfl (lv_at hl 0 rfl) ?_
  refine x_bipush (v := 7) hx hb dX2_init_32 (by decide) ?_
  refine gy_put (v := .int (7 : Int32)) (ty0 := tyX2) E hU hS (ci := 2) rfl in_X2 tyX2_ok nmX2 3 (by decide) (hts _ q201) (fun _ h => h) (Or.inl rfl) rfl rfl dX2_init_34 (fun G10 H locs hU hS => ?_)
  exact y_vret hx hb hr hlk hZ hU hS rfl rfl hU.1 dX2_init_37
section KZ
variable {ρ : Type} {p : Program} {l : Launch} {e : Env} {R : Room} {s : State} {m : MethodId} {args : Array Value} {below : List Frame} {meth : Method} {c : Code} {H : Heap} {locs : List Loc} {Qf : ρ → State → Prop}
variable {cc : ByteArray} {pc nL L M q0 : Nat} {ls : Array Slot} {rest : List Value}
variable {D : va_G} {ct : CT} {ck : Nat → UC} {N : Nat} {ad : Nat → Nat} {P : Nat → Nat → Option Nat} {A : Nat → Prop} {S : US} {w : Int64} {G0 G : GS}
theorem kzX1_2_init (E : ME p m c cc nL s args RX1 D clW ct) (hZ : YC ct R s A G0) (hY : YW D clW ck ct N ad P A S w G0 G H) (hS : va_S A s.heap H locs) (hR : 4 + 1 ≤ R.frames ∧ 8 + (1 + 11) + 120 ≤ R.locals) (hsize : ls.size = nL) (hW : (rest.map fun v => v.category).sum ≤ 8) (hdg : decode cc pc = .ok (.invokespecial 30, 3)) {kp : GS → Option ρ} (kk : ∀ (o : GS) (H1 : Heap) (locs1 : List Loc), YW D clW ck ct N ad P A S w G0 o H1 → va_S A s.heap H1 locs1 → X p l e R s m args below meth c H1 locs1 (o.2.1 - G0.2.1) (o.2.2 - G0.2.2) Qf (kp o) (F0 m (pc + 3) ls (rest))) : X p l e R s m args below meth c H locs (G.2.1 - G0.2.1) (G.2.2 - G0.2.2) Qf (callK (s2_init ct G q0) kp) (F0 m pc ls (.ref q0 :: rest)) := gy_mx (val' := fun (o : GS) => none) (len := 3) (So := fun (o : GS) => S) (Po := fun (o : GS) => P) (Gn := fun (o : GS) => o) hZ hY hS (fun o ho => rqIN (As := []) E hY.1.any (by rw [hY.1.2.1]; exact mY2_init l D ct ck N ad P S w G q0 o ho) ⟨va_cnB 0 E.1.2.2.2.2 (lw_meth q161) rfl rfl rfl (E.2.2.nw q159 rfl) (E.1.2.2.2.2 _ q114) (by decide +kernel) hR, rfl, E.1.2.2.2.2 _ q160⟩ rfl hsize rfl hW hdg (hY.room hZ)) kk
theorem kzX5_2_init (E : ME p m c cc nL s args RX5 D clW ct) (hZ : YC ct R s A G0) (hY : YW D clW ck ct N ad P A S w G0 G H) (hS : va_S A s.heap H locs) (hR : 4 + 1 ≤ R.frames ∧ 8 + (1 + 11) + 120 ≤ R.locals) (hsize : ls.size = nL) (hW : (rest.map fun v => v.category).sum ≤ 8) (hdg : decode cc pc = .ok (.invokespecial 17, 3)) {kp : GS → Option ρ} (kk : ∀ (o : GS) (H1 : Heap) (locs1 : List Loc), YW D clW ck ct N ad P A S w G0 o H1 → va_S A s.heap H1 locs1 → X p l e R s m args below meth c H1 locs1 (o.2.1 - G0.2.1) (o.2.2 - G0.2.2) Qf (kp o) (F0 m (pc + 3) ls (rest))) : X p l e R s m args below meth c H locs (G.2.1 - G0.2.1) (G.2.2 - G0.2.2) Qf (callK (s2_init ct G q0) kp) (F0 m pc ls (.ref q0 :: rest)) := gy_mx (val' := fun (o : GS) => none) (len := 3) (So := fun (o : GS) => S) (Po := fun (o : GS) => P) (Gn := fun (o : GS) => o) hZ hY hS (fun o ho => rqIN (As := []) E hY.1.any (by rw [hY.1.2.1]; exact mY2_init l D ct ck N ad P S w G q0 o ho) ⟨va_cnB 0 E.1.2.2.2.2 (lw_meth q161) rfl rfl rfl (E.2.2.nw q773 rfl) (E.1.2.2.2.2 _ q114) (by decide +kernel) hR, rfl, E.1.2.2.2.2 _ q160⟩ rfl hsize rfl hW hdg (hY.room hZ)) kk
end KZ

set_option maxHeartbeats 4000000 in
theorem mY3_beF (l : Launch) (D : va_G) (ct : CT) (ck : Nat → UC) (N : Nat) (ad : Nat → Nat) (P : Nat → Nat → Option Nat) (S : US) (w : Int64) (G0 : GS) (q0 : Nat) (p1 : (Option Nat)) (o : ((Option Nat) × GS)) (ho : s3_beF ct G0 q0 p1 = some o) : Met l yX3_be (ws_ yX3_be cX3_be 3 (some (.object "HorizonSeam$Line"))) { frames := 1, cells := nmax ct - G0.2.1, slots := zmax ct - G0.2.2, locals := 60 } (mP D clW ct [.ref q0, va_rf p1] G0.2.1 (MW D clW ck ct N ad P (fun _ => True) S w G0)) (yC (some (va_rf o.1)) (MW D clW ck ct N ad P (mA N ad G0) S w o.2) G0 o.2 (mA N ad G0)) (nmax ct - G0.2.1) (zmax ct - G0.2.2) (mA N ad G0) := by
  refine Y.start (val := fun (o : ((Option Nat) × GS)) => some (va_rf o.1)) (Bt := fun (o : ((Option Nat) × GS)) => MW D clW ck ct N ad P (mA N ad G0) S w o.2) (Go := fun (o : ((Option Nat) × GS)) => o.2) ho (by decide) (by rcases p1 with _ | _ <;> exact Nat.le_of_ble_eq_true rfl) (lv := [(0, .ref q0), (1, va_rf p1)]) (by rcases p1 with _ | _ <;> rfl) ?_
  intro p e s m args below meth c E hr hlk hnm hZ hU hS ls hl
  obtain ⟨⟨hx, hb, hml, hown, hts⟩, hK, hJ⟩ := id E
  replace hr : meth.sig.returnType = some (FieldType.object "HorizonSeam$Line") ∧ ((∃ n, (FieldType.object "HorizonSeam$Line") = .object n) ∨ ∃ t, (FieldType.object "HorizonSeam$Line") = .array t) := ⟨hr, Or.inl ⟨_, rfl⟩⟩
  unfold s3_beF
  refine x_iconst (v := 0) hx hb dX3_be_0 (by decide) ?_
  refine x_istore_n (lv' := [(2, .int (0 : Int32)), (0, .ref q0), (1, va_rf p1)]) hx hb dX3_be_1 rfl hl (by decide) (by rcases p1 with _ | _ <;> rfl) (fun ls hl => ?_)
  refine X.loopY (I := fun (x : (GS × Int32)) g H locs => YW D clW ck ct N ad P (mA N ad G0) S w G0 x.1 H ∧ va_S (mA N ad G0) s.heap H locs ∧ ∃ ls : Array Slot, g = F0 m 2 ls [] ∧ lv_has ls 3 [(0, .ref q0), (1, va_rf p1), (2, .int x.2)]) (cf := (fun (x : (GS × Int32)) => x.1.2.1 - G0.2.1)) (sf := (fun (x : (GS × Int32)) => x.1.2.2 - G0.2.2)) (fun rc3 ih3 => ?_) FUEL (G0, (0 : Int32)) _ _ _ ⟨hU, hS, _, rfl, lv_sub hl [1, 2, 0] rfl⟩
  rintro ⟨G1, v2⟩ _ H locs ⟨hU, hS, ls, rfl, hl⟩
  have hU : YW D clW ck ct N ad P (mA N ad G0) S w G0 G1 H := hU
  have hl : lv_has ls 3 [(0, .ref q0), (1, va_rf p1), (2, .int v2)] := hl
  refine X.cs (cells2 := G1.2.1 - G0.2.1) (slots2 := G1.2.2 - G0.2.2) rfl rfl ?_
  refine X.eqs (sp2 := s3_beF_L2 q0 p1 rc3 G1 v2) rfl ?_
  unfold s3_beF_L2
  refine x_iload_n hx hb dX3_be_2 rfl (lv_at hl 2 rfl) ?_
  refine x_bipush (v := 12) hx hb dX3_be_3 (by decide) ?_
  refine x_icmp_ge (tgt := 50) hx hb dX3_be_5 (by decide) (fun hc => ?_) (fun hc => ?_)
  · refine x_iconst (v := 0) hx hb dX3_be_50 (by decide) ?_
    refine x_istore_n (lv' := [(2, .int (0 : Int32)), (0, .ref q0), (1, va_rf p1)]) hx hb dX3_be_51 rfl hl (by decide) (by rcases p1 with _ | _ <;> rfl) (fun ls hl => ?_)
    refine X.loopY (I := fun (x : (GS × Int32)) g H locs => YW D clW ck ct N ad P (mA N ad G0) S w G0 x.1 H ∧ va_S (mA N ad G0) s.heap H locs ∧ ∃ ls : Array Slot, g = F0 m 52 ls [] ∧ lv_has ls 3 [(0, .ref q0), (1, va_rf p1), (2, .int x.2)]) (cf := (fun (x : (GS × Int32)) => x.1.2.1 - G0.2.1)) (sf := (fun (x : (GS × Int32)) => x.1.2.2 - G0.2.2)) (fun rc6 ih6 => ?_) FUEL (G1, (0 : Int32)) _ _ _ ⟨hU, hS, _, rfl, lv_sub hl [1, 2, 0] rfl⟩
    rintro ⟨G4, v5⟩ _ H locs ⟨hU, hS, ls, rfl, hl⟩
    have hU : YW D clW ck ct N ad P (mA N ad G0) S w G0 G4 H := hU
    have hl : lv_has ls 3 [(0, .ref q0), (1, va_rf p1), (2, .int v5)] := hl
    refine X.cs (cells2 := G4.2.1 - G0.2.1) (slots2 := G4.2.2 - G0.2.2) rfl rfl ?_
    refine X.eqs (sp2 := s3_beF_L52 q0 p1 rc6 G4 v5) rfl ?_
    unfold s3_beF_L52
    refine x_iload_n hx hb dX3_be_52 rfl (lv_at hl 2 rfl) ?_
    refine x_bipush (v := 6) hx hb dX3_be_53 (by decide) ?_
    refine x_icmp_ge (tgt := 88) hx hb dX3_be_55 (by decide) (fun hc => ?_) (fun hc => ?_)
    · refine x_aload_n hx hb dX3_be_88 rfl (lv_at hl 0 rfl) ?_
      refine x_aload_nO hx hb dX3_be_89 rfl (lv_at hl 1 rfl) ?_
      refine X.onR (fun b7 hb_ => ?_)
      subst hb_
      refine fx_getI E hU.1.1.2.1 (ci := 3) rfl in_X3 6 (by decide) (hts _ q244) (fun _ h => h) dX3_be_90 (fun v8 => ?_)
      refine gy_put (v := .int v8) (ty0 := tyX3) E hU hS (ci := 3) rfl in_X3 tyX3_ok nmX3 6 (by decide) (hts _ q244) (fun _ h => h) (Or.inl rfl) rfl rfl dX3_be_93 (fun G9 H locs hU hS => ?_)
      refine x_aload_n hx hb dX3_be_96 rfl (lv_at hl 0 rfl) ?_
      exact y_aret (r := (some q0)) hx hb hr hlk hZ hU hS rfl rfl hU.1 dX3_be_97
    · refine x_aload_n hx hb dX3_be_58 rfl (lv_at hl 0 rfl) ?_
      refine fx_getR E hU.1.1.2.1 (ci := 3) rfl in_X3 3 (by decide) (hts _ q237) (fun _ h => h) dX3_be_59 (fun r10 => ?_)
      refine x_iload_n hx hb dX3_be_62 rfl (lv_at hl 2 rfl) ?_
      refine x_aload_nO hx hb dX3_be_63 rfl (lv_at hl 1 rfl) ?_
      refine X.onR (fun b11 hb_ => ?_)
      subst hb_
      refine fx_getR E hU.1.1.2.1 (ci := 3) rfl in_X3 3 (by decide) (hts _ q237) (fun _ h => h) dX3_be_64 (fun r12 => ?_)
      refine x_iload_n hx hb dX3_be_67 rfl (lv_at hl 2 rfl) ?_
      refine X.onR (fun b13 hb_ => ?_)
      subst hb_
      refine fx_iaload E hU.1.1.2.1 dX3_be_68 (fun v14 => ?_)
      refine X.onR (fun b15 hb_ => ?_)
      subst hb_
      refine gy_iast E hU hS dX3_be_69 (fun G16 H locs hU hS => ?_)
      refine x_aload_n hx hb dX3_be_70 rfl (lv_at hl 0 rfl) ?_
      refine fx_getR E hU.1.1.2.1 (ci := 3) rfl in_X3 4 (by decide) (hts _ q240) (fun _ h => h) dX3_be_71 (fun r17 => ?_)
      refine x_iload_n hx hb dX3_be_74 rfl (lv_at hl 2 rfl) ?_
      refine x_aload_n hx hb dX3_be_75 rfl (lv_at hl 1 rfl) ?_
      refine fx_getR E hU.1.1.2.1 (ci := 3) rfl in_X3 4 (by decide) (hts _ q240) (fun _ h => h) dX3_be_76 (fun r18 => ?_)
      refine x_iload_n hx hb dX3_be_79 rfl (lv_at hl 2 rfl) ?_
      refine X.onR (fun b19 hb_ => ?_)
      subst hb_
      refine fx_iaload E hU.1.1.2.1 dX3_be_80 (fun v20 => ?_)
      refine X.onR (fun b21 hb_ => ?_)
      subst hb_
      refine gy_iast E hU hS dX3_be_81 (fun G22 H locs hU hS => ?_)
      refine x_iinc (v := (v5 + (1 : Int32))) (lv' := [(2, .int (v5 + (1 : Int32))), (0, .ref q0), (1, .ref b11)]) (k := 2) hx hb dX3_be_82 hl rfl rfl (by decide) rfl (fun ls hl => ?_)
      refine x_goto (tgt := 52) hx hb dX3_be_85 (by decide) ?_
      exact ih6 (G22, (v5 + (1 : Int32))) _ _ _ ⟨hU, hS, _, rfl, lv_sub hl [1, 2, 0] rfl⟩
  · refine x_aload_n hx hb dX3_be_8 rfl (lv_at hl 0 rfl) ?_
    refine fx_getR E hU.1.1.2.1 (ci := 3) rfl in_X3 0 (by decide) (hts _ q228) (fun _ h => h) dX3_be_9 (fun r23 => ?_)
    refine x_iload_n hx hb dX3_be_12 rfl (lv_at hl 2 rfl) ?_
    refine x_aload_nO hx hb dX3_be_13 rfl (lv_at hl 1 rfl) ?_
    refine X.onR (fun b24 hb_ => ?_)
    subst hb_
    refine fx_getR E hU.1.1.2.1 (ci := 3) rfl in_X3 0 (by decide) (hts _ q228) (fun _ h => h) dX3_be_14 (fun r25 => ?_)
    refine x_iload_n hx hb dX3_be_17 rfl (lv_at hl 2 rfl) ?_
    refine X.onR (fun b26 hb_ => ?_)
    subst hb_
    refine fx_iaload E hU.1.1.2.1 dX3_be_18 (fun v27 => ?_)
    refine X.onR (fun b28 hb_ => ?_)
    subst hb_
    refine gy_iast E hU hS dX3_be_19 (fun G29 H locs hU hS => ?_)
    refine x_aload_n hx hb dX3_be_20 rfl (lv_at hl 0 rfl) ?_
    refine fx_getR E hU.1.1.2.1 (ci := 3) rfl in_X3 1 (by decide) (hts _ q231) (fun _ h => h) dX3_be_21 (fun r30 => ?_)
    refine x_iload_n hx hb dX3_be_24 rfl (lv_at hl 2 rfl) ?_
    refine x_aload_n hx hb dX3_be_25 rfl (lv_at hl 1 rfl) ?_
    refine fx_getR E hU.1.1.2.1 (ci := 3) rfl in_X3 1 (by decide) (hts _ q231) (fun _ h => h) dX3_be_26 (fun r31 => ?_)
    refine x_iload_n hx hb dX3_be_29 rfl (lv_at hl 2 rfl) ?_
    refine X.onR (fun b32 hb_ => ?_)
    subst hb_
    refine fx_iaload E hU.1.1.2.1 dX3_be_30 (fun v33 => ?_)
    refine X.onR (fun b34 hb_ => ?_)
    subst hb_
    refine gy_iast E hU hS dX3_be_31 (fun G35 H locs hU hS => ?_)
    refine x_aload_n hx hb dX3_be_32 rfl (lv_at hl 0 rfl) ?_
    refine fx_getR E hU.1.1.2.1 (ci := 3) rfl in_X3 2 (by decide) (hts _ q234) (fun _ h => h) dX3_be_33 (fun r36 => ?_)
    refine x_iload_n hx hb dX3_be_36 rfl (lv_at hl 2 rfl) ?_
    refine x_aload_n hx hb dX3_be_37 rfl (lv_at hl 1 rfl) ?_
    refine fx_getR E hU.1.1.2.1 (ci := 3) rfl in_X3 2 (by decide) (hts _ q234) (fun _ h => h) dX3_be_38 (fun r37 => ?_)
    refine x_iload_n hx hb dX3_be_41 rfl (lv_at hl 2 rfl) ?_
    refine X.onR (fun b38 hb_ => ?_)
    subst hb_
    refine fx_iaload E hU.1.1.2.1 dX3_be_42 (fun v39 => ?_)
    refine X.onR (fun b40 hb_ => ?_)
    subst hb_
    refine gy_iast E hU hS dX3_be_43 (fun G41 H locs hU hS => ?_)
    refine x_iinc (v := (v2 + (1 : Int32))) (lv' := [(2, .int (v2 + (1 : Int32))), (0, .ref q0), (1, .ref b24)]) (k := 2) hx hb dX3_be_44 hl rfl rfl (by decide) rfl (fun ls hl => ?_)
    refine x_goto (tgt := 2) hx hb dX3_be_47 (by decide) ?_
    exact ih3 (G41, (v2 + (1 : Int32))) _ _ _ ⟨hU, hS, _, rfl, lv_sub hl [1, 2, 0] rfl⟩
section KZ
variable {ρ : Type} {p : Program} {l : Launch} {e : Env} {R : Room} {s : State} {m : MethodId} {args : Array Value} {below : List Frame} {meth : Method} {c : Code} {H : Heap} {locs : List Loc} {Qf : ρ → State → Prop}
variable {cc : ByteArray} {pc nL L M q0 : Nat} {ls : Array Slot} {rest : List Value}
variable {D : va_G} {ct : CT} {ck : Nat → UC} {N : Nat} {ad : Nat → Nat} {P : Nat → Nat → Option Nat} {A : Nat → Prop} {S : US} {w : Int64} {G0 G : GS}
theorem kzX1_3_beF {p1 : (Option Nat)} (E : ME p m c cc nL s args RX1 D clW ct) (hZ : YC ct R s A G0) (hY : YW D clW ck ct N ad P A S w G0 G H) (hS : va_S A s.heap H locs) (hR : 1 + 1 ≤ R.frames ∧ 8 + (3 + 11) + 60 ≤ R.locals) (hsize : ls.size = nL) (hW : (rest.map fun v => v.category).sum ≤ 8) (hdg : decode cc pc = .ok (.invokevirtual 224, 3)) {kp : ((Option Nat) × GS) → Option ρ} (kk : ∀ (o : ((Option Nat) × GS)) (H1 : Heap) (locs1 : List Loc), YW D clW ck ct N ad P A S w G0 o.2 H1 → va_S A s.heap H1 locs1 → X p l e R s m args below meth c H1 locs1 (o.2.2.1 - G0.2.1) (o.2.2.2 - G0.2.2) Qf (kp o) (F0 m (pc + 3) ls (va_rf o.1 :: rest))) : X p l e R s m args below meth c H locs (G.2.1 - G0.2.1) (G.2.2 - G0.2.2) Qf (hC G.1 q0 3 (callK (s3_beF ct G q0 p1) kp)) (F0 m pc ls (va_rf p1 :: .ref q0 :: rest)) := X.hC fun fs bw hq => gy_mx (val' := fun (o : ((Option Nat) × GS)) => some (va_rf o.1)) (len := 3) (So := fun (o : ((Option Nat) × GS)) => S) (Po := fun (o : ((Option Nat) × GS)) => P) (Gn := fun (o : ((Option Nat) × GS)) => o.2) hZ hY hS (fun o ho => rqV (As := [va_rf p1]) E hY.1.any (recvA E.2.1 hY.1.1.2.1 hq rfl) (by rw [hY.1.2.1]; exact mY3_beF l D ct ck N ad P S w G q0 p1 o ho) (cwV 1 E.1.2.2.2.2 (lw_V q630 q346 q347 q118 q348) rfl rfl rfl (by decide +kernel) hR) rfl hsize rfl hW hdg (hY.room hZ)) kk
theorem kzX3_3_beF {p1 : (Option Nat)} (E : ME p m c cc nL s args RX3 D clW ct) (hZ : YC ct R s A G0) (hY : YW D clW ck ct N ad P A S w G0 G H) (hS : va_S A s.heap H locs) (hR : 1 + 1 ≤ R.frames ∧ 8 + (3 + 11) + 60 ≤ R.locals) (hsize : ls.size = nL) (hW : (rest.map fun v => v.category).sum ≤ 8) (hdg : decode cc pc = .ok (.invokevirtual 37, 3)) {kp : ((Option Nat) × GS) → Option ρ} (kk : ∀ (o : ((Option Nat) × GS)) (H1 : Heap) (locs1 : List Loc), YW D clW ck ct N ad P A S w G0 o.2 H1 → va_S A s.heap H1 locs1 → X p l e R s m args below meth c H1 locs1 (o.2.2.1 - G0.2.1) (o.2.2.2 - G0.2.2) Qf (kp o) (F0 m (pc + 3) ls (va_rf o.1 :: rest))) : X p l e R s m args below meth c H locs (G.2.1 - G0.2.1) (G.2.2 - G0.2.2) Qf (hC G.1 q0 3 (callK (s3_beF ct G q0 p1) kp)) (F0 m pc ls (va_rf p1 :: .ref q0 :: rest)) := X.hC fun fs bw hq => gy_mx (val' := fun (o : ((Option Nat) × GS)) => some (va_rf o.1)) (len := 3) (So := fun (o : ((Option Nat) × GS)) => S) (Po := fun (o : ((Option Nat) × GS)) => P) (Gn := fun (o : ((Option Nat) × GS)) => o.2) hZ hY hS (fun o ho => rqV (As := [va_rf p1]) E hY.1.any (recvA E.2.1 hY.1.1.2.1 hq rfl) (by rw [hY.1.2.1]; exact mY3_beF l D ct ck N ad P S w G q0 p1 o ho) (cwV 1 E.1.2.2.2.2 (lw_V q345 q346 q347 q118 q348) rfl rfl rfl (by decide +kernel) hR) rfl hsize rfl hW hdg (hY.room hZ)) kk
end KZ

set_option maxHeartbeats 4000000 in
theorem mY3_beN (l : Launch) (D : va_G) (ct : CT) (ad : Nat → Nat) (P : Nat → Nat → Option Nat) (S : US) (G0 : GS) (q0 : Nat) (o : ((Option Nat) × GS)) (ho : s3_beN ct ad P S G0 q0 = some o) : Met l yX3_be (ws_ yX3_be cX3_be 3 (some (.object "HorizonSeam$Line"))) { frames := 1, cells := nmax ct - G0.2.1, slots := zmax ct - G0.2.2, locals := 60 } (mP D clW ct [.ref q0, .ref (ad (lc 0 0))] G0.2.1 (MW D clW ckH ct 26 ad P (fun _ => True) S 0 G0)) (yC (some (va_rf o.1)) (MW D clW ckH ct 26 ad P (mA 26 ad G0) S 0 o.2) G0 o.2 (mA 26 ad G0)) (nmax ct - G0.2.1) (zmax ct - G0.2.2) (mA 26 ad G0) := by
  refine Y.start (val := fun (o : ((Option Nat) × GS)) => some (va_rf o.1)) (Bt := fun (o : ((Option Nat) × GS)) => MW D clW ckH ct 26 ad P (mA 26 ad G0) S 0 o.2) (Go := fun (o : ((Option Nat) × GS)) => o.2) ho (by decide) (Nat.le_of_ble_eq_true rfl) (lv := [(0, .ref q0), (1, .ref (ad (lc 0 0)))]) rfl ?_
  intro p e s m args below meth c E hr hlk hnm hZ hU hS ls hl
  obtain ⟨⟨hx, hb, hml, hown, hts⟩, hK, hJ⟩ := id E
  replace hr : meth.sig.returnType = some (FieldType.object "HorizonSeam$Line") ∧ ((∃ n, (FieldType.object "HorizonSeam$Line") = .object n) ∨ ∃ t, (FieldType.object "HorizonSeam$Line") = .array t) := ⟨hr, Or.inl ⟨_, rfl⟩⟩
  unfold s3_beN
  refine x_iconst (v := 0) hx hb dX3_be_0 (by decide) ?_
  refine x_istore_n (lv' := [(2, .int (0 : Int32)), (0, .ref q0), (1, .ref (ad (lc 0 0)))]) hx hb dX3_be_1 rfl hl (by decide) rfl (fun ls hl => ?_)
  refine X.loopY (I := fun (x : (GS × Int32)) g H locs => YW D clW ckH ct 26 ad P (mA 26 ad G0) S 0 G0 x.1 H ∧ va_S (mA 26 ad G0) s.heap H locs ∧ ∃ ls : Array Slot, g = F0 m 2 ls [] ∧ lv_has ls 3 [(0, .ref q0), (1, .ref (ad (lc 0 0))), (2, .int x.2)]) (cf := (fun (x : (GS × Int32)) => x.1.2.1 - G0.2.1)) (sf := (fun (x : (GS × Int32)) => x.1.2.2 - G0.2.2)) (fun rc3 ih3 => ?_) FUEL (G0, (0 : Int32)) _ _ _ ⟨hU, hS, _, rfl, lv_sub hl [1, 2, 0] rfl⟩
  rintro ⟨G1, v2⟩ _ H locs ⟨hU, hS, ls, rfl, hl⟩
  have hU : YW D clW ckH ct 26 ad P (mA 26 ad G0) S 0 G0 G1 H := hU
  have hl : lv_has ls 3 [(0, .ref q0), (1, .ref (ad (lc 0 0))), (2, .int v2)] := hl
  refine X.cs (cells2 := G1.2.1 - G0.2.1) (slots2 := G1.2.2 - G0.2.2) rfl rfl ?_
  refine X.eqs (sp2 := s3_beN_L2 q0 S rc3 G1 v2) rfl ?_
  unfold s3_beN_L2
  refine x_iload_n hx hb dX3_be_2 rfl (lv_at hl 2 rfl) ?_
  refine x_bipush (v := 12) hx hb dX3_be_3 (by decide) ?_
  refine x_icmp_ge (tgt := 50) hx hb dX3_be_5 (by decide) (fun hc => ?_) (fun hc => ?_)
  · refine x_iconst (v := 0) hx hb dX3_be_50 (by decide) ?_
    refine x_istore_n (lv' := [(2, .int (0 : Int32)), (0, .ref q0), (1, .ref (ad (lc 0 0)))]) hx hb dX3_be_51 rfl hl (by decide) rfl (fun ls hl => ?_)
    refine X.loopY (I := fun (x : (GS × Int32)) g H locs => YW D clW ckH ct 26 ad P (mA 26 ad G0) S 0 G0 x.1 H ∧ va_S (mA 26 ad G0) s.heap H locs ∧ ∃ ls : Array Slot, g = F0 m 52 ls [] ∧ lv_has ls 3 [(0, .ref q0), (1, .ref (ad (lc 0 0))), (2, .int x.2)]) (cf := (fun (x : (GS × Int32)) => x.1.2.1 - G0.2.1)) (sf := (fun (x : (GS × Int32)) => x.1.2.2 - G0.2.2)) (fun rc6 ih6 => ?_) FUEL (G1, (0 : Int32)) _ _ _ ⟨hU, hS, _, rfl, lv_sub hl [1, 2, 0] rfl⟩
    rintro ⟨G4, v5⟩ _ H locs ⟨hU, hS, ls, rfl, hl⟩
    have hU : YW D clW ckH ct 26 ad P (mA 26 ad G0) S 0 G0 G4 H := hU
    have hl : lv_has ls 3 [(0, .ref q0), (1, .ref (ad (lc 0 0))), (2, .int v5)] := hl
    refine X.cs (cells2 := G4.2.1 - G0.2.1) (slots2 := G4.2.2 - G0.2.2) rfl rfl ?_
    refine X.eqs (sp2 := s3_beN_L52 q0 S rc6 G4 v5) rfl ?_
    unfold s3_beN_L52
    refine x_iload_n hx hb dX3_be_52 rfl (lv_at hl 2 rfl) ?_
    refine x_bipush (v := 6) hx hb dX3_be_53 (by decide) ?_
    refine x_icmp_ge (tgt := 88) hx hb dX3_be_55 (by decide) (fun hc => ?_) (fun hc => ?_)
    · refine x_aload_n hx hb dX3_be_88 rfl (lv_at hl 0 rfl) ?_
      refine x_aload_n hx hb dX3_be_89 rfl (lv_at hl 1 rfl) ?_
      refine gX3_41 E hU.1.1 (by decide) dX3_be_90 ?_
      refine gy_put (v := .int (S (lc 0 0) 6)) (ty0 := tyX3) E hU hS (ci := 3) rfl in_X3 tyX3_ok nmX3 6 (by decide) (hts _ q244) (fun _ h => h) (Or.inl rfl) rfl rfl dX3_be_93 (fun G7 H locs hU hS => ?_)
      refine x_aload_n hx hb dX3_be_96 rfl (lv_at hl 0 rfl) ?_
      exact y_aret (r := (some q0)) hx hb hr hlk hZ hU hS rfl rfl hU.1 dX3_be_97
    · refine x_aload_n hx hb dX3_be_58 rfl (lv_at hl 0 rfl) ?_
      refine fx_getR E hU.1.1.2.1 (ci := 3) rfl in_X3 3 (by decide) (hts _ q237) (fun _ h => h) dX3_be_59 (fun r8 => ?_)
      refine x_iload_n hx hb dX3_be_62 rfl (lv_at hl 2 rfl) ?_
      refine x_aload_n hx hb dX3_be_63 rfl (lv_at hl 1 rfl) ?_
      refine gX3_25 E hU.1.1 (by decide) dX3_be_64 ?_
      refine x_iload_n hx hb dX3_be_67 rfl (lv_at hl 2 rfl) ?_
      refine ux_ald (i := lc 0 4) (n := 6) E hU.1.1.1 (lc_lt (by decide) (by decide)) (ck_lc (by decide)) dX3_be_68 ?_
      refine X.onR (fun b9 hb_ => ?_)
      subst hb_
      refine gy_iast E hU hS dX3_be_69 (fun G10 H locs hU hS => ?_)
      refine x_aload_n hx hb dX3_be_70 rfl (lv_at hl 0 rfl) ?_
      refine fx_getR E hU.1.1.2.1 (ci := 3) rfl in_X3 4 (by decide) (hts _ q240) (fun _ h => h) dX3_be_71 (fun r11 => ?_)
      refine x_iload_n hx hb dX3_be_74 rfl (lv_at hl 2 rfl) ?_
      refine x_aload_n hx hb dX3_be_75 rfl (lv_at hl 1 rfl) ?_
      refine gX3_28 E hU.1.1 (by decide) dX3_be_76 ?_
      refine x_iload_n hx hb dX3_be_79 rfl (lv_at hl 2 rfl) ?_
      refine ux_ald (i := lc 0 5) (n := 6) E hU.1.1.1 (lc_lt (by decide) (by decide)) (ck_lc (by decide)) dX3_be_80 ?_
      refine X.onR (fun b12 hb_ => ?_)
      subst hb_
      refine gy_iast E hU hS dX3_be_81 (fun G13 H locs hU hS => ?_)
      refine x_iinc (v := (v5 + (1 : Int32))) (lv' := [(2, .int (v5 + (1 : Int32))), (0, .ref q0), (1, .ref (ad (lc 0 0)))]) (k := 2) hx hb dX3_be_82 hl rfl rfl (by decide) rfl (fun ls hl => ?_)
      refine x_goto (tgt := 52) hx hb dX3_be_85 (by decide) ?_
      exact ih6 (G13, (v5 + (1 : Int32))) _ _ _ ⟨hU, hS, _, rfl, lv_sub hl [1, 2, 0] rfl⟩
  · refine x_aload_n hx hb dX3_be_8 rfl (lv_at hl 0 rfl) ?_
    refine fx_getR E hU.1.1.2.1 (ci := 3) rfl in_X3 0 (by decide) (hts _ q228) (fun _ h => h) dX3_be_9 (fun r14 => ?_)
    refine x_iload_n hx hb dX3_be_12 rfl (lv_at hl 2 rfl) ?_
    refine x_aload_n hx hb dX3_be_13 rfl (lv_at hl 1 rfl) ?_
    refine gX3_15 E hU.1.1 (by decide) dX3_be_14 ?_
    refine x_iload_n hx hb dX3_be_17 rfl (lv_at hl 2 rfl) ?_
    refine ux_ald (i := lc 0 1) (n := 12) E hU.1.1.1 (lc_lt (by decide) (by decide)) (ck_lc (by decide)) dX3_be_18 ?_
    refine X.onR (fun b15 hb_ => ?_)
    subst hb_
    refine gy_iast E hU hS dX3_be_19 (fun G16 H locs hU hS => ?_)
    refine x_aload_n hx hb dX3_be_20 rfl (lv_at hl 0 rfl) ?_
    refine fx_getR E hU.1.1.2.1 (ci := 3) rfl in_X3 1 (by decide) (hts _ q231) (fun _ h => h) dX3_be_21 (fun r17 => ?_)
    refine x_iload_n hx hb dX3_be_24 rfl (lv_at hl 2 rfl) ?_
    refine x_aload_n hx hb dX3_be_25 rfl (lv_at hl 1 rfl) ?_
    refine gX3_19 E hU.1.1 (by decide) dX3_be_26 ?_
    refine x_iload_n hx hb dX3_be_29 rfl (lv_at hl 2 rfl) ?_
    refine ux_ald (i := lc 0 2) (n := 12) E hU.1.1.1 (lc_lt (by decide) (by decide)) (ck_lc (by decide)) dX3_be_30 ?_
    refine X.onR (fun b18 hb_ => ?_)
    subst hb_
    refine gy_iast E hU hS dX3_be_31 (fun G19 H locs hU hS => ?_)
    refine x_aload_n hx hb dX3_be_32 rfl (lv_at hl 0 rfl) ?_
    refine fx_getR E hU.1.1.2.1 (ci := 3) rfl in_X3 2 (by decide) (hts _ q234) (fun _ h => h) dX3_be_33 (fun r20 => ?_)
    refine x_iload_n hx hb dX3_be_36 rfl (lv_at hl 2 rfl) ?_
    refine x_aload_n hx hb dX3_be_37 rfl (lv_at hl 1 rfl) ?_
    refine gX3_22 E hU.1.1 (by decide) dX3_be_38 ?_
    refine x_iload_n hx hb dX3_be_41 rfl (lv_at hl 2 rfl) ?_
    refine ux_ald (i := lc 0 3) (n := 12) E hU.1.1.1 (lc_lt (by decide) (by decide)) (ck_lc (by decide)) dX3_be_42 ?_
    refine X.onR (fun b21 hb_ => ?_)
    subst hb_
    refine gy_iast E hU hS dX3_be_43 (fun G22 H locs hU hS => ?_)
    refine x_iinc (v := (v2 + (1 : Int32))) (lv' := [(2, .int (v2 + (1 : Int32))), (0, .ref q0), (1, .ref (ad (lc 0 0)))]) (k := 2) hx hb dX3_be_44 hl rfl rfl (by decide) rfl (fun ls hl => ?_)
    refine x_goto (tgt := 2) hx hb dX3_be_47 (by decide) ?_
    exact ih3 (G22, (v2 + (1 : Int32))) _ _ _ ⟨hU, hS, _, rfl, lv_sub hl [1, 2, 0] rfl⟩
section KZ
variable {ρ : Type} {p : Program} {l : Launch} {e : Env} {R : Room} {s : State} {m : MethodId} {args : Array Value} {below : List Frame} {meth : Method} {c : Code} {H : Heap} {locs : List Loc} {Qf : ρ → State → Prop}
variable {cc : ByteArray} {pc nL L M q0 : Nat} {ls : Array Slot} {rest : List Value}
variable {D : va_G} {ct : CT} {ck : Nat → UC} {N : Nat} {ad : Nat → Nat} {P : Nat → Nat → Option Nat} {A : Nat → Prop} {S : US} {w : Int64} {G0 G : GS}
theorem kzX1_3_beN (E : ME p m c cc nL s args RX1 D clW ct) (hZ : YC ct R s A G0) (hY : YW D clW ckH ct 26 ad P A S 0 G0 G H) (hS : va_S A s.heap H locs) (hR : 1 + 1 ≤ R.frames ∧ 8 + (3 + 11) + 60 ≤ R.locals) (hsize : ls.size = nL) (hW : (rest.map fun v => v.category).sum ≤ 8) (hdg : decode cc pc = .ok (.invokevirtual 224, 3)) {kp : ((Option Nat) × GS) → Option ρ} (kk : ∀ (o : ((Option Nat) × GS)) (H1 : Heap) (locs1 : List Loc), YW D clW ckH ct 26 ad P A S 0 G0 o.2 H1 → va_S A s.heap H1 locs1 → X p l e R s m args below meth c H1 locs1 (o.2.2.1 - G0.2.1) (o.2.2.2 - G0.2.2) Qf (kp o) (F0 m (pc + 3) ls (va_rf o.1 :: rest))) : X p l e R s m args below meth c H locs (G.2.1 - G0.2.1) (G.2.2 - G0.2.2) Qf (hC G.1 q0 3 (callK (s3_beN ct ad P S G q0) kp)) (F0 m pc ls (.ref (ad (lc 0 0)) :: .ref q0 :: rest)) := X.hC fun fs bw hq => gy_mx (val' := fun (o : ((Option Nat) × GS)) => some (va_rf o.1)) (len := 3) (So := fun (o : ((Option Nat) × GS)) => S) (Po := fun (o : ((Option Nat) × GS)) => P) (Gn := fun (o : ((Option Nat) × GS)) => o.2) hZ hY hS (fun o ho => rqV (As := [.ref (ad (lc 0 0))]) E hY.1.any (recvA E.2.1 hY.1.1.2.1 hq rfl) (by rw [hY.1.2.1]; exact mY3_beN l D ct ad P S G q0 o ho) (cwV 1 E.1.2.2.2.2 (lw_V q630 q346 q347 q118 q348) rfl rfl rfl (by decide +kernel) hR) rfl hsize rfl hW hdg (hY.room hZ)) kk
theorem kzX3_3_beN (E : ME p m c cc nL s args RX3 D clW ct) (hZ : YC ct R s A G0) (hY : YW D clW ckH ct 26 ad P A S 0 G0 G H) (hS : va_S A s.heap H locs) (hR : 1 + 1 ≤ R.frames ∧ 8 + (3 + 11) + 60 ≤ R.locals) (hsize : ls.size = nL) (hW : (rest.map fun v => v.category).sum ≤ 8) (hdg : decode cc pc = .ok (.invokevirtual 37, 3)) {kp : ((Option Nat) × GS) → Option ρ} (kk : ∀ (o : ((Option Nat) × GS)) (H1 : Heap) (locs1 : List Loc), YW D clW ckH ct 26 ad P A S 0 G0 o.2 H1 → va_S A s.heap H1 locs1 → X p l e R s m args below meth c H1 locs1 (o.2.2.1 - G0.2.1) (o.2.2.2 - G0.2.2) Qf (kp o) (F0 m (pc + 3) ls (va_rf o.1 :: rest))) : X p l e R s m args below meth c H locs (G.2.1 - G0.2.1) (G.2.2 - G0.2.2) Qf (hC G.1 q0 3 (callK (s3_beN ct ad P S G q0) kp)) (F0 m pc ls (.ref (ad (lc 0 0)) :: .ref q0 :: rest)) := X.hC fun fs bw hq => gy_mx (val' := fun (o : ((Option Nat) × GS)) => some (va_rf o.1)) (len := 3) (So := fun (o : ((Option Nat) × GS)) => S) (Po := fun (o : ((Option Nat) × GS)) => P) (Gn := fun (o : ((Option Nat) × GS)) => o.2) hZ hY hS (fun o ho => rqV (As := [.ref (ad (lc 0 0))]) E hY.1.any (recvA E.2.1 hY.1.1.2.1 hq rfl) (by rw [hY.1.2.1]; exact mY3_beN l D ct ad P S G q0 o ho) (cwV 1 E.1.2.2.2.2 (lw_V q345 q346 q347 q118 q348) rfl rfl rfl (by decide +kernel) hR) rfl hsize rfl hW hdg (hY.room hZ)) kk
end KZ

set_option maxHeartbeats 4000000 in
theorem mY3_copyF (l : Launch) (D : va_G) (ct : CT) (ck : Nat → UC) (N : Nat) (ad : Nat → Nat) (P : Nat → Nat → Option Nat) (S : US) (w : Int64) (G0 : GS) (q0 : Nat) (o : ((Option Nat) × GS)) (ho : s3_copyF ct G0 q0 = some o) : Met l yX3_copy (ws_ yX3_copy cX3_copy 1 (some (.object "HorizonSeam$Line"))) { frames := 2, cells := nmax ct - G0.2.1, slots := zmax ct - G0.2.2, locals := 82 } (mP D clW ct [.ref q0] G0.2.1 (MW D clW ck ct N ad P (fun _ => True) S w G0)) (yC (some (va_rf o.1)) (MW D clW ck ct N ad P (mA N ad G0) S w o.2) G0 o.2 (mA N ad G0)) (nmax ct - G0.2.1) (zmax ct - G0.2.2) (mA N ad G0) := by
  refine Y.start (val := fun (o : ((Option Nat) × GS)) => some (va_rf o.1)) (Bt := fun (o : ((Option Nat) × GS)) => MW D clW ck ct N ad P (mA N ad G0) S w o.2) (Go := fun (o : ((Option Nat) × GS)) => o.2) ho (by decide) (Nat.le_of_ble_eq_true rfl) (lv := [(0, .ref q0)]) rfl ?_
  intro p e s m args below meth c E hr hlk hnm hZ hU hS ls hl
  obtain ⟨⟨hx, hb, hml, hown, hts⟩, hK, hJ⟩ := id E
  replace hr : meth.sig.returnType = some (FieldType.object "HorizonSeam$Line") ∧ ((∃ n, (FieldType.object "HorizonSeam$Line") = .object n) ∨ ∃ t, (FieldType.object "HorizonSeam$Line") = .array t) := ⟨hr, Or.inl ⟨_, rfl⟩⟩
  unfold s3_copyF
  refine gy_new (ty := tyX3) E hZ hU hS in_X3 tyX3_ok (hts _ q343) (hts _ q223) (hts _ q118) (ci := 3) rfl (by decide) dX3_copy_0 (fun q1 G2 H hU hS => ?_)
  refine x_dup hx hb dX3_copy_3 rfl ?_
  refine x_aload_n hx hb dX3_copy_4 rfl (lv_at hl 0 rfl) ?_
  refine fx_getR E hU.1.1.2.1 (ci := 3) rfl in_X3 7 (by decide) (hts _ q246) (fun _ h => h) dX3_copy_5 (fun r3 => ?_)
  refine kzX3_3_init E hZ hU hS ⟨Nat.le_of_ble_eq_true rfl, Nat.le_of_ble_eq_true rfl⟩ hl.1 (Nat.le_of_ble_eq_true rfl) dX3_copy_8 (fun o4 H locs hU hS => ?_)
  refine x_aload_n hx hb dX3_copy_11 rfl (lv_at hl 0 rfl) ?_
  refine kzX3_3_beF E hZ hU hS ⟨Nat.le_of_ble_eq_true rfl, Nat.le_of_ble_eq_true rfl⟩ hl.1 (Nat.le_of_ble_eq_true rfl) dX3_copy_12 (fun o5 H locs hU hS => ?_)
  exact y_aret (r := o5.1) hx hb hr hlk hZ hU hS rfl rfl hU.1 dX3_copy_15
section KZ
variable {ρ : Type} {p : Program} {l : Launch} {e : Env} {R : Room} {s : State} {m : MethodId} {args : Array Value} {below : List Frame} {meth : Method} {c : Code} {H : Heap} {locs : List Loc} {Qf : ρ → State → Prop}
variable {cc : ByteArray} {pc nL L M q0 : Nat} {ls : Array Slot} {rest : List Value}
variable {D : va_G} {ct : CT} {ck : Nat → UC} {N : Nat} {ad : Nat → Nat} {P : Nat → Nat → Option Nat} {A : Nat → Prop} {S : US} {w : Int64} {G0 G : GS}
theorem kzX1_3_copyF (E : ME p m c cc nL s args RX1 D clW ct) (hZ : YC ct R s A G0) (hY : YW D clW ck ct N ad P A S w G0 G H) (hS : va_S A s.heap H locs) (hR : 2 + 1 ≤ R.frames ∧ 8 + (1 + 11) + 82 ≤ R.locals) (hsize : ls.size = nL) (hW : (rest.map fun v => v.category).sum ≤ 8) (hdg : decode cc pc = .ok (.invokevirtual 189, 3)) {kp : ((Option Nat) × GS) → Option ρ} (kk : ∀ (o : ((Option Nat) × GS)) (H1 : Heap) (locs1 : List Loc), YW D clW ck ct N ad P A S w G0 o.2 H1 → va_S A s.heap H1 locs1 → X p l e R s m args below meth c H1 locs1 (o.2.2.1 - G0.2.1) (o.2.2.2 - G0.2.2) Qf (kp o) (F0 m (pc + 3) ls (va_rf o.1 :: rest))) : X p l e R s m args below meth c H locs (G.2.1 - G0.2.1) (G.2.2 - G0.2.2) Qf (hC G.1 q0 3 (callK (s3_copyF ct G q0) kp)) (F0 m pc ls (.ref q0 :: rest)) := X.hC fun fs bw hq => gy_mx (val' := fun (o : ((Option Nat) × GS)) => some (va_rf o.1)) (len := 3) (So := fun (o : ((Option Nat) × GS)) => S) (Po := fun (o : ((Option Nat) × GS)) => P) (Gn := fun (o : ((Option Nat) × GS)) => o.2) hZ hY hS (fun o ho => rqV (As := []) E hY.1.any (recvA E.2.1 hY.1.1.2.1 hq rfl) (by rw [hY.1.2.1]; exact mY3_copyF l D ct ck N ad P S w G q0 o ho) (cwV 0 E.1.2.2.2.2 (lw_V q339 q340 q341 q118 q342) rfl rfl rfl (by decide +kernel) hR) rfl hsize rfl hW hdg (hY.room hZ)) kk
end KZ

set_option maxHeartbeats 4000000 in
theorem mY3_copyN (l : Launch) (D : va_G) (ct : CT) (ad : Nat → Nat) (P : Nat → Nat → Option Nat) (S : US) (G0 : GS) (o : ((Option Nat) × GS)) (ho : s3_copyN ct ad P S G0 = some o) : Met l yX3_copy (ws_ yX3_copy cX3_copy 1 (some (.object "HorizonSeam$Line"))) { frames := 2, cells := nmax ct - G0.2.1, slots := zmax ct - G0.2.2, locals := 82 } (mP D clW ct [.ref (ad (lc 0 0))] G0.2.1 (MW D clW ckH ct 26 ad P (fun _ => True) S 0 G0)) (yC (some (va_rf o.1)) (MW D clW ckH ct 26 ad P (mA 26 ad G0) S 0 o.2) G0 o.2 (mA 26 ad G0)) (nmax ct - G0.2.1) (zmax ct - G0.2.2) (mA 26 ad G0) := by
  refine Y.start (val := fun (o : ((Option Nat) × GS)) => some (va_rf o.1)) (Bt := fun (o : ((Option Nat) × GS)) => MW D clW ckH ct 26 ad P (mA 26 ad G0) S 0 o.2) (Go := fun (o : ((Option Nat) × GS)) => o.2) ho (by decide) (Nat.le_of_ble_eq_true rfl) (lv := [(0, .ref (ad (lc 0 0)))]) rfl ?_
  intro p e s m args below meth c E hr hlk hnm hZ hU hS ls hl
  obtain ⟨⟨hx, hb, hml, hown, hts⟩, hK, hJ⟩ := id E
  replace hr : meth.sig.returnType = some (FieldType.object "HorizonSeam$Line") ∧ ((∃ n, (FieldType.object "HorizonSeam$Line") = .object n) ∨ ∃ t, (FieldType.object "HorizonSeam$Line") = .array t) := ⟨hr, Or.inl ⟨_, rfl⟩⟩
  unfold s3_copyN
  refine gy_new (ty := tyX3) E hZ hU hS in_X3 tyX3_ok (hts _ q343) (hts _ q223) (hts _ q118) (ci := 3) rfl (by decide) dX3_copy_0 (fun q1 G2 H hU hS => ?_)
  refine x_dup hx hb dX3_copy_3 rfl ?_
  refine x_aload_n hx hb dX3_copy_4 rfl (lv_at hl 0 rfl) ?_
  refine gX3_3 E hU.1.1 (by decide) dX3_copy_5 ?_
  refine kzX3_3_init E hZ hU hS ⟨Nat.le_of_ble_eq_true rfl, Nat.le_of_ble_eq_true rfl⟩ hl.1 (Nat.le_of_ble_eq_true rfl) dX3_copy_8 (fun o3 H locs hU hS => ?_)
  refine x_aload_n hx hb dX3_copy_11 rfl (lv_at hl 0 rfl) ?_
  refine kzX3_3_beN E hZ hU hS ⟨Nat.le_of_ble_eq_true rfl, Nat.le_of_ble_eq_true rfl⟩ hl.1 (Nat.le_of_ble_eq_true rfl) dX3_copy_12 (fun o4 H locs hU hS => ?_)
  exact y_aret (r := o4.1) hx hb hr hlk hZ hU hS rfl rfl hU.1 dX3_copy_15
section KZ
variable {ρ : Type} {p : Program} {l : Launch} {e : Env} {R : Room} {s : State} {m : MethodId} {args : Array Value} {below : List Frame} {meth : Method} {c : Code} {H : Heap} {locs : List Loc} {Qf : ρ → State → Prop}
variable {cc : ByteArray} {pc nL L M q0 : Nat} {ls : Array Slot} {rest : List Value}
variable {D : va_G} {ct : CT} {ck : Nat → UC} {N : Nat} {ad : Nat → Nat} {P : Nat → Nat → Option Nat} {A : Nat → Prop} {S : US} {w : Int64} {G0 G : GS}
theorem kzX1_3_copyN (E : ME p m c cc nL s args RX1 D clW ct) (hZ : YC ct R s A G0) (hY : YW D clW ckH ct 26 ad P A S 0 G0 G H) (hS : va_S A s.heap H locs) (hR : 2 + 1 ≤ R.frames ∧ 8 + (1 + 11) + 82 ≤ R.locals) (hsize : ls.size = nL) (hW : (rest.map fun v => v.category).sum ≤ 8) (hdg : decode cc pc = .ok (.invokevirtual 189, 3)) {kp : ((Option Nat) × GS) → Option ρ} (kk : ∀ (o : ((Option Nat) × GS)) (H1 : Heap) (locs1 : List Loc), YW D clW ckH ct 26 ad P A S 0 G0 o.2 H1 → va_S A s.heap H1 locs1 → X p l e R s m args below meth c H1 locs1 (o.2.2.1 - G0.2.1) (o.2.2.2 - G0.2.2) Qf (kp o) (F0 m (pc + 3) ls (va_rf o.1 :: rest))) : X p l e R s m args below meth c H locs (G.2.1 - G0.2.1) (G.2.2 - G0.2.2) Qf (callK (s3_copyN ct ad P S G) kp) (F0 m pc ls (.ref (ad (lc 0 0)) :: rest)) := gy_mx (val' := fun (o : ((Option Nat) × GS)) => some (va_rf o.1)) (len := 3) (So := fun (o : ((Option Nat) × GS)) => S) (Po := fun (o : ((Option Nat) × GS)) => P) (Gn := fun (o : ((Option Nat) × GS)) => o.2) hZ hY hS (fun o ho => rqV (As := []) E hY.1.any (recvU (i := lc 0 0) E.2.1 hY.1.1.1 (lc_lt (by decide) (by decide)) (ck_lc (by decide)) rfl) (by rw [hY.1.2.1]; exact mY3_copyN l D ct ad P S G o ho) (cwV 0 E.1.2.2.2.2 (lw_V q339 q340 q341 q118 q342) rfl rfl rfl (by decide +kernel) hR) rfl hsize rfl hW hdg (hY.room hZ)) kk
end KZ
