set_option maxRecDepth 100000
section HF
variable {ρ ρ' : Type} {p : Program} {l : Launch} {e : Env} {R : Room} {s : State} {m : MethodId} {args : Array Value} {below : List Frame} {meth : Method} {c : Code} {H : Heap} {locs : List Loc} {cells slots : Nat} {Qf : ρ → State → Prop} {sp : Option ρ}
variable {cc : ByteArray} {pc nL L : Nat} {ls : Array Slot} {rest : List Value}
variable {D : va_G} {ct : CT} {ad : Nat → Nat} {P : Nat → Nat → Option Nat} {A A0 : Nat → Prop} {S : US} {h : AH} {H0 : Heap}

end HF

set_option maxHeartbeats 4000000 in
theorem mY1_init (l : Launch) (D : va_G) (ct : CT) (ck : Nat → UC) (N : Nat) (ad : Nat → Nat) (P : Nat → Nat → Option Nat) (S : US) (w : Int64) (G0 : GS) (q0 : Nat) (o : GS) (ho : s1_init ct G0 q0 = some o) : Met l yX1_init (ws_ yX1_init cX1_init 1 none) { frames := 5, cells := nmax ct - G0.2.1, slots := zmax ct - G0.2.2, locals := 140 } (mP D clW ct [.ref q0] G0.2.1 (MW D clW ck ct N ad P (fun _ => True) S w G0)) (yC (none) (MW D clW ck ct N ad P (mA N ad G0) S w o) G0 o (mA N ad G0)) (nmax ct - G0.2.1) (zmax ct - G0.2.2) (mA N ad G0) := by
  refine Y.start (val := fun (o : GS) => none) (Bt := fun (o : GS) => MW D clW ck ct N ad P (mA N ad G0) S w o) (Go := fun (o : GS) => o) ho (by decide) (Nat.le_of_ble_eq_true rfl) (lv := [(0, .ref q0)]) rfl ?_
  intro p e s m args below meth c E hr hlk hnm hZ hU hS ls hl
  obtain ⟨⟨hx, hb, hml, hown, hts⟩, hK, hJ⟩ := id E
  unfold s1_init
  refine x_aload_n hx hb dX1_init_0 rfl (lv_at hl 0 rfl) ?_
  refine gx_objInit E (hts _ q154) (hts _ q155) (hts _ q156) ⟨Nat.le_of_ble_eq_true rfl, Nat.le_of_ble_eq_true rfl⟩ hl.1 (Nat.le_of_ble_eq_true rfl) dX1_init_1 ?_
  refine x_aload_n hx hb dX1_init_4 rfl (lv_at hl 0 rfl) ?_
  refine x_bipush (v := 6) hx hb dX1_init_5 (by decide) ?_
  refine gy_newa (atype := .int) (t := 0) (ty := .int) (x := .inl (fun _ => 0)) E hZ hU hS (hts _ q189) rfl rfl (fun h => h) (fun _ => rfl) (by decide) dX1_init_7 (fun q1 G2 H hU hS => ?_)
  refine gy_put (v := .ref q1) (ty0 := tyX1) E hU hS (ci := 1) rfl in_X1 tyX1_ok nmX1 0 (by decide) (hts _ q266) (fun _ h => h) (Or.inr ⟨rfl, hnm, rfl⟩) rfl rfl dX1_init_9 (fun G3 H locs hU hS => ?_)
  refine x_aload_n hx hb dX1_init_12 rfl (lv_at hl 0 rfl) ?_
  refine gy_new (ty := tyX2) E hZ hU hS in_X2 tyX2_ok (hts _ q157) (hts _ q158) (hts _ q114) (ci := 2) rfl (by decide) dX1_init_13 (fun q4 G5 H hU hS => ?_)
  refine x_dup hx hb dX1_init_16 rfl ?_
  refine kzX1_2_init E hZ hU hS ⟨Nat.le_of_ble_eq_true rfl, Nat.le_of_ble_eq_true rfl⟩ hl.1 (Nat.le_of_ble_eq_true rfl) dX1_init_17 (fun o6 H locs hU hS => ?_)
  refine gy_put (v := .ref q4) (ty0 := tyX1) E hU hS (ci := 1) rfl in_X1 tyX1_ok nmX1 1 (by decide) (hts _ q269) (fun _ h => h) (Or.inl rfl) rfl rfl dX1_init_20 (fun G7 H locs hU hS => ?_)
  refine x_aload_n hx hb dX1_init_23 rfl (lv_at hl 0 rfl) ?_
  refine gy_new (ty := tyX3) E hZ hU hS in_X3 tyX3_ok (hts _ q222) (hts _ q223) (hts _ q118) (ci := 3) rfl (by decide) dX1_init_24 (fun q8 G9 H hU hS => ?_)
  refine x_dup hx hb dX1_init_27 rfl ?_
  refine x_aload_n hx hb dX1_init_28 rfl (lv_at hl 0 rfl) ?_
  refine kzX1_3_init E hZ hU hS ⟨Nat.le_of_ble_eq_true rfl, Nat.le_of_ble_eq_true rfl⟩ hl.1 (Nat.le_of_ble_eq_true rfl) dX1_init_29 (fun o10 H locs hU hS => ?_)
  refine gy_put (v := .ref q8) (ty0 := tyX1) E hU hS (ci := 1) rfl in_X1 tyX1_ok nmX1 2 (by decide) (hts _ q270) (fun _ h => h) (Or.inl rfl) rfl rfl dX1_init_32 (fun G11 H locs hU hS => ?_)
  refine x_aload_n hx hb dX1_init_35 rfl (lv_at hl 0 rfl) ?_
  refine gy_new (ty := tyX3) E hZ hU hS in_X3 tyX3_ok (hts _ q222) (hts _ q223) (hts _ q118) (ci := 3) rfl (by decide) dX1_init_36 (fun q12 G13 H hU hS => ?_)
  refine x_dup hx hb dX1_init_39 rfl ?_
  refine x_aload_n hx hb dX1_init_40 rfl (lv_at hl 0 rfl) ?_
  refine kzX1_3_init E hZ hU hS ⟨Nat.le_of_ble_eq_true rfl, Nat.le_of_ble_eq_true rfl⟩ hl.1 (Nat.le_of_ble_eq_true rfl) dX1_init_41 (fun o14 H locs hU hS => ?_)
  refine gy_put (v := .ref q12) (ty0 := tyX1) E hU hS (ci := 1) rfl in_X1 tyX1_ok nmX1 3 (by decide) (hts _ q271) (fun _ h => h) (Or.inr ⟨rfl, hnm, rfl⟩) rfl rfl dX1_init_44 (fun G15 H locs hU hS => ?_)
  refine x_aload_n hx hb dX1_init_47 rfl (lv_at hl 0 rfl) ?_
  refine gy_new (ty := tyX3) E hZ hU hS in_X3 tyX3_ok (hts _ q222) (hts _ q223) (hts _ q118) (ci := 3) rfl (by decide) dX1_init_48 (fun q16 G17 H hU hS => ?_)
  refine x_dup hx hb dX1_init_51 rfl ?_
  refine x_aload_n hx hb dX1_init_52 rfl (lv_at hl 0 rfl) ?_
  refine kzX1_3_init E hZ hU hS ⟨Nat.le_of_ble_eq_true rfl, Nat.le_of_ble_eq_true rfl⟩ hl.1 (Nat.le_of_ble_eq_true rfl) dX1_init_53 (fun o18 H locs hU hS => ?_)
  refine gy_put (v := .ref q16) (ty0 := tyX1) E hU hS (ci := 1) rfl in_X1 tyX1_ok nmX1 4 (by decide) (hts _ q272) (fun _ h => h) (Or.inr ⟨rfl, hnm, rfl⟩) rfl rfl dX1_init_56 (fun G19 H locs hU hS => ?_)
  refine x_aload_n hx hb dX1_init_59 rfl (lv_at hl 0 rfl) ?_
  refine x_sipush (v := 700) hx hb dX1_init_60 (by decide) ?_
  refine gy_newa (atype := .byte) (t := 2) (ty := .byte) (x := .inl (fun _ => 0)) E hZ hU hS (hts _ q315) rfl rfl (fun h => h) (fun _ => rfl) (by decide) dX1_init_63 (fun q20 G21 H hU hS => ?_)
  refine gy_put (v := .ref q20) (ty0 := tyX1) E hU hS (ci := 1) rfl in_X1 tyX1_ok nmX1 5 (by decide) (hts _ q274) (fun _ h => h) (Or.inr ⟨rfl, hnm, rfl⟩) rfl rfl dX1_init_65 (fun G22 H locs hU hS => ?_)
  refine x_aload_n hx hb dX1_init_68 rfl (lv_at hl 0 rfl) ?_
  refine x_iconst (v := -1) hx hb dX1_init_69 (by decide) ?_
  refine gy_put (v := .int (-1 : Int32)) (ty0 := tyX1) E hU hS (ci := 1) rfl in_X1 tyX1_ok nmX1 7 (by decide) (hts _ q276) (fun _ h => h) (Or.inl rfl) rfl rfl dX1_init_70 (fun G23 H locs hU hS => ?_)
  refine x_aload_n hx hb dX1_init_73 rfl (lv_at hl 0 rfl) ?_
  refine x_iconst (v := 3) hx hb dX1_init_74 (by decide) ?_
  refine gy_newa (atype := .int) (t := 0) (ty := .int) (x := .inl (fun _ => 0)) E hZ hU hS (hts _ q189) rfl rfl (fun h => h) (fun _ => rfl) (by decide) dX1_init_75 (fun q24 G25 H hU hS => ?_)
  refine gy_put (v := .ref q24) (ty0 := tyX1) E hU hS (ci := 1) rfl in_X1 tyX1_ok nmX1 8 (by decide) (hts _ q277) (fun _ h => h) (Or.inr ⟨rfl, hnm, rfl⟩) rfl rfl dX1_init_77 (fun G26 H locs hU hS => ?_)
  refine x_aload_n hx hb dX1_init_80 rfl (lv_at hl 0 rfl) ?_
  refine gy_new (ty := tyJ2) E hZ hU hS in_J2 tyJ2_ok (hts _ q264) (hts _ q164) (hts _ q117) (ci := 10) rfl (by decide) dX1_init_81 (fun q27 G28 H hU hS => ?_)
  refine x_dup hx hb dX1_init_84 rfl ?_
  refine kzX1_L_init E hZ hU hS ⟨Nat.le_of_ble_eq_true rfl, Nat.le_of_ble_eq_true rfl⟩ hl.1 (Nat.le_of_ble_eq_true rfl) dX1_init_85 (fun o29 H locs hU hS => ?_)
  refine gy_put (v := .ref q27) (ty0 := tyX1) E hU hS (ci := 1) rfl in_X1 tyX1_ok nmX1 9 (by decide) (hts _ q278) (fun _ h => h) (Or.inl rfl) rfl rfl dX1_init_88 (fun G30 H locs hU hS => ?_)
  refine x_aload_n hx hb dX1_init_91 rfl (lv_at hl 0 rfl) ?_
  refine gy_new (ty := tyJ2) E hZ hU hS in_J2 tyJ2_ok (hts _ q264) (hts _ q164) (hts _ q117) (ci := 10) rfl (by decide) dX1_init_92 (fun q31 G32 H hU hS => ?_)
  refine x_dup hx hb dX1_init_95 rfl ?_
  refine kzX1_L_init E hZ hU hS ⟨Nat.le_of_ble_eq_true rfl, Nat.le_of_ble_eq_true rfl⟩ hl.1 (Nat.le_of_ble_eq_true rfl) dX1_init_96 (fun o33 H locs hU hS => ?_)
  refine gy_put (v := .ref q31) (ty0 := tyX1) E hU hS (ci := 1) rfl in_X1 tyX1_ok nmX1 10 (by decide) (hts _ q279) (fun _ h => h) (Or.inl rfl) rfl rfl dX1_init_99 (fun G34 H locs hU hS => ?_)
  exact y_vret hx hb hr hlk hZ hU hS rfl rfl hU.1 dX1_init_102

set_option maxHeartbeats 4000000 in
theorem mY0_init (l : Launch) (D : va_G) (ct : CT) (ck : Nat → UC) (N : Nat) (ad : Nat → Nat) (P : Nat → Nat → Option Nat) (S : US) (w : Int64) (G0 : GS) (q0 : Nat) (o : GS) (ho : s0_init ct G0 q0 = some o) : Met l yX4_init (ws_ yX4_init cX4_init 2 none) { frames := 1, cells := nmax ct - G0.2.1, slots := zmax ct - G0.2.2, locals := 60 } (mP D clW ct [.ref q0] G0.2.1 (MW D clW ck ct N ad P (fun _ => True) S w G0)) (yC (none) (MW D clW ck ct N ad P (mA N ad G0) S w o) G0 o (mA N ad G0)) (nmax ct - G0.2.1) (zmax ct - G0.2.2) (mA N ad G0) := by
  refine Y.start (val := fun (o : GS) => none) (Bt := fun (o : GS) => MW D clW ck ct N ad P (mA N ad G0) S w o) (Go := fun (o : GS) => o) ho (by decide) (Nat.le_of_ble_eq_true rfl) (lv := [(0, .ref q0)]) rfl ?_
  intro p e s m args below meth c E hr hlk hnm hZ hU hS ls hl
  obtain ⟨⟨hx, hb, hml, hown, hts⟩, hK, hJ⟩ := id E
  unfold s0_init
  refine x_aload_n hx hb dX4_init_0 rfl (lv_at hl 0 rfl) ?_
  refine gx_objInit E (hts _ q1842) (hts _ q155) (hts _ q156) ⟨Nat.le_of_ble_eq_true rfl, Nat.le_of_ble_eq_true rfl⟩ hl.1 (Nat.le_of_ble_eq_true rfl) dX4_init_1 ?_
  refine x_aload_n hx hb dX4_init_4 rfl (lv_at hl 0 rfl) ?_
  refine x_iconst (v := 3) hx hb dX4_init_5 (by decide) ?_
  refine gy_put (v := .int (3 : Int32)) (ty0 := tyX4) E hU hS (ci := 0) rfl in_X4 tyX4_ok nmX4 1 (by decide) (hts _ q1844) (fun _ h => h) (Or.inl rfl) rfl rfl dX4_init_6 (fun G1 H locs hU hS => ?_)
  refine x_aload_n hx hb dX4_init_9 rfl (lv_at hl 0 rfl) ?_
  refine x_bipush (v := 7) hx hb dX4_init_10 (by decide) ?_
  refine gy_put (v := .int (7 : Int32)) (ty0 := tyX4) E hU hS (ci := 0) rfl in_X4 tyX4_ok nmX4 4 (by decide) (hts _ q1847) (fun _ h => h) (Or.inl rfl) rfl rfl dX4_init_12 (fun G2 H locs hU hS => ?_)
  refine x_aload_n hx hb dX4_init_15 rfl (lv_at hl 0 rfl) ?_
  refine x_iconst (v := -1) hx hb dX4_init_16 (by decide) ?_
  refine gy_put (v := .int (-1 : Int32)) (ty0 := tyX4) E hU hS (ci := 0) rfl in_X4 tyX4_ok nmX4 5 (by decide) (hts _ q1848) (fun _ h => h) (Or.inl rfl) rfl rfl dX4_init_17 (fun G3 H locs hU hS => ?_)
  refine x_aload_n hx hb dX4_init_20 rfl (lv_at hl 0 rfl) ?_
  refine x_iconst (v := -1) hx hb dX4_init_21 (by decide) ?_
  refine gy_put (v := .int (-1 : Int32)) (ty0 := tyX4) E hU hS (ci := 0) rfl in_X4 tyX4_ok nmX4 6 (by decide) (hts _ q1849) (fun _ h => h) (Or.inl rfl) rfl rfl dX4_init_22 (fun G4 H locs hU hS => ?_)
  refine x_aload_n hx hb dX4_init_25 rfl (lv_at hl 0 rfl) ?_
  refine x_bipush (v := 6) hx hb dX4_init_26 (by decide) ?_
  refine gy_newa (atype := .int) (t := 0) (ty := .int) (x := .inl (fun _ => 0)) E hZ hU hS (hts _ q189) rfl rfl (fun h => h) (fun _ => rfl) (by decide) dX4_init_28 (fun q5 G6 H hU hS => ?_)
  refine gy_put (v := .ref q5) (ty0 := tyX4) E hU hS (ci := 0) rfl in_X4 tyX4_ok nmX4 7 (by decide) (hts _ q1850) (fun _ h => h) (Or.inr ⟨rfl, hnm, rfl⟩) rfl rfl dX4_init_30 (fun G7 H locs hU hS => ?_)
  refine x_aload_n hx hb dX4_init_33 rfl (lv_at hl 0 rfl) ?_
  refine x_bipush (v := 8) hx hb dX4_init_34 (by decide) ?_
  refine gy_newa (atype := .int) (t := 0) (ty := .int) (x := .inl (fun _ => 0)) E hZ hU hS (hts _ q189) rfl rfl (fun h => h) (fun _ => rfl) (by decide) dX4_init_36 (fun q8 G9 H hU hS => ?_)
  refine gy_put (v := .ref q8) (ty0 := tyX4) E hU hS (ci := 0) rfl in_X4 tyX4_ok nmX4 8 (by decide) (hts _ q1851) (fun _ h => h) (Or.inr ⟨rfl, hnm, rfl⟩) rfl rfl dX4_init_38 (fun G10 H locs hU hS => ?_)
  refine x_aload_n hx hb dX4_init_41 rfl (lv_at hl 0 rfl) ?_
  refine x_bipush (v := 8) hx hb dX4_init_42 (by decide) ?_
  refine gy_newa (atype := .int) (t := 0) (ty := .int) (x := .inl (fun _ => 0)) E hZ hU hS (hts _ q189) rfl rfl (fun h => h) (fun _ => rfl) (by decide) dX4_init_44 (fun q11 G12 H hU hS => ?_)
  refine gy_put (v := .ref q11) (ty0 := tyX4) E hU hS (ci := 0) rfl in_X4 tyX4_ok nmX4 9 (by decide) (hts _ q1852) (fun _ h => h) (Or.inr ⟨rfl, hnm, rfl⟩) rfl rfl dX4_init_46 (fun G13 H locs hU hS => ?_)
  refine x_aload_n hx hb dX4_init_49 rfl (lv_at hl 0 rfl) ?_
  refine x_sipush (v := 1400) hx hb dX4_init_50 (by decide) ?_
  refine gy_newa (atype := .int) (t := 0) (ty := .int) (x := .inl (fun _ => 0)) E hZ hU hS (hts _ q189) rfl rfl (fun h => h) (fun _ => rfl) (by decide) dX4_init_53 (fun q14 G15 H hU hS => ?_)
  refine gy_put (v := .ref q14) (ty0 := tyX4) E hU hS (ci := 0) rfl in_X4 tyX4_ok nmX4 10 (by decide) (hts _ q1853) (fun _ h => h) (Or.inr ⟨rfl, hnm, rfl⟩) rfl rfl dX4_init_55 (fun G16 H locs hU hS => ?_)
  refine x_aload_n hx hb dX4_init_58 rfl (lv_at hl 0 rfl) ?_
  refine x_sipush (v := 700) hx hb dX4_init_59 (by decide) ?_
  refine gy_newa (atype := .int) (t := 0) (ty := .int) (x := .inl (fun _ => 0)) E hZ hU hS (hts _ q189) rfl rfl (fun h => h) (fun _ => rfl) (by decide) dX4_init_62 (fun q17 G18 H hU hS => ?_)
  refine gy_put (v := .ref q17) (ty0 := tyX4) E hU hS (ci := 0) rfl in_X4 tyX4_ok nmX4 11 (by decide) (hts _ q1854) (fun _ h => h) (Or.inr ⟨rfl, hnm, rfl⟩) rfl rfl dX4_init_64 (fun G19 H locs hU hS => ?_)
  refine x_aload_n hx hb dX4_init_67 rfl (lv_at hl 0 rfl) ?_
  refine x_iconst (v := -1) hx hb dX4_init_68 (by decide) ?_
  refine gy_put (v := .int (-1 : Int32)) (ty0 := tyX4) E hU hS (ci := 0) rfl in_X4 tyX4_ok nmX4 14 (by decide) (hts _ q1857) (fun _ h => h) (Or.inl rfl) rfl rfl dX4_init_69 (fun G20 H locs hU hS => ?_)
  refine x_aload_n hx hb dX4_init_72 rfl (lv_at hl 0 rfl) ?_
  refine x_iconst (v := 3) hx hb dX4_init_73 (by decide) ?_
  refine gy_newa (atype := .int) (t := 0) (ty := .int) (x := .inl (fun _ => 0)) E hZ hU hS (hts _ q189) rfl rfl (fun h => h) (fun _ => rfl) (by decide) dX4_init_74 (fun q21 G22 H hU hS => ?_)
  refine gy_put (v := .ref q21) (ty0 := tyX4) E hU hS (ci := 0) rfl in_X4 tyX4_ok nmX4 15 (by decide) (hts _ q1858) (fun _ h => h) (Or.inr ⟨rfl, hnm, rfl⟩) rfl rfl dX4_init_76 (fun G23 H locs hU hS => ?_)
  refine x_aload_n hx hb dX4_init_79 rfl (lv_at hl 0 rfl) ?_
  refine x_bipush (v := 6) hx hb dX4_init_80 (by decide) ?_
  refine gy_newa (atype := .int) (t := 0) (ty := .int) (x := .inl (fun _ => 0)) E hZ hU hS (hts _ q189) rfl rfl (fun h => h) (fun _ => rfl) (by decide) dX4_init_82 (fun q24 G25 H hU hS => ?_)
  refine gy_put (v := .ref q24) (ty0 := tyX4) E hU hS (ci := 0) rfl in_X4 tyX4_ok nmX4 33 (by decide) (hts _ q1876) (fun _ h => h) (Or.inr ⟨rfl, hnm, rfl⟩) rfl rfl dX4_init_84 (fun G26 H locs hU hS => ?_)
  refine x_aload_n hx hb dX4_init_87 rfl (lv_at hl 0 rfl) ?_
  refine x_bipush (v := 8) hx hb dX4_init_88 (by decide) ?_
  refine gy_newa (atype := .int) (t := 0) (ty := .int) (x := .inl (fun _ => 0)) E hZ hU hS (hts _ q189) rfl rfl (fun h => h) (fun _ => rfl) (by decide) dX4_init_90 (fun q27 G28 H hU hS => ?_)
  refine gy_put (v := .ref q27) (ty0 := tyX4) E hU hS (ci := 0) rfl in_X4 tyX4_ok nmX4 34 (by decide) (hts _ q1877) (fun _ h => h) (Or.inr ⟨rfl, hnm, rfl⟩) rfl rfl dX4_init_92 (fun G29 H locs hU hS => ?_)
  refine x_aload_n hx hb dX4_init_95 rfl (lv_at hl 0 rfl) ?_
  refine x_bipush (v := 8) hx hb dX4_init_96 (by decide) ?_
  refine gy_newa (atype := .int) (t := 0) (ty := .int) (x := .inl (fun _ => 0)) E hZ hU hS (hts _ q189) rfl rfl (fun h => h) (fun _ => rfl) (by decide) dX4_init_98 (fun q30 G31 H hU hS => ?_)
  refine gy_put (v := .ref q30) (ty0 := tyX4) E hU hS (ci := 0) rfl in_X4 tyX4_ok nmX4 35 (by decide) (hts _ q1878) (fun _ h => h) (Or.inr ⟨rfl, hnm, rfl⟩) rfl rfl dX4_init_100 (fun G32 H locs hU hS => ?_)
  refine x_aload_n hx hb dX4_init_103 rfl (lv_at hl 0 rfl) ?_
  refine x_bipush (v := 49) hx hb dX4_init_104 (by decide) ?_
  refine gy_newa (atype := .int) (t := 0) (ty := .int) (x := .inl (fun _ => 0)) E hZ hU hS (hts _ q189) rfl rfl (fun h => h) (fun _ => rfl) (by decide) dX4_init_106 (fun q33 G34 H hU hS => ?_)
  refine gy_put (v := .ref q33) (ty0 := tyX4) E hU hS (ci := 0) rfl in_X4 tyX4_ok nmX4 36 (by decide) (hts _ q1879) (fun _ h => h) (Or.inr ⟨rfl, hnm, rfl⟩) rfl rfl dX4_init_108 (fun G35 H locs hU hS => ?_)
  refine x_aload_n hx hb dX4_init_111 rfl (lv_at hl 0 rfl) ?_
  refine x_sipush (v := 1400) hx hb dX4_init_112 (by decide) ?_
  refine gy_newa (atype := .int) (t := 0) (ty := .int) (x := .inl (fun _ => 0)) E hZ hU hS (hts _ q189) rfl rfl (fun h => h) (fun _ => rfl) (by decide) dX4_init_115 (fun q36 G37 H hU hS => ?_)
  refine gy_put (v := .ref q36) (ty0 := tyX4) E hU hS (ci := 0) rfl in_X4 tyX4_ok nmX4 37 (by decide) (hts _ q1880) (fun _ h => h) (Or.inr ⟨rfl, hnm, rfl⟩) rfl rfl dX4_init_117 (fun G38 H locs hU hS => ?_)
  refine x_aload_n hx hb dX4_init_120 rfl (lv_at hl 0 rfl) ?_
  refine x_sipush (v := 950) hx hb dX4_init_121 (by decide) ?_
  refine gy_newa (atype := .int) (t := 0) (ty := .int) (x := .inl (fun _ => 0)) E hZ hU hS (hts _ q189) rfl rfl (fun h => h) (fun _ => rfl) (by decide) dX4_init_124 (fun q39 G40 H hU hS => ?_)
  refine gy_put (v := .ref q39) (ty0 := tyX4) E hU hS (ci := 0) rfl in_X4 tyX4_ok nmX4 38 (by decide) (hts _ q1881) (fun _ h => h) (Or.inr ⟨rfl, hnm, rfl⟩) rfl rfl dX4_init_126 (fun G41 H locs hU hS => ?_)
  refine x_aload_n hx hb dX4_init_129 rfl (lv_at hl 0 rfl) ?_
  refine x_bipush (v := 9) hx hb dX4_init_130 (by decide) ?_
  refine gy_newa (atype := .boolean) (t := 1) (ty := .boolean) (x := .inl (fun _ => 0)) E hZ hU hS (hts _ q2033) rfl rfl (fun h => h) (fun _ => rfl) (by decide) dX4_init_132 (fun q42 G43 H hU hS => ?_)
  refine gy_put (v := .ref q42) (ty0 := tyX4) E hU hS (ci := 0) rfl in_X4 tyX4_ok nmX4 39 (by decide) (hts _ q1882) (fun _ h => h) (Or.inr ⟨rfl, hnm, rfl⟩) rfl rfl dX4_init_134 (fun G44 H locs hU hS => ?_)
  refine x_aload_n hx hb dX4_init_137 rfl (lv_at hl 0 rfl) ?_
  refine x_bipush (v := 98) hx hb dX4_init_138 (by decide) ?_
  refine gy_newa (atype := .int) (t := 0) (ty := .int) (x := .inl (fun _ => 0)) E hZ hU hS (hts _ q189) rfl rfl (fun h => h) (fun _ => rfl) (by decide) dX4_init_140 (fun q45 G46 H hU hS => ?_)
  refine gy_put (v := .ref q45) (ty0 := tyX4) E hU hS (ci := 0) rfl in_X4 tyX4_ok nmX4 40 (by decide) (hts _ q1883) (fun _ h => h) (Or.inr ⟨rfl, hnm, rfl⟩) rfl rfl dX4_init_142 (fun G47 H locs hU hS => ?_)
  refine x_aload_n hx hb dX4_init_145 rfl (lv_at hl 0 rfl) ?_
  refine x_sipush (v := 1960) hx hb dX4_init_146 (by decide) ?_
  refine gy_newa (atype := .int) (t := 0) (ty := .int) (x := .inl (fun _ => 0)) E hZ hU hS (hts _ q189) rfl rfl (fun h => h) (fun _ => rfl) (by decide) dX4_init_149 (fun q48 G49 H hU hS => ?_)
  refine gy_put (v := .ref q48) (ty0 := tyX4) E hU hS (ci := 0) rfl in_X4 tyX4_ok nmX4 41 (by decide) (hts _ q1884) (fun _ h => h) (Or.inr ⟨rfl, hnm, rfl⟩) rfl rfl dX4_init_151 (fun G50 H locs hU hS => ?_)
  refine x_aload_n hx hb dX4_init_154 rfl (lv_at hl 0 rfl) ?_
  refine x_bipush (v := 6) hx hb dX4_init_155 (by decide) ?_
  refine gy_newa (atype := .int) (t := 0) (ty := .int) (x := .inl (fun _ => 0)) E hZ hU hS (hts _ q189) rfl rfl (fun h => h) (fun _ => rfl) (by decide) dX4_init_157 (fun q51 G52 H hU hS => ?_)
  refine gy_put (v := .ref q51) (ty0 := tyX4) E hU hS (ci := 0) rfl in_X4 tyX4_ok nmX4 43 (by decide) (hts _ q1886) (fun _ h => h) (Or.inr ⟨rfl, hnm, rfl⟩) rfl rfl dX4_init_159 (fun G53 H locs hU hS => ?_)
  refine x_aload_n hx hb dX4_init_162 rfl (lv_at hl 0 rfl) ?_
  refine x_sipush (v := 950) hx hb dX4_init_163 (by decide) ?_
  refine gy_newa (atype := .int) (t := 0) (ty := .int) (x := .inl (fun _ => 0)) E hZ hU hS (hts _ q189) rfl rfl (fun h => h) (fun _ => rfl) (by decide) dX4_init_166 (fun q54 G55 H hU hS => ?_)
  refine gy_put (v := .ref q54) (ty0 := tyX4) E hU hS (ci := 0) rfl in_X4 tyX4_ok nmX4 44 (by decide) (hts _ q1887) (fun _ h => h) (Or.inr ⟨rfl, hnm, rfl⟩) rfl rfl dX4_init_168 (fun G56 H locs hU hS => ?_)
  refine x_aload_n hx hb dX4_init_171 rfl (lv_at hl 0 rfl) ?_
  refine x_bipush (v := 12) hx hb dX4_init_172 (by decide) ?_
  refine gy_newa (atype := .int) (t := 0) (ty := .int) (x := .inl (fun _ => 0)) E hZ hU hS (hts _ q189) rfl rfl (fun h => h) (fun _ => rfl) (by decide) dX4_init_174 (fun q57 G58 H hU hS => ?_)
  refine gy_put (v := .ref q57) (ty0 := tyX4) E hU hS (ci := 0) rfl in_X4 tyX4_ok nmX4 45 (by decide) (hts _ q1888) (fun _ h => h) (Or.inr ⟨rfl, hnm, rfl⟩) rfl rfl dX4_init_176 (fun G59 H locs hU hS => ?_)
  refine x_aload_n hx hb dX4_init_179 rfl (lv_at hl 0 rfl) ?_
  refine x_sipush (v := 448) hx hb dX4_init_180 (by decide) ?_
  refine gy_newa (atype := .int) (t := 0) (ty := .int) (x := .inl (fun _ => 0)) E hZ hU hS (hts _ q189) rfl rfl (fun h => h) (fun _ => rfl) (by decide) dX4_init_183 (fun q60 G61 H hU hS => ?_)
  refine gy_put (v := .ref q60) (ty0 := tyX4) E hU hS (ci := 0) rfl in_X4 tyX4_ok nmX4 46 (by decide) (hts _ q1889) (fun _ h => h) (Or.inr ⟨rfl, hnm, rfl⟩) rfl rfl dX4_init_185 (fun G62 H locs hU hS => ?_)
  refine x_aload_n hx hb dX4_init_188 rfl (lv_at hl 0 rfl) ?_
  refine x_bipush (v := 6) hx hb dX4_init_189 (by decide) ?_
  refine gy_newa (atype := .int) (t := 0) (ty := .int) (x := .inl (fun _ => 0)) E hZ hU hS (hts _ q189) rfl rfl (fun h => h) (fun _ => rfl) (by decide) dX4_init_191 (fun q63 G64 H hU hS => ?_)
  refine gy_put (v := .ref q63) (ty0 := tyX4) E hU hS (ci := 0) rfl in_X4 tyX4_ok nmX4 47 (by decide) (hts _ q1890) (fun _ h => h) (Or.inr ⟨rfl, hnm, rfl⟩) rfl rfl dX4_init_193 (fun G65 H locs hU hS => ?_)
  refine x_aload_n hx hb dX4_init_196 rfl (lv_at hl 0 rfl) ?_
  refine x_bipush (v := 9) hx hb dX4_init_197 (by decide) ?_
  refine gy_newa (atype := .int) (t := 0) (ty := .int) (x := .inl (fun _ => 0)) E hZ hU hS (hts _ q189) rfl rfl (fun h => h) (fun _ => rfl) (by decide) dX4_init_199 (fun q66 G67 H hU hS => ?_)
  refine gy_put (v := .ref q66) (ty0 := tyX4) E hU hS (ci := 0) rfl in_X4 tyX4_ok nmX4 48 (by decide) (hts _ q1891) (fun _ h => h) (Or.inr ⟨rfl, hnm, rfl⟩) rfl rfl dX4_init_201 (fun G68 H locs hU hS => ?_)
  refine x_aload_n hx hb dX4_init_204 rfl (lv_at hl 0 rfl) ?_
  refine x_bipush (v := 10) hx hb dX4_init_205 (by decide) ?_
  refine gy_newa (atype := .int) (t := 0) (ty := .int) (x := .inl (fun _ => 0)) E hZ hU hS (hts _ q189) rfl rfl (fun h => h) (fun _ => rfl) (by decide) dX4_init_207 (fun q69 G70 H hU hS => ?_)
  refine gy_put (v := .ref q69) (ty0 := tyX4) E hU hS (ci := 0) rfl in_X4 tyX4_ok nmX4 49 (by decide) (hts _ q1892) (fun _ h => h) (Or.inr ⟨rfl, hnm, rfl⟩) rfl rfl dX4_init_209 (fun G71 H locs hU hS => ?_)
  refine x_aload_n hx hb dX4_init_212 rfl (lv_at hl 0 rfl) ?_
  refine x_bipush (v := 10) hx hb dX4_init_213 (by decide) ?_
  refine gy_newa (atype := .int) (t := 0) (ty := .int) (x := .inl (fun _ => 0)) E hZ hU hS (hts _ q189) rfl rfl (fun h => h) (fun _ => rfl) (by decide) dX4_init_215 (fun q72 G73 H hU hS => ?_)
  refine gy_put (v := .ref q72) (ty0 := tyX4) E hU hS (ci := 0) rfl in_X4 tyX4_ok nmX4 50 (by decide) (hts _ q1893) (fun _ h => h) (Or.inr ⟨rfl, hnm, rfl⟩) rfl rfl dX4_init_217 (fun G74 H locs hU hS => ?_)
  refine x_aload_n hx hb dX4_init_220 rfl (lv_at hl 0 rfl) ?_
  refine x_bipush (v := 24) hx hb dX4_init_221 (by decide) ?_
  refine gy_newa (atype := .int) (t := 0) (ty := .int) (x := .inl (fun _ => 0)) E hZ hU hS (hts _ q189) rfl rfl (fun h => h) (fun _ => rfl) (by decide) dX4_init_223 (fun q75 G76 H hU hS => ?_)
  refine gy_put (v := .ref q75) (ty0 := tyX4) E hU hS (ci := 0) rfl in_X4 tyX4_ok nmX4 52 (by decide) (hts _ q1895) (fun _ h => h) (Or.inr ⟨rfl, hnm, rfl⟩) rfl rfl dX4_init_225 (fun G77 H locs hU hS => ?_)
  refine x_aload_n hx hb dX4_init_228 rfl (lv_at hl 0 rfl) ?_
  refine x_bipush (v := 12) hx hb dX4_init_229 (by decide) ?_
  refine gy_newa (atype := .int) (t := 0) (ty := .int) (x := .inl (fun _ => 0)) E hZ hU hS (hts _ q189) rfl rfl (fun h => h) (fun _ => rfl) (by decide) dX4_init_231 (fun q78 G79 H hU hS => ?_)
  refine gy_put (v := .ref q78) (ty0 := tyX4) E hU hS (ci := 0) rfl in_X4 tyX4_ok nmX4 53 (by decide) (hts _ q1896) (fun _ h => h) (Or.inr ⟨rfl, hnm, rfl⟩) rfl rfl dX4_init_233 (fun G80 H locs hU hS => ?_)
  refine x_aload_n hx hb dX4_init_236 rfl (lv_at hl 0 rfl) ?_
  refine x_sipush (v := 7200) hx hb dX4_init_237 (by decide) ?_
  refine gy_newa (atype := .int) (t := 0) (ty := .int) (x := .inl (fun _ => 0)) E hZ hU hS (hts _ q189) rfl rfl (fun h => h) (fun _ => rfl) (by decide) dX4_init_240 (fun q81 G82 H hU hS => ?_)
  refine gy_put (v := .ref q81) (ty0 := tyX4) E hU hS (ci := 0) rfl in_X4 tyX4_ok nmX4 54 (by decide) (hts _ q1897) (fun _ h => h) (Or.inr ⟨rfl, hnm, rfl⟩) rfl rfl dX4_init_242 (fun G83 H locs hU hS => ?_)
  refine x_aload_n hx hb dX4_init_245 rfl (lv_at hl 0 rfl) ?_
  refine x_bipush (v := 24) hx hb dX4_init_246 (by decide) ?_
  refine gy_newa (atype := .int) (t := 0) (ty := .int) (x := .inl (fun _ => 0)) E hZ hU hS (hts _ q189) rfl rfl (fun h => h) (fun _ => rfl) (by decide) dX4_init_248 (fun q84 G85 H hU hS => ?_)
  refine gy_put (v := .ref q84) (ty0 := tyX4) E hU hS (ci := 0) rfl in_X4 tyX4_ok nmX4 56 (by decide) (hts _ q1899) (fun _ h => h) (Or.inr ⟨rfl, hnm, rfl⟩) rfl rfl dX4_init_250 (fun G86 H locs hU hS => ?_)
  refine x_aload_n hx hb dX4_init_253 rfl (lv_at hl 0 rfl) ?_
  refine x_bipush (v := 49) hx hb dX4_init_254 (by decide) ?_
  refine gy_newa (atype := .int) (t := 0) (ty := .int) (x := .inl (fun _ => 0)) E hZ hU hS (hts _ q189) rfl rfl (fun h => h) (fun _ => rfl) (by decide) dX4_init_256 (fun q87 G88 H hU hS => ?_)
  refine gy_put (v := .ref q87) (ty0 := tyX4) E hU hS (ci := 0) rfl in_X4 tyX4_ok nmX4 60 (by decide) (hts _ q1903) (fun _ h => h) (Or.inr ⟨rfl, hnm, rfl⟩) rfl rfl dX4_init_258 (fun G89 H locs hU hS => ?_)
  refine x_aload_n hx hb dX4_init_261 rfl (lv_at hl 0 rfl) ?_
  refine x_sipush (v := 1960) hx hb dX4_init_262 (by decide) ?_
  refine gy_newa (atype := .int) (t := 0) (ty := .int) (x := .inl (fun _ => 0)) E hZ hU hS (hts _ q189) rfl rfl (fun h => h) (fun _ => rfl) (by decide) dX4_init_265 (fun q90 G91 H hU hS => ?_)
  refine gy_put (v := .ref q90) (ty0 := tyX4) E hU hS (ci := 0) rfl in_X4 tyX4_ok nmX4 61 (by decide) (hts _ q1904) (fun _ h => h) (Or.inr ⟨rfl, hnm, rfl⟩) rfl rfl dX4_init_267 (fun G92 H locs hU hS => ?_)
  refine x_aload_n hx hb dX4_init_270 rfl (lv_at hl 0 rfl) ?_
  refine x_bipush (v := 24) hx hb dX4_init_271 (by decide) ?_
  refine gy_newa (atype := .int) (t := 0) (ty := .int) (x := .inl (fun _ => 0)) E hZ hU hS (hts _ q189) rfl rfl (fun h => h) (fun _ => rfl) (by decide) dX4_init_273 (fun q93 G94 H hU hS => ?_)
  refine gy_put (v := .ref q93) (ty0 := tyX4) E hU hS (ci := 0) rfl in_X4 tyX4_ok nmX4 62 (by decide) (hts _ q1905) (fun _ h => h) (Or.inr ⟨rfl, hnm, rfl⟩) rfl rfl dX4_init_275 (fun G95 H locs hU hS => ?_)
  refine x_iconst (v := 0) hx hb dX4_init_278 (by decide) ?_
  refine x_istore_n (lv' := [(1, .int (0 : Int32)), (0, .ref q0)]) hx hb dX4_init_279 rfl hl (by decide) rfl (fun ls hl => ?_)
  refine X.loopY (I := fun (x : (GS × Int32)) g H locs => YW D clW ck ct N ad P (mA N ad G0) S w G0 x.1 H ∧ va_S (mA N ad G0) s.heap H locs ∧ ∃ ls : Array Slot, g = F0 m 280 ls [] ∧ lv_has ls 2 [(0, .ref q0), (1, .int x.2)]) (cf := (fun (x : (GS × Int32)) => x.1.2.1 - G0.2.1)) (sf := (fun (x : (GS × Int32)) => x.1.2.2 - G0.2.2)) (fun rc98 ih98 => ?_) FUEL (G95, (0 : Int32)) _ _ _ ⟨hU, hS, _, rfl, lv_sub hl [1, 0] rfl⟩
  rintro ⟨G96, v97⟩ _ H locs ⟨hU, hS, ls, rfl, hl⟩
  have hU : YW D clW ck ct N ad P (mA N ad G0) S w G0 G96 H := hU
  have hl : lv_has ls 2 [(0, .ref q0), (1, .int v97)] := hl
  refine X.cs (cells2 := G96.2.1 - G0.2.1) (slots2 := G96.2.2 - G0.2.2) rfl rfl ?_
  refine X.eqs (sp2 := s0_init_L280 q0 rc98 G96 v97) rfl ?_
  unfold s0_init_L280
  refine x_iload_n hx hb dX4_init_280 rfl (lv_at hl 1 rfl) ?_
  refine x_iconst (v := 3) hx hb dX4_init_281 (by decide) ?_
  refine x_icmp_ge (tgt := 302) hx hb dX4_init_282 (by decide) (fun hc => ?_) (fun hc => ?_)
  · exact y_vret hx hb hr hlk hZ hU hS rfl rfl hU.1 dX4_init_302
  · refine x_aload_n hx hb dX4_init_285 rfl (lv_at hl 0 rfl) ?_
    refine fx_getR E hU.1.1.2.1 (ci := 0) rfl in_X4 40 (by decide) (hts _ q1883) (fun _ h => h) dX4_init_286 (fun r99 => ?_)
    refine x_bipush (v := 13) hx hb dX4_init_289 (by decide) ?_
    refine x_iload_n hx hb dX4_init_291 rfl (lv_at hl 1 rfl) ?_
    refine x_iadd hx hb dX4_init_292 ?_
    refine x_bipush (v := 50) hx hb dX4_init_293 (by decide) ?_
    refine X.onR (fun b100 hb_ => ?_)
    subst hb_
    refine gy_iast E hU hS dX4_init_295 (fun G101 H locs hU hS => ?_)
    refine x_iinc (v := (v97 + (1 : Int32))) (lv' := [(1, .int (v97 + (1 : Int32))), (0, .ref q0)]) (k := 1) hx hb dX4_init_296 hl rfl rfl (by decide) rfl (fun ls hl => ?_)
    refine x_goto (tgt := 280) hx hb dX4_init_299 (by decide) ?_
    exact ih98 (G101, (v97 + (1 : Int32))) _ _ _ ⟨hU, hS, _, rfl, lv_sub hl [1, 0] rfl⟩
