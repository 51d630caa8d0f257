set_option maxRecDepth 100000
section HF
variable {ρ ρ' : Type} {p : Program} {l : Launch} {e : Env} {R : Room} {s : State} {m : MethodId} {args : Array Value} {below : List Frame} {meth : Method} {c : Code} {H : Heap} {locs : List Loc} {cells slots : Nat} {Qf : ρ → State → Prop} {sp : Option ρ}
variable {cc : ByteArray} {pc nL L : Nat} {ls : Array Slot} {rest : List Value}
variable {D : va_G} {ct : CT} {ad : Nat → Nat} {P : Nat → Nat → Option Nat} {A A0 : Nat → Prop} {S : US} {h : AH} {H0 : Heap}

end HF

set_option maxHeartbeats 4000000 in
theorem mY2_womenF (l : Launch) (D : va_G) (ct : CT) (ck : Nat → UC) (N : Nat) (ad : Nat → Nat) (P : Nat → Nat → Option Nat) (S : US) (w : Int64) (G0 : GS) (q0 : Nat) (o : (Int32 × GS)) (ho : s2_womenF ct G0 q0 = some o) : Met l yX2_women (ws_ yX2_women cX2_women 1 (some .int)) { frames := 2, cells := nmax ct - G0.2.1, slots := zmax ct - G0.2.2, locals := 60 } (mP D clW ct [.ref q0] G0.2.1 (MW D clW ck ct N ad P (fun _ => True) S w G0)) (yC (some (.int o.1)) (MW D clW ck ct N ad P (mA N ad G0) S w o.2) G0 o.2 (mA N ad G0)) (nmax ct - G0.2.1) (zmax ct - G0.2.2) (mA N ad G0) := by
  refine Y.start (val := fun (o : (Int32 × GS)) => some (.int o.1)) (Bt := fun (o : (Int32 × GS)) => MW D clW ck ct N ad P (mA N ad G0) S w o.2) (Go := fun (o : (Int32 × GS)) => o.2) ho (by decide) (Nat.le_of_ble_eq_true rfl) (lv := [(0, .ref q0)]) rfl ?_
  intro p e s m args below meth c E hr hlk hnm hZ hU hS ls hl
  obtain ⟨⟨hx, hb, hml, hown, hts⟩, hK, hJ⟩ := id E
  unfold s2_womenF
  refine x_aload_n hx hb dX2_women_0 rfl (lv_at hl 0 rfl) ?_
  refine fx_getR E hU.1.1.2.1 (ci := 2) rfl in_X2 0 (by decide) (hts _ q190) (fun _ h => h) dX2_women_1 (fun r1 => ?_)
  refine X.onR (fun b2 hb_ => ?_)
  subst hb_
  refine kzX2_L_size E hZ hU hS ⟨Nat.le_of_ble_eq_true rfl, Nat.le_of_ble_eq_true rfl⟩ hl.1 (Nat.le_of_ble_eq_true rfl) dX2_women_4 (fun o3 H locs hU hS => ?_)
  exact y_iret hx hb hr hlk hZ hU hS rfl rfl hU.1 dX2_women_9
section KZ
variable {ρ : Type} {p : Program} {l : Launch} {e : Env} {R : Room} {s : State} {m : MethodId} {args : Array Value} {below : List Frame} {meth : Method} {c : Code} {H : Heap} {locs : List Loc} {Qf : ρ → State → Prop}
variable {cc : ByteArray} {pc nL L M q0 : Nat} {ls : Array Slot} {rest : List Value}
variable {D : va_G} {ct : CT} {ck : Nat → UC} {N : Nat} {ad : Nat → Nat} {P : Nat → Nat → Option Nat} {A : Nat → Prop} {S : US} {w : Int64} {G0 G : GS}
theorem kzX1_2_womenF (E : ME p m c cc nL s args RX1 D clW ct) (hZ : YC ct R s A G0) (hY : YW D clW ck ct N ad P A S w G0 G H) (hS : va_S A s.heap H locs) (hR : 2 + 1 ≤ R.frames ∧ 8 + (1 + 11) + 60 ≤ R.locals) (hsize : ls.size = nL) (hW : (rest.map fun v => v.category).sum ≤ 8) (hdg : decode cc pc = .ok (.invokevirtual 101, 3)) {kp : (Int32 × GS) → Option ρ} (kk : ∀ (o : (Int32 × GS)) (H1 : Heap) (locs1 : List Loc), YW D clW ck ct N ad P A S w G0 o.2 H1 → va_S A s.heap H1 locs1 → X p l e R s m args below meth c H1 locs1 (o.2.2.1 - G0.2.1) (o.2.2.2 - G0.2.2) Qf (kp o) (F0 m (pc + 3) ls (.int o.1 :: rest))) : X p l e R s m args below meth c H locs (G.2.1 - G0.2.1) (G.2.2 - G0.2.2) Qf (hC G.1 q0 2 (callK (s2_womenF ct G q0) kp)) (F0 m pc ls (.ref q0 :: rest)) := X.hC fun fs bw hq => gy_mx (val' := fun (o : (Int32 × GS)) => some (.int o.1)) (len := 3) (So := fun (o : (Int32 × GS)) => S) (Po := fun (o : (Int32 × GS)) => P) (Gn := fun (o : (Int32 × GS)) => o.2) hZ hY hS (fun o ho => rqV (As := []) E hY.1.any (recvA E.2.1 hY.1.1.2.1 hq rfl) (by rw [hY.1.2.1]; exact mY2_womenF l D ct ck N ad P S w G q0 o ho) (cwV 0 E.1.2.2.2.2 (lw_V q1371 q485 q486 q114 q487) rfl rfl rfl (by decide +kernel) hR) rfl hsize rfl hW hdg (hY.room hZ)) kk
end KZ

set_option maxHeartbeats 4000000 in
theorem mY5_init (l : Launch) (D : va_G) (ct : CT) (ck : Nat → UC) (N : Nat) (ad : Nat → Nat) (P : Nat → Nat → Option Nat) (S : US) (w : Int64) (G0 : GS) (q0 : Nat) (p1 : (Option Nat)) (p2 : Int32) (o : GS) (ho : s5_init ct G0 q0 p1 p2 = some o) : Met l yX5_init (ws_ yX5_init cX5_init 3 none) { frames := 5, cells := nmax ct - G0.2.1, slots := zmax ct - G0.2.2, locals := 140 } (mP D clW ct [.ref q0, va_rf p1, .int p2] G0.2.1 (MW D clW ck ct N ad P (fun _ => True) S w G0)) (yC (none) (MW D clW ck ct N ad P (mA N ad G0) S w o) G0 o (mA N ad G0)) (nmax ct - G0.2.1) (zmax ct - G0.2.2) (mA N ad G0) := by
  refine Y.start (val := fun (o : GS) => none) (Bt := fun (o : GS) => MW D clW ck ct N ad P (mA N ad G0) S w o) (Go := fun (o : GS) => o) ho (by decide) (by rcases p1 with _ | _ <;> exact Nat.le_of_ble_eq_true rfl) (lv := [(0, .ref q0), (1, va_rf p1), (2, .int p2)]) (by rcases p1 with _ | _ <;> rfl) ?_
  intro p e s m args below meth c E hr hlk hnm hZ hU hS ls hl
  obtain ⟨⟨hx, hb, hml, hown, hts⟩, hK, hJ⟩ := id E
  unfold s5_init
  refine x_aload_n hx hb dX5_init_0 rfl (lv_at hl 0 rfl) ?_
  refine x_aload_nO hx hb dX5_init_1 rfl (lv_at hl 1 rfl) ?_
  refine gy_put (v := va_rf p1) (ty0 := tyX5) E hU hS (ci := 4) rfl in_X5 tyX5_ok nmX5 12 (by decide) (hts _ q802) (fun _ h => h) (Or.inr ⟨rfl, hnm, rfl⟩) (by cases p1 <;> rfl) (by cases p1 <;> rfl) dX5_init_2 (fun G1 H locs hU hS => ?_)
  refine x_aload_n hx hb dX5_init_5 rfl (lv_at hl 0 rfl) ?_
  refine gx_objInit E (hts _ q771) (hts _ q155) (hts _ q156) ⟨Nat.le_of_ble_eq_true rfl, Nat.le_of_ble_eq_true rfl⟩ hl.1 (Nat.le_of_ble_eq_true rfl) dX5_init_6 ?_
  refine x_aload_n hx hb dX5_init_9 rfl (lv_at hl 0 rfl) ?_
  refine gy_new (ty := tyX2) E hZ hU hS in_X2 tyX2_ok (hts _ q772) (hts _ q158) (hts _ q114) (ci := 2) rfl (by decide) dX5_init_10 (fun q2 G3 H hU hS => ?_)
  refine x_dup hx hb dX5_init_13 rfl ?_
  refine kzX5_2_init E hZ hU hS ⟨Nat.le_of_ble_eq_true rfl, Nat.le_of_ble_eq_true rfl⟩ hl.1 (Nat.le_of_ble_eq_true rfl) dX5_init_14 (fun o4 H locs hU hS => ?_)
  refine gy_put (v := .ref q2) (ty0 := tyX5) E hU hS (ci := 4) rfl in_X5 tyX5_ok nmX5 1 (by decide) (hts _ q789) (fun _ h => h) (Or.inr ⟨rfl, hnm, rfl⟩) rfl rfl dX5_init_17 (fun G5 H locs hU hS => ?_)
  refine x_aload_n hx hb dX5_init_20 rfl (lv_at hl 0 rfl) ?_
  refine gy_new (ty := tyX3) E hZ hU hS in_X3 tyX3_ok (hts _ q774) (hts _ q223) (hts _ q118) (ci := 3) rfl (by decide) dX5_init_21 (fun q6 G7 H hU hS => ?_)
  refine x_dup hx hb dX5_init_24 rfl ?_
  refine x_aload_n hx hb dX5_init_25 rfl (lv_at hl 0 rfl) ?_
  refine fx_getR E hU.1.1.2.1 (ci := 4) rfl in_X5 12 (by decide) (hts _ q802) (fun _ h => h) dX5_init_26 (fun r8 => ?_)
  refine kzX5_3_init E hZ hU hS ⟨Nat.le_of_ble_eq_true rfl, Nat.le_of_ble_eq_true rfl⟩ hl.1 (Nat.le_of_ble_eq_true rfl) dX5_init_29 (fun o9 H locs hU hS => ?_)
  refine gy_put (v := .ref q6) (ty0 := tyX5) E hU hS (ci := 4) rfl in_X5 tyX5_ok nmX5 2 (by decide) (hts _ q790) (fun _ h => h) (Or.inr ⟨rfl, hnm, rfl⟩) rfl rfl dX5_init_32 (fun G10 H locs hU hS => ?_)
  refine x_aload_n hx hb dX5_init_35 rfl (lv_at hl 0 rfl) ?_
  refine x_iconst (v := 4) hx hb dX5_init_36 (by decide) ?_
  refine gy_newq (t := 5) E hZ hU hS (hts _ q776) hJ.2.2.2.2.2.1 rfl dX5_init_37 (fun q11 G12 H hU hS => ?_)
  refine x_dup hx hb dX5_init_40 rfl ?_
  refine x_iconst (v := 0) hx hb dX5_init_41 (by decide) ?_
  refine gx_ldcS (tx := "knots") (z := 40) E (List.mem_of_getElem? (i := 0) rfl) dX5_init_42 ?_
  refine gy_aastS (r := (some (ct.2.1 40))) E hU hS dX5_init_44 (fun G13 H locs hU hS => ?_)
  refine x_dup hx hb dX5_init_45 rfl ?_
  refine x_iconst (v := 1) hx hb dX5_init_46 (by decide) ?_
  refine gx_ldcS (tx := "week") (z := 41) E (List.mem_of_getElem? (i := 1) rfl) dX5_init_47 ?_
  refine gy_aastS (r := (some (ct.2.1 41))) E hU hS dX5_init_49 (fun G14 H locs hU hS => ?_)
  refine x_dup hx hb dX5_init_50 rfl ?_
  refine x_iconst (v := 2) hx hb dX5_init_51 (by decide) ?_
  refine gx_ldcS (tx := "frays") (z := 42) E (List.mem_of_getElem? (i := 2) rfl) dX5_init_52 ?_
  refine gy_aastS (r := (some (ct.2.1 42))) E hU hS dX5_init_54 (fun G15 H locs hU hS => ?_)
  refine x_dup hx hb dX5_init_55 rfl ?_
  refine x_iconst (v := 3) hx hb dX5_init_56 (by decide) ?_
  refine gx_ldcS (tx := "pulls") (z := 43) E (List.mem_of_getElem? (i := 3) rfl) dX5_init_57 ?_
  refine gy_aastS (r := (some (ct.2.1 43))) E hU hS dX5_init_59 (fun G16 H locs hU hS => ?_)
  refine gy_put (v := .ref q11) (ty0 := tyX5) E hU hS (ci := 4) rfl in_X5 tyX5_ok nmX5 3 (by decide) (hts _ q792) (fun _ h => h) (Or.inr ⟨rfl, hnm, rfl⟩) rfl rfl dX5_init_60 (fun G17 H locs hU hS => ?_)
  refine x_aload_n hx hb dX5_init_63 rfl (lv_at hl 0 rfl) ?_
  refine x_bipush (v := 6) hx hb dX5_init_64 (by decide) ?_
  refine gy_newq (t := 5) E hZ hU hS (hts _ q776) hJ.2.2.2.2.2.1 rfl dX5_init_66 (fun q18 G19 H hU hS => ?_)
  refine x_dup hx hb dX5_init_69 rfl ?_
  refine x_iconst (v := 0) hx hb dX5_init_70 (by decide) ?_
  refine gx_ldcS (tx := "strain") (z := 44) E (List.mem_of_getElem? (i := 4) rfl) dX5_init_71 ?_
  refine gy_aastS (r := (some (ct.2.1 44))) E hU hS dX5_init_73 (fun G20 H locs hU hS => ?_)
  refine x_dup hx hb dX5_init_74 rfl ?_
  refine x_iconst (v := 1) hx hb dX5_init_75 (by decide) ?_
  refine gx_ldcS (tx := "seam") (z := 45) E (List.mem_of_getElem? (i := 5) rfl) dX5_init_76 ?_
  refine gy_aastS (r := (some (ct.2.1 45))) E hU hS dX5_init_78 (fun G21 H locs hU hS => ?_)
  refine x_dup hx hb dX5_init_79 rfl ?_
  refine x_iconst (v := 2) hx hb dX5_init_80 (by decide) ?_
  refine gx_ldcS (tx := "stitch") (z := 46) E (List.mem_of_getElem? (i := 6) rfl) dX5_init_81 ?_
  refine gy_aastS (r := (some (ct.2.1 46))) E hU hS dX5_init_83 (fun G22 H locs hU hS => ?_)
  refine x_dup hx hb dX5_init_84 rfl ?_
  refine x_iconst (v := 3) hx hb dX5_init_85 (by decide) ?_
  refine gx_ldcS (tx := "beside") (z := 47) E (List.mem_of_getElem? (i := 7) rfl) dX5_init_86 ?_
  refine gy_aastS (r := (some (ct.2.1 47))) E hU hS dX5_init_88 (fun G23 H locs hU hS => ?_)
  refine x_dup hx hb dX5_init_89 rfl ?_
  refine x_iconst (v := 4) hx hb dX5_init_90 (by decide) ?_
  refine gx_ldcS (tx := "women") (z := 48) E (List.mem_of_getElem? (i := 8) rfl) dX5_init_91 ?_
  refine gy_aastS (r := (some (ct.2.1 48))) E hU hS dX5_init_93 (fun G24 H locs hU hS => ?_)
  refine x_dup hx hb dX5_init_94 rfl ?_
  refine x_iconst (v := 5) hx hb dX5_init_95 (by decide) ?_
  refine gx_ldcS (tx := "day") (z := 49) E (List.mem_of_getElem? (i := 9) rfl) dX5_init_96 ?_
  refine gy_aastS (r := (some (ct.2.1 49))) E hU hS dX5_init_98 (fun G25 H locs hU hS => ?_)
  refine gy_put (v := .ref q18) (ty0 := tyX5) E hU hS (ci := 4) rfl in_X5 tyX5_ok nmX5 4 (by decide) (hts _ q793) (fun _ h => h) (Or.inr ⟨rfl, hnm, rfl⟩) rfl rfl dX5_init_99 (fun G26 H locs hU hS => ?_)
  refine x_aload_n hx hb dX5_init_102 rfl (lv_at hl 0 rfl) ?_
  refine x_iload_n hx hb dX5_init_103 rfl (lv_at hl 2 rfl) ?_
  refine gy_put (v := .int p2) (ty0 := tyX5) E hU hS (ci := 4) rfl in_X5 tyX5_ok nmX5 0 (by decide) (hts _ q788) (fun _ h => h) (Or.inr ⟨rfl, hnm, rfl⟩) rfl rfl dX5_init_104 (fun G27 H locs hU hS => ?_)
  exact y_vret hx hb hr hlk hZ hU hS rfl rfl hU.1 dX5_init_107

set_option maxHeartbeats 4000000 in
theorem mYL_init_2 (l : Launch) (D : va_G) (ct : CT) (ck : Nat → UC) (N : Nat) (ad : Nat → Nat) (P : Nat → Nat → Option Nat) (S : US) (w : Int64) (G0 : GS) (q0 : Nat) (p1 : (Option Nat)) (o : GS) (ho : sL_init_2 ct G0 q0 p1 = some o) : Met l yJ2_init_2 (ws_ yJ2_init_2 cJ2_init_2 3 none) { frames := 4, cells := nmax ct - G0.2.1, slots := zmax ct - G0.2.2, locals := 124 } (mP D clW ct [.ref q0, va_rf p1] G0.2.1 (MW D clW ck ct N ad P (fun _ => True) S w G0)) (yC (none) (MW D clW ck ct N ad P (mA N ad G0) S w o) G0 o (mA N ad G0)) (nmax ct - G0.2.1) (zmax ct - G0.2.2) (mA N ad G0) := by
  refine Y.start (val := fun (o : GS) => none) (Bt := fun (o : GS) => MW D clW ck ct N ad P (mA N ad G0) S w o) (Go := fun (o : GS) => o) ho (by decide) (by rcases p1 with _ | _ <;> exact Nat.le_of_ble_eq_true rfl) (lv := [(0, .ref q0), (1, va_rf p1)]) (by rcases p1 with _ | _ <;> rfl) ?_
  intro p e s m args below meth c E hr hlk hnm hZ hU hS ls hl
  obtain ⟨⟨hx, hb, hml, hown, hts⟩, hK, hJ⟩ := id E
  unfold sL_init_2
  refine x_aload_n hx hb dJ2_init_2_0 rfl (lv_at hl 0 rfl) ?_
  refine kzJ2_K_init E hZ hU hS ⟨Nat.le_of_ble_eq_true rfl, Nat.le_of_ble_eq_true rfl⟩ hl.1 (Nat.le_of_ble_eq_true rfl) dJ2_init_2_1 (fun o1 H locs hU hS => ?_)
  refine x_aload_nO hx hb dJ2_init_2_4 rfl (lv_at hl 1 rfl) ?_
  refine X.onR (fun b2 hb_ => ?_)
  subst hb_
  refine kzJ2_L_toArray E hZ hU hS ⟨Nat.le_of_ble_eq_true rfl, Nat.le_of_ble_eq_true rfl⟩ hl.1 (Nat.le_of_ble_eq_true rfl) dJ2_init_2_5 (fun o3 H locs hU hS => ?_)
  refine X.onR (fun b4 hb_ => ?_)
  rw [hb_]
  try rw [hb_] at hl
  refine x_astore_n (lv' := [(2, .ref b4), (0, .ref q0), (1, .ref b2)]) hx hb dJ2_init_2_10 rfl hl (by decide) rfl (fun ls hl => ?_)
  refine x_aload_n hx hb dJ2_init_2_11 rfl (lv_at hl 1 rfl) ?_
  refine x_aload_n hx hb dJ2_init_2_12 rfl (lv_at hl 0 rfl) ?_
  refine fx_alen E hU.1.1.2.1 (t := 4) rfl dJ2_init_2_13 (fun v5 => ?_)
  refine x_dup_x1 hx hb dJ2_init_2_14 rfl rfl ?_
  refine gy_put (v := .int v5) (ty0 := tyJ2) E hU hS (ci := 10) rfl in_J2 tyJ2_ok nmJ2 2 (by decide) (hts _ q178) (fun _ h => h) (Or.inl rfl) rfl rfl dJ2_init_2_15 (fun G6 H locs hU hS => ?_)
  refine x_if_eq (tgt := 57) hx hb dJ2_init_2_18 (by decide) (fun hc => ?_) (fun hc => ?_)
  · refine x_aload_n hx hb dJ2_init_2_57 rfl (lv_at hl 1 rfl) ?_
    refine gx_gets E hU.1.1 (List.mem_of_getElem? (i := 2) rfl) (hts _ q684) (fun _ h => h) dJ2_init_2_58 ?_
    refine gy_put (v := .ref (ct.2.1 1)) (ty0 := tyJ2) E hU hS (ci := 10) rfl in_J2 tyJ2_ok nmJ2 1 (by decide) (hts _ q177) (fun _ h => h) (Or.inl rfl) rfl rfl dJ2_init_2_61 (fun G7 H locs hU hS => ?_)
    exact y_vret hx hb hr hlk hZ hU hS rfl rfl hU.1 dJ2_init_2_64
  · refine x_aload_n hx hb dJ2_init_2_21 rfl (lv_at hl 2 rfl) ?_
    refine gy_getCI E hU.1.1.2.1 rfl (hts _ q676) (hJ.at q678 rfl) (hJ.xw q677 rfl) (hts _ q401) (hts _ q385) (hJ.xw q680 rfl) (hJ.xw q679 rfl) (hJ.at q669 rfl) (hts _ q404) ⟨Nat.le_of_ble_eq_true rfl, Nat.le_of_ble_eq_true rfl⟩ hl.1 (Nat.le_of_ble_eq_true rfl) dJ2_init_2_22 ?_
    refine gx_ldcM E (hts _ q681) hJ.2.1.1.1 dJ2_init_2_27 ?_
    refine x_acmp_ne (rx := (some (ct.2.1 5))) (ry := (some (ct.2.1 5))) (tgt := 40) hx hb dJ2_init_2_29 (by decide) (fun hc => ?_) (fun hc => ?_)
    · refine x_aload_n hx hb dJ2_init_2_40 rfl (lv_at hl 1 rfl) ?_
      refine x_aload_n hx hb dJ2_init_2_41 rfl (lv_at hl 0 rfl) ?_
      refine x_aload_n hx hb dJ2_init_2_42 rfl (lv_at hl 1 rfl) ?_
      refine fx_getI E hU.1.1.2.1 (ci := 10) rfl in_J2 2 (by decide) (hts _ q178) (fun _ h => h) dJ2_init_2_43 (fun v9 => ?_)
      refine gx_ldcM E (hts _ q682) hJ.2.1.1.2 dJ2_init_2_46 ?_
      refine kzJ2_Y_copyOf_2 E hZ hU hS ⟨Nat.le_of_ble_eq_true rfl, Nat.le_of_ble_eq_true rfl⟩ hl.1 (Nat.le_of_ble_eq_true rfl) dJ2_init_2_48 (fun o10 H locs hU hS => ?_)
      refine gy_put (v := va_rf o10.1) (ty0 := tyJ2) E hU hS (ci := 10) rfl in_J2 tyJ2_ok nmJ2 1 (by decide) (hts _ q177) (fun _ h => h) (Or.inl rfl) (by cases o10.1 <;> rfl) (by cases o10.1 <;> rfl) dJ2_init_2_51 (fun G11 H locs hU hS => ?_)
      refine x_goto (tgt := 64) hx hb dJ2_init_2_54 (by decide) ?_
      exact y_vret hx hb hr hlk hZ hU hS rfl rfl hU.1 dJ2_init_2_64
    · refine x_aload_n hx hb dJ2_init_2_32 rfl (lv_at hl 1 rfl) ?_
      refine x_aload_n hx hb dJ2_init_2_33 rfl (lv_at hl 0 rfl) ?_
      refine gy_put (v := .ref b4) (ty0 := tyJ2) E hU hS (ci := 10) rfl in_J2 tyJ2_ok nmJ2 1 (by decide) (hts _ q177) (fun _ h => h) (Or.inl rfl) rfl rfl dJ2_init_2_34 (fun G8 H locs hU hS => ?_)
      refine x_goto (tgt := 64) hx hb dJ2_init_2_37 (by decide) ?_
      exact y_vret hx hb hr hlk hZ hU hS rfl rfl hU.1 dJ2_init_2_64
section KZ
variable {ρ : Type} {p : Program} {l : Launch} {e : Env} {R : Room} {s : State} {m : MethodId} {args : Array Value} {below : List Frame} {meth : Method} {c : Code} {H : Heap} {locs : List Loc} {Qf : ρ → State → Prop}
variable {cc : ByteArray} {pc nL L M q0 : Nat} {ls : Array Slot} {rest : List Value}
variable {D : va_G} {ct : CT} {ck : Nat → UC} {N : Nat} {ad : Nat → Nat} {P : Nat → Nat → Option Nat} {A : Nat → Prop} {S : US} {w : Int64} {G0 G : GS}
theorem kzX1_L_init_2 {p1 : (Option Nat)} (E : ME p m c cc nL s args RX1 D clW ct) (hZ : YC ct R s A G0) (hY : YW D clW ck ct N ad P A S w G0 G H) (hS : va_S A s.heap H locs) (hR : 4 + 1 ≤ R.frames ∧ 8 + (3 + 11) + 124 ≤ R.locals) (hsize : ls.size = nL) (hW : (rest.map fun v => v.category).sum ≤ 8) (hdg : decode cc pc = .ok (.invokespecial 336, 3)) {kp : GS → Option ρ} (kk : ∀ (o : GS) (H1 : Heap) (locs1 : List Loc), YW D clW ck ct N ad P A S w G0 o H1 → va_S A s.heap H1 locs1 → X p l e R s m args below meth c H1 locs1 (o.2.1 - G0.2.1) (o.2.2 - G0.2.2) Qf (kp o) (F0 m (pc + 3) ls (rest))) : X p l e R s m args below meth c H locs (G.2.1 - G0.2.1) (G.2.2 - G0.2.2) Qf (callK (sL_init_2 ct G q0 p1) kp) (F0 m pc ls (va_rf p1 :: .ref q0 :: rest)) := gy_mx (val' := fun (o : GS) => none) (len := 3) (So := fun (o : GS) => S) (Po := fun (o : GS) => P) (Gn := fun (o : GS) => o) hZ hY hS (fun o ho => rqI (As := [va_rf p1]) E hY.1.any (by rw [hY.1.2.1]; exact mYL_init_2 l D ct ck N ad P S w G q0 p1 o ho) ⟨callB_of 1 E.1.2.2.2.2 (lw_meth q664) rfl rfl rfl (E.1.2.2.2.2 _ q117) (E.1.2.2.2.2 _ q662) (by decide +kernel) hR, rfl, E.1.2.2.2.2 _ q663⟩ rfl hsize rfl hW hdg (hY.room hZ)) kk
end KZ

set_option maxHeartbeats 4000000 in
theorem mY1_image (l : Launch) (D : va_G) (ct : CT) (ad : Nat → Nat) (P : Nat → Nat → Option Nat) (S : US) (G0 : GS) (o : (GS × (Nat → Nat → Option Nat))) (ho : s1_image ct ad P S G0 = some o) : Met l yX1_image (ws_ yX1_image cX1_image 1 none) { frames := 5, cells := nmax ct - G0.2.1, slots := zmax ct - G0.2.2, locals := 146 } (mP D clW ct [.ref (ad (0))] G0.2.1 (MW D clW ckH ct 26 ad P (fun _ => True) S 0 G0)) (yC (none) (MW D clW ckH ct 26 ad o.2 (mA 26 ad G0) S 0 o.1) G0 o.1 (mA 26 ad G0)) (nmax ct - G0.2.1) (zmax ct - G0.2.2) (mA 26 ad G0) := by
  refine Y.start (val := fun (o : (GS × (Nat → Nat → Option Nat))) => none) (Bt := fun (o : (GS × (Nat → Nat → Option Nat))) => MW D clW ckH ct 26 ad o.2 (mA 26 ad G0) S 0 o.1) (Go := fun (o : (GS × (Nat → Nat → Option Nat))) => o.1) ho (by decide) (Nat.le_of_ble_eq_true rfl) (lv := [(0, .ref (ad (0)))]) rfl ?_
  intro p e s m args below meth c E hr hlk hnm hZ hU hS ls hl
  obtain ⟨⟨hx, hb, hml, hown, hts⟩, hK, hJ⟩ := id E
  unfold s1_image
  refine x_aload_n hx hb dX1_image_0 rfl (lv_at hl 0 rfl) ?_
  refine x_aload_n hx hb dX1_image_1 rfl (lv_at hl 0 rfl) ?_
  refine gX1_40 E hU.1.1 dX1_image_2 ?_
  refine kzX1_3_copyN E hZ hU hS ⟨Nat.le_of_ble_eq_true rfl, Nat.le_of_ble_eq_true rfl⟩ hl.1 (Nat.le_of_ble_eq_true rfl) dX1_image_5 (fun o1 H locs hU hS => ?_)
  refine gy_putP (i := 0) (r := o1.1) E hU hS (by decide) rfl rfl in_X1 tyX1_ok nmX1 11 (by decide) rfl (hts _ q280) (fun _ h => h) rfl (by cases o1.1 <;> rfl) (by cases o1.1 <;> rfl) dX1_image_8 (fun P2 H locs hU hS => ?_)
  refine x_aload_n hx hb dX1_image_11 rfl (lv_at hl 0 rfl) ?_
  refine gy_new (ty := tyJ2) E hZ hU hS in_J2 tyJ2_ok (hts _ q264) (hts _ q164) (hts _ q117) (ci := 10) rfl (by decide) dX1_image_12 (fun q3 G4 H hU hS => ?_)
  refine x_dup hx hb dX1_image_15 rfl ?_
  refine x_aload_n hx hb dX1_image_16 rfl (lv_at hl 0 rfl) ?_
  refine gX1_64 E hU.1.1 dX1_image_17 (fun r5 => ?_)
  refine kzX1_L_init_2 E hZ hU hS ⟨Nat.le_of_ble_eq_true rfl, Nat.le_of_ble_eq_true rfl⟩ hl.1 (Nat.le_of_ble_eq_true rfl) dX1_image_20 (fun o6 H locs hU hS => ?_)
  refine gy_putP (i := 0) (r := (some q3)) E hU hS (by decide) rfl rfl in_X1 tyX1_ok nmX1 12 (by decide) rfl (hts _ q281) (fun _ h => h) rfl rfl rfl dX1_image_23 (fun P7 H locs hU hS => ?_)
  refine x_aload_n hx hb dX1_image_26 rfl (lv_at hl 0 rfl) ?_
  refine gy_new (ty := tyJ2) E hZ hU hS in_J2 tyJ2_ok (hts _ q264) (hts _ q164) (hts _ q117) (ci := 10) rfl (by decide) dX1_image_27 (fun q8 G9 H hU hS => ?_)
  refine x_dup hx hb dX1_image_30 rfl ?_
  refine x_aload_n hx hb dX1_image_31 rfl (lv_at hl 0 rfl) ?_
  refine gX1_68 E hU.1.1 dX1_image_32 (fun r10 => ?_)
  refine kzX1_L_init_2 E hZ hU hS ⟨Nat.le_of_ble_eq_true rfl, Nat.le_of_ble_eq_true rfl⟩ hl.1 (Nat.le_of_ble_eq_true rfl) dX1_image_35 (fun o11 H locs hU hS => ?_)
  refine gy_putP (i := 0) (r := (some q8)) E hU hS (by decide) rfl rfl in_X1 tyX1_ok nmX1 13 (by decide) rfl (hts _ q282) (fun _ h => h) rfl rfl rfl dX1_image_38 (fun P12 H locs hU hS => ?_)
  exact y_vret hx hb hr hlk hZ hU hS rfl rfl hU.1 dX1_image_41

set_option maxHeartbeats 4000000 in
theorem mY1_restore (l : Launch) (D : va_G) (ct : CT) (ad : Nat → Nat) (P : Nat → Nat → Option Nat) (S : US) (G0 : GS) (o : (Bool × US × GS × (Nat → Nat → Option Nat) × (Nat → Nat))) (ho : s1_restore ct ad P S G0 = some o) : Met l yX1_restore (ws_ yX1_restore cX1_restore 1 (some .boolean)) { frames := 5, cells := nmax ct - G0.2.1, slots := zmax ct - G0.2.2, locals := 146 } (mP D clW ct [.ref (ad (0))] G0.2.1 (MW D clW ckH ct 26 ad P (fun _ => True) S 0 G0)) (yC (some (.int (bI o.1))) (MW D clW ckH ct 26 o.2.2.2.2 o.2.2.2.1 (mA 26 ad G0) o.2.1 0 o.2.2.1) G0 o.2.2.1 (mA 26 ad G0)) (nmax ct - G0.2.1) (zmax ct - G0.2.2) (mA 26 ad G0) := by
  refine Y.start (val := fun (o : (Bool × US × GS × (Nat → Nat → Option Nat) × (Nat → Nat))) => some (.int (bI o.1))) (Bt := fun (o : (Bool × US × GS × (Nat → Nat → Option Nat) × (Nat → Nat))) => MW D clW ckH ct 26 o.2.2.2.2 o.2.2.2.1 (mA 26 ad G0) o.2.1 0 o.2.2.1) (Go := fun (o : (Bool × US × GS × (Nat → Nat → Option Nat) × (Nat → Nat))) => o.2.2.1) ho (by decide) (Nat.le_of_ble_eq_true rfl) (lv := [(0, .ref (ad (0)))]) rfl ?_
  intro p e s m args below meth c E hr hlk hnm hZ hU hS ls hl
  obtain ⟨⟨hx, hb, hml, hown, hts⟩, hK, hJ⟩ := id E
  unfold s1_restore
  refine x_aload_n hx hb dX1_restore_0 rfl (lv_at hl 0 rfl) ?_
  refine gX1_98 E hU.1.1 dX1_restore_1 (fun r1 => ?_)
  refine x_ifnonnullO (tgt := 9) hx hb dX1_restore_4 (by decide) (fun hc => ?_) (fun b2 hc => ?_)
  · subst hc
    refine x_iconst (v := 0) hx hb dX1_restore_7 (by decide) ?_
    exact y_zret hx hb hr hlk hZ hU hS rfl rfl rfl hU.1 dX1_restore_8
  · subst hc
    refine x_aload_n hx hb dX1_restore_9 rfl (lv_at hl 0 rfl) ?_
    refine x_aload_n hx hb dX1_restore_10 rfl (lv_at hl 0 rfl) ?_
    refine gX1_98 E hU.1.1 dX1_restore_11 (fun r3 => ?_)
    refine X.onR (fun b4 hb_ => ?_)
    subst hb_
    refine kzX1_3_copyF E hZ hU hS ⟨Nat.le_of_ble_eq_true rfl, Nat.le_of_ble_eq_true rfl⟩ hl.1 (Nat.le_of_ble_eq_true rfl) dX1_restore_14 (fun o5 H locs hU hS => ?_)
    refine X.onR (fun b6 hb_ => ?_)
    rw [hb_]
    try rw [hb_] at hl
    refine gy_putD (I := iL) (nw := (nwL o5.2 b6)) (j0 := 5) E hU hS rfl in_X1 tyX1_ok nmX1 2 (by decide) rfl (hts _ q270) (fun _ h => h) rfl (b := b6) rfl rfl rfl dX1_restore_17 (by decide) (by decide) (by decide) (by decide) (by decide) (fun S7 G8 P9 d10 H locs hd_ hU hS => ?_)
    try rw [← hd_]
    rw [← hd_] at hl
    refine x_aload_n hx hb dX1_restore_20 rfl (lv_at hl 0 rfl) ?_
    refine gy_new (ty := tyJ2) E hZ hU hS in_J2 tyJ2_ok (hts _ q264) (hts _ q164) (hts _ q117) (ci := 10) rfl (by decide) dX1_restore_21 (fun q11 G12 H hU hS => ?_)
    refine x_dup hx hb dX1_restore_24 rfl ?_
    refine x_aload_n hx hb dX1_restore_25 rfl (lv_at hl 0 rfl) ?_
    refine gX1_339 E hU.1.1 dX1_restore_26 (fun r13 => ?_)
    refine kzX1_L_init_2 E hZ hU hS ⟨Nat.le_of_ble_eq_true rfl, Nat.le_of_ble_eq_true rfl⟩ hl.1 (Nat.le_of_ble_eq_true rfl) dX1_restore_29 (fun o14 H locs hU hS => ?_)
    refine gy_putP (i := 0) (r := (some q11)) E hU hS (by decide) rfl rfl in_X1 tyX1_ok nmX1 9 (by decide) rfl (hts _ q278) (fun _ h => h) rfl rfl rfl dX1_restore_32 (fun P15 H locs hU hS => ?_)
    refine x_aload_n hx hb dX1_restore_35 rfl (lv_at hl 0 rfl) ?_
    refine gy_new (ty := tyJ2) E hZ hU hS in_J2 tyJ2_ok (hts _ q264) (hts _ q164) (hts _ q117) (ci := 10) rfl (by decide) dX1_restore_36 (fun q16 G17 H hU hS => ?_)
    refine x_dup hx hb dX1_restore_39 rfl ?_
    refine x_aload_n hx hb dX1_restore_40 rfl (lv_at hl 0 rfl) ?_
    refine gX1_342 E hU.1.1 dX1_restore_41 (fun r18 => ?_)
    refine kzX1_L_init_2 E hZ hU hS ⟨Nat.le_of_ble_eq_true rfl, Nat.le_of_ble_eq_true rfl⟩ hl.1 (Nat.le_of_ble_eq_true rfl) dX1_restore_44 (fun o19 H locs hU hS => ?_)
    refine gy_putP (i := 0) (r := (some q16)) E hU hS (by decide) rfl rfl in_X1 tyX1_ok nmX1 10 (by decide) rfl (hts _ q279) (fun _ h => h) rfl rfl rfl dX1_restore_47 (fun P20 H locs hU hS => ?_)
    refine x_iconst (v := 1) hx hb dX1_restore_50 (by decide) ?_
    exact y_zret hx hb hr hlk hZ hU hS rfl rfl rfl hU.1 dX1_restore_51

set_option maxHeartbeats 4000000 in
theorem mY1_leastTo (l : Launch) (D : va_G) (ct : CT) (ad : Nat → Nat) (P : Nat → Nat → Option Nat) (S : US) (G0 : GS) (p1 : (Option Nat)) (o : ((Option Nat) × GS)) (ho : s1_leastTo ct ad P S G0 p1 = some o) : Met l yX1_leastTo (ws_ yX1_leastTo cX1_leastTo 7 (some (.array (.array .int)))) { frames := 3, cells := nmax ct - G0.2.1, slots := zmax ct - G0.2.2, locals := 85 } (mP D clW ct [.ref (ad (0)), va_rf p1] G0.2.1 (MW D clW ckH ct 26 ad P (fun _ => True) S 0 G0)) (yC (some (va_rf o.1)) (MW D clW ckH ct 26 ad P (mA 26 ad G0) S 0 o.2) G0 o.2 (mA 26 ad G0)) (nmax ct - G0.2.1) (zmax ct - G0.2.2) (mA 26 ad G0) := by
  refine Y.start (val := fun (o : ((Option Nat) × GS)) => some (va_rf o.1)) (Bt := fun (o : ((Option Nat) × GS)) => MW D clW ckH ct 26 ad P (mA 26 ad G0) S 0 o.2) (Go := fun (o : ((Option Nat) × GS)) => o.2) ho (by decide) (by rcases p1 with _ | _ <;> exact Nat.le_of_ble_eq_true rfl) (lv := [(0, .ref (ad (0))), (1, va_rf p1)]) (by rcases p1 with _ | _ <;> rfl) ?_
  intro p e s m args below meth c E hr hlk hnm hZ hU hS ls hl
  obtain ⟨⟨hx, hb, hml, hown, hts⟩, hK, hJ⟩ := id E
  replace hr : meth.sig.returnType = some (FieldType.array (FieldType.array FieldType.int)) ∧ ((∃ n, (FieldType.array (FieldType.array FieldType.int)) = .object n) ∨ ∃ t, (FieldType.array (FieldType.array FieldType.int)) = .array t) := ⟨hr, Or.inr ⟨_, rfl⟩⟩
  unfold s1_leastTo
  refine x_aload_nO hx hb dX1_leastTo_0 rfl (lv_at hl 1 rfl) ?_
  refine X.onR (fun b1 hb_ => ?_)
  subst hb_
  refine fx_alen E hU.1.1.2.1 (t := 0) rfl dX1_leastTo_1 (fun v2 => ?_)
  refine x_istore_n (lv' := [(2, .int v2), (0, .ref (ad (0))), (1, .ref b1)]) hx hb dX1_leastTo_2 rfl hl (by decide) rfl (fun ls hl => ?_)
  refine x_iload_n hx hb dX1_leastTo_3 rfl (lv_at hl 0 rfl) ?_
  refine x_iconst (v := 1) hx hb dX1_leastTo_4 (by decide) ?_
  refine x_iadd hx hb dX1_leastTo_5 ?_
  refine x_iconst (v := 1) hx hb dX1_leastTo_6 (by decide) ?_
  refine x_aload_n hx hb dX1_leastTo_7 rfl (lv_at hl 1 rfl) ?_
  refine gX1_31 E hU.1.1 dX1_leastTo_8 ?_
  refine kzX1_2_women E hZ hU hS ⟨Nat.le_of_ble_eq_true rfl, Nat.le_of_ble_eq_true rfl⟩ hl.1 (Nat.le_of_ble_eq_true rfl) dX1_leastTo_11 (fun o3 H locs hU hS => ?_)
  refine x_ishl hx hb dX1_leastTo_14 ?_
  refine gy_newm E hZ hU hS (hts _ q1558) dX1_leastTo_15 (fun q4 G5 H hU hS => ?_)
  refine x_astore_n (lv' := [(3, .ref q4), (2, .int v2), (0, .ref (ad (0))), (1, .ref b1)]) hx hb dX1_leastTo_19 rfl hl (by decide) rfl (fun ls hl => ?_)
  refine x_iload_n hx hb dX1_leastTo_20 rfl (lv_at hl 1 rfl) ?_
  refine x_iconst (v := 1) hx hb dX1_leastTo_21 (by decide) ?_
  refine x_isub hx hb dX1_leastTo_22 ?_
  refine x_istore (lv' := [(4, .int (v2 - (1 : Int32))), (3, .ref q4), (2, .int v2), (0, .ref (ad (0))), (1, .ref b1)]) hx hb dX1_leastTo_23 hl (by decide) rfl (fun ls hl => ?_)
  refine X.loopY (I := fun (x : (GS × Int32)) g H locs => YW D clW ckH ct 26 ad P (mA 26 ad G0) S 0 G0 x.1 H ∧ va_S (mA 26 ad G0) s.heap H locs ∧ ∃ ls : Array Slot, g = F0 m 25 ls [] ∧ lv_has ls 7 [(0, .ref (ad (0))), (1, .ref b1), (3, .ref q4), (4, .int x.2)]) (cf := (fun (x : (GS × Int32)) => x.1.2.1 - G0.2.1)) (sf := (fun (x : (GS × Int32)) => x.1.2.2 - G0.2.2)) (fun rc8 ih8 => ?_) FUEL (G5, (v2 - (1 : Int32))) _ _ _ ⟨hU, hS, _, rfl, lv_sub hl [3, 4, 1, 0] rfl⟩
  rintro ⟨G6, v7⟩ _ H locs ⟨hU, hS, ls, rfl, hl⟩
  have hU : YW D clW ckH ct 26 ad P (mA 26 ad G0) S 0 G0 G6 H := hU
  have hl : lv_has ls 7 [(0, .ref (ad (0))), (1, .ref b1), (3, .ref q4), (4, .int v7)] := hl
  refine X.cs (cells2 := G6.2.1 - G0.2.1) (slots2 := G6.2.2 - G0.2.2) rfl rfl ?_
  refine X.eqs (sp2 := s1_leastTo_L25 S P b1 q4 rc8 G6 v7) rfl ?_
  unfold s1_leastTo_L25
  refine x_iload hx hb dX1_leastTo_25 (lv_at hl 3 rfl) ?_
  refine x_if_lt (tgt := 137) hx hb dX1_leastTo_27 (by decide) (fun hc => ?_) (fun hc => ?_)
  · refine x_aload_n hx hb dX1_leastTo_137 rfl (lv_at hl 2 rfl) ?_
    exact y_aret (r := (some q4)) hx hb hr hlk hZ hU hS rfl rfl hU.1 dX1_leastTo_138
  · refine x_iconst (v := 0) hx hb dX1_leastTo_30 (by decide) ?_
    refine x_istore (lv' := [(5, .int (0 : Int32)), (0, .ref (ad (0))), (1, .ref b1), (3, .ref q4), (4, .int v7)]) hx hb dX1_leastTo_31 hl (by decide) rfl (fun ls hl => ?_)
    refine X.loopY (I := fun (x : (GS × Int32)) g H locs => YW D clW ckH ct 26 ad P (mA 26 ad G0) S 0 G0 x.1 H ∧ va_S (mA 26 ad G0) s.heap H locs ∧ ∃ ls : Array Slot, g = F0 m 33 ls [] ∧ lv_has ls 7 [(0, .ref (ad (0))), (1, .ref b1), (3, .ref q4), (4, .int v7), (5, .int x.2)]) (cf := (fun (x : (GS × Int32)) => x.1.2.1 - G0.2.1)) (sf := (fun (x : (GS × Int32)) => x.1.2.2 - G0.2.2)) (fun rc11 ih11 => ?_) FUEL (G6, (0 : Int32)) _ _ _ ⟨hU, hS, _, rfl, lv_sub hl [1, 2, 3, 4, 0] rfl⟩
    rintro ⟨G9, v10⟩ _ H locs ⟨hU, hS, ls, rfl, hl⟩
    have hU : YW D clW ckH ct 26 ad P (mA 26 ad G0) S 0 G0 G9 H := hU
    have hl : lv_has ls 7 [(0, .ref (ad (0))), (1, .ref b1), (3, .ref q4), (4, .int v7), (5, .int v10)] := hl
    refine X.cs (cells2 := G9.2.1 - G0.2.1) (slots2 := G9.2.2 - G0.2.2) rfl rfl ?_
    refine X.eqs (sp2 := s1_leastTo_L33 S P b1 q4 v7 rc8 rc11 G9 v10) rfl ?_
    unfold s1_leastTo_L33
    refine x_iload hx hb dX1_leastTo_33 (lv_at hl 4 rfl) ?_
    refine x_aload_n hx hb dX1_leastTo_35 rfl (lv_at hl 2 rfl) ?_
    refine x_iload hx hb dX1_leastTo_36 (lv_at hl 3 rfl) ?_
    refine fx_aaloadI E hU.1.1.2.1 rfl dX1_leastTo_38 (fun r12 => ?_)
    refine X.onR (fun b13 hb_ => ?_)
    subst hb_
    refine fx_alen E hU.1.1.2.1 (t := 0) rfl dX1_leastTo_39 (fun v14 => ?_)
    refine x_icmp_ge (tgt := 131) hx hb dX1_leastTo_40 (by decide) (fun hc => ?_) (fun hc => ?_)
    · refine x_iinc (v := (v7 + (-1 : Int32))) (lv' := [(4, .int (v7 + (-1 : Int32))), (0, .ref (ad (0))), (1, .ref b1), (3, .ref q4), (5, .int v10)]) (k := 3) hx hb dX1_leastTo_131 hl rfl rfl (by decide) rfl (fun ls hl => ?_)
      refine x_goto (tgt := 25) hx hb dX1_leastTo_134 (by decide) ?_
      exact ih8 (G9, (v7 + (-1 : Int32))) _ _ _ ⟨hU, hS, _, rfl, lv_sub hl [1, 2, 3, 0] rfl⟩
    · refine x_aload_n hx hb dX1_leastTo_43 rfl (lv_at hl 2 rfl) ?_
      refine x_iload hx hb dX1_leastTo_44 (lv_at hl 3 rfl) ?_
      refine fx_aaloadI E hU.1.1.2.1 rfl dX1_leastTo_46 (fun r15 => ?_)
      refine x_iload hx hb dX1_leastTo_47 (lv_at hl 4 rfl) ?_
      refine x_ldc hx hb hown (hts _ q625) dX1_leastTo_49 ?_
      refine X.onR (fun b16 hb_ => ?_)
      subst hb_
      refine gy_iast E hU hS dX1_leastTo_51 (fun G17 H locs hU hS => ?_)
      refine x_iconst (v := 0) hx hb dX1_leastTo_52 (by decide) ?_
      refine x_istore (lv' := [(6, .int (0 : Int32)), (0, .ref (ad (0))), (1, .ref b1), (3, .ref q4), (4, .int v7), (5, .int v10)]) hx hb dX1_leastTo_53 hl (by decide) rfl (fun ls hl => ?_)
      refine X.loopY (I := fun (x : (GS × Int32)) g H locs => YW D clW ckH ct 26 ad P (mA 26 ad G0) S 0 G0 x.1 H ∧ va_S (mA 26 ad G0) s.heap H locs ∧ ∃ ls : Array Slot, g = F0 m 55 ls [] ∧ lv_has ls 7 [(0, .ref (ad (0))), (1, .ref b1), (3, .ref q4), (4, .int v7), (5, .int v10), (6, .int x.2)]) (cf := (fun (x : (GS × Int32)) => x.1.2.1 - G0.2.1)) (sf := (fun (x : (GS × Int32)) => x.1.2.2 - G0.2.2)) (fun rc20 ih20 => ?_) FUEL (G17, (0 : Int32)) _ _ _ ⟨hU, hS, _, rfl, lv_sub hl [1, 2, 3, 4, 5, 0] rfl⟩
      rintro ⟨G18, v19⟩ _ H locs ⟨hU, hS, ls, rfl, hl⟩
      have hU : YW D clW ckH ct 26 ad P (mA 26 ad G0) S 0 G0 G18 H := hU
      have hl : lv_has ls 7 [(0, .ref (ad (0))), (1, .ref b1), (3, .ref q4), (4, .int v7), (5, .int v10), (6, .int v19)] := hl
      refine X.cs (cells2 := G18.2.1 - G0.2.1) (slots2 := G18.2.2 - G0.2.2) rfl rfl ?_
      refine X.eqs (sp2 := s1_leastTo_L55 S P b1 q4 v7 v10 rc11 rc20 G18 v19) rfl ?_
      unfold s1_leastTo_L55
      refine x_iload hx hb dX1_leastTo_55 (lv_at hl 5 rfl) ?_
      refine x_aload_n hx hb dX1_leastTo_57 rfl (lv_at hl 0 rfl) ?_
      refine gX1_31 E hU.1.1 dX1_leastTo_58 ?_
      refine kzX1_2_women E hZ hU hS ⟨Nat.le_of_ble_eq_true rfl, Nat.le_of_ble_eq_true rfl⟩ hl.1 (Nat.le_of_ble_eq_true rfl) dX1_leastTo_61 (fun o21 H locs hU hS => ?_)
      refine x_icmp_ge (tgt := 125) hx hb dX1_leastTo_64 (by decide) (fun hc => ?_) (fun hc => ?_)
      · refine x_iinc (v := (v10 + (1 : Int32))) (lv' := [(5, .int (v10 + (1 : Int32))), (0, .ref (ad (0))), (1, .ref b1), (3, .ref q4), (4, .int v7), (6, .int v19)]) (k := 4) hx hb dX1_leastTo_125 hl rfl rfl (by decide) rfl (fun ls hl => ?_)
        refine x_goto (tgt := 33) hx hb dX1_leastTo_128 (by decide) ?_
        exact ih11 (G18, (v10 + (1 : Int32))) _ _ _ ⟨hU, hS, _, rfl, lv_sub hl [1, 2, 3, 4, 0] rfl⟩
      · refine x_iload hx hb dX1_leastTo_67 (lv_at hl 4 rfl) ?_
        refine x_iload hx hb dX1_leastTo_69 (lv_at hl 5 rfl) ?_
        refine kzX1_1_isOf E hZ hU hS ⟨Nat.le_of_ble_eq_true rfl, Nat.le_of_ble_eq_true rfl⟩ hl.1 (Nat.le_of_ble_eq_true rfl) dX1_leastTo_71 (fun o22 H locs hU hS => ?_)
        refine x_if_ne (tgt := 119) hx hb dX1_leastTo_74 (by decide) (fun hc => ?_) (fun hc => ?_)
        · refine x_iinc (v := (v19 + (1 : Int32))) (lv' := [(6, .int (v19 + (1 : Int32))), (0, .ref (ad (0))), (1, .ref b1), (3, .ref q4), (4, .int v7), (5, .int v10)]) (k := 5) hx hb dX1_leastTo_119 hl rfl rfl (by decide) rfl (fun ls hl => ?_)
          refine x_goto (tgt := 55) hx hb dX1_leastTo_122 (by decide) ?_
          exact ih20 (G18, (v19 + (1 : Int32))) _ _ _ ⟨hU, hS, _, rfl, lv_sub hl [1, 2, 3, 4, 5, 0] rfl⟩
        · refine x_aload_n hx hb dX1_leastTo_77 rfl (lv_at hl 2 rfl) ?_
          refine x_iload hx hb dX1_leastTo_78 (lv_at hl 3 rfl) ?_
          refine fx_aaloadI E hU.1.1.2.1 rfl dX1_leastTo_80 (fun r23 => ?_)
          refine x_iload hx hb dX1_leastTo_81 (lv_at hl 4 rfl) ?_
          refine x_aload_n hx hb dX1_leastTo_83 rfl (lv_at hl 2 rfl) ?_
          refine x_iload hx hb dX1_leastTo_84 (lv_at hl 3 rfl) ?_
          refine fx_aaloadI E hU.1.1.2.1 rfl dX1_leastTo_86 (fun r24 => ?_)
          refine x_iload hx hb dX1_leastTo_87 (lv_at hl 4 rfl) ?_
          refine X.onR (fun b25 hb_ => ?_)
          subst hb_
          refine fx_iaload E hU.1.1.2.1 dX1_leastTo_89 (fun v26 => ?_)
          refine x_aload_n hx hb dX1_leastTo_90 rfl (lv_at hl 0 rfl) ?_
          refine x_iload hx hb dX1_leastTo_91 (lv_at hl 5 rfl) ?_
          refine x_aload_n hx hb dX1_leastTo_93 rfl (lv_at hl 1 rfl) ?_
          refine x_iload hx hb dX1_leastTo_94 (lv_at hl 3 rfl) ?_
          refine fx_iaload E hU.1.1.2.1 dX1_leastTo_96 (fun v27 => ?_)
          refine kzX1_1_steps E hZ hU hS ⟨Nat.le_of_ble_eq_true rfl, Nat.le_of_ble_eq_true rfl⟩ hl.1 (by rcases r23 with _ | _ <;> exact Nat.le_of_ble_eq_true rfl) dX1_leastTo_97 (fun o28 H locs hU hS => ?_)
          refine x_aload_n hx hb dX1_leastTo_100 rfl (lv_at hl 2 rfl) ?_
          refine x_iload hx hb dX1_leastTo_101 (lv_at hl 3 rfl) ?_
          refine x_iconst (v := 1) hx hb dX1_leastTo_103 (by decide) ?_
          refine x_iadd hx hb dX1_leastTo_104 ?_
          refine fx_aaloadI E hU.1.1.2.1 rfl dX1_leastTo_105 (fun r29 => ?_)
          refine x_iload hx hb dX1_leastTo_106 (lv_at hl 4 rfl) ?_
          refine x_iconst (v := 1) hx hb dX1_leastTo_108 (by decide) ?_
          refine x_iload hx hb dX1_leastTo_109 (lv_at hl 5 rfl) ?_
          refine x_ishl hx hb dX1_leastTo_111 ?_
          refine x_ior hx hb dX1_leastTo_112 ?_
          refine X.onR (fun b30 hb_ => ?_)
          subst hb_
          refine fx_iaload E hU.1.1.2.1 dX1_leastTo_113 (fun v31 => ?_)
          refine x_iadd hx hb dX1_leastTo_114 ?_
          refine kX1_min E ⟨Nat.le_of_ble_eq_true rfl, Nat.le_of_ble_eq_true rfl⟩ hl.1 (by rcases r23 with _ | _ <;> exact Nat.le_of_ble_eq_true rfl) dX1_leastTo_115 (hU.room0 hZ) ?_
          refine X.onR (fun b32 hb_ => ?_)
          subst hb_
          refine gy_iast E hU hS dX1_leastTo_118 (fun G33 H locs hU hS => ?_)
          refine x_iinc (v := (v19 + (1 : Int32))) (lv' := [(6, .int (v19 + (1 : Int32))), (0, .ref (ad (0))), (1, .ref b1), (3, .ref q4), (4, .int v7), (5, .int v10)]) (k := 5) hx hb dX1_leastTo_119 hl rfl rfl (by decide) rfl (fun ls hl => ?_)
          refine x_goto (tgt := 55) hx hb dX1_leastTo_122 (by decide) ?_
          exact ih20 (G33, (v19 + (1 : Int32))) _ _ _ ⟨hU, hS, _, rfl, lv_sub hl [1, 2, 3, 4, 5, 0] rfl⟩
section KZ
variable {ρ : Type} {p : Program} {l : Launch} {e : Env} {R : Room} {s : State} {m : MethodId} {args : Array Value} {below : List Frame} {meth : Method} {c : Code} {H : Heap} {locs : List Loc} {Qf : ρ → State → Prop}
variable {cc : ByteArray} {pc nL L M q0 : Nat} {ls : Array Slot} {rest : List Value}
variable {D : va_G} {ct : CT} {ck : Nat → UC} {N : Nat} {ad : Nat → Nat} {P : Nat → Nat → Option Nat} {A : Nat → Prop} {S : US} {w : Int64} {G0 G : GS}
theorem kzX1_1_leastTo {p1 : (Option Nat)} (E : ME p m c cc nL s args RX1 D clW ct) (hZ : YC ct R s A G0) (hY : YW D clW ckH ct 26 ad P A S 0 G0 G H) (hS : va_S A s.heap H locs) (hR : 3 + 1 ≤ R.frames ∧ 8 + (7 + 11) + 85 ≤ R.locals) (hsize : ls.size = nL) (hW : (rest.map fun v => v.category).sum ≤ 8) (hdg : decode cc pc = .ok (.invokevirtual 273, 3)) {kp : ((Option Nat) × GS) → Option ρ} (kk : ∀ (o : ((Option Nat) × GS)) (H1 : Heap) (locs1 : List Loc), YW D clW ckH ct 26 ad P A S 0 G0 o.2 H1 → va_S A s.heap H1 locs1 → X p l e R s m args below meth c H1 locs1 (o.2.2.1 - G0.2.1) (o.2.2.2 - G0.2.2) Qf (kp o) (F0 m (pc + 3) ls (va_rf o.1 :: rest))) : X p l e R s m args below meth c H locs (G.2.1 - G0.2.1) (G.2.2 - G0.2.2) Qf (callK (s1_leastTo ct ad P S G p1) kp) (F0 m pc ls (va_rf p1 :: .ref (ad (0)) :: rest)) := gy_mx (val' := fun (o : ((Option Nat) × GS)) => some (va_rf o.1)) (len := 3) (So := fun (o : ((Option Nat) × GS)) => S) (Po := fun (o : ((Option Nat) × GS)) => P) (Gn := fun (o : ((Option Nat) × GS)) => o.2) hZ hY hS (fun o ho => rqV (As := [va_rf p1]) E hY.1.any (recvU (i := 0) E.2.1 hY.1.1.1 (by decide) rfl rfl) (by rw [hY.1.2.1]; exact mY1_leastTo l D ct ad P S G p1 o ho) (cwV 1 E.1.2.2.2.2 (lw_V q1554 q1556 qs39 q113 q1557) rfl rfl rfl (by decide +kernel) hR) rfl hsize rfl hW hdg (hY.room hZ)) kk
end KZ

set_option maxHeartbeats 4000000 in
theorem mY1_sent (l : Launch) (D : va_G) (ct : CT) (ad : Nat → Nat) (P : Nat → Nat → Option Nat) (S : US) (G0 : GS) (p1 : Int32) (p2 : Int32) (o : (Int32 × GS)) (ho : s1_sent ct ad P S G0 p1 p2 = some o) : Met l yX1_sent (ws_ yX1_sent cX1_sent 9 (some .int)) { frames := 4, cells := nmax ct - G0.2.1, slots := zmax ct - G0.2.2, locals := 111 } (mP D clW ct [.ref (ad (0)), .int p1, .int p2] G0.2.1 (MW D clW ckH ct 26 ad P (fun _ => True) S 0 G0)) (yC (some (.int o.1)) (MW D clW ckH ct 26 ad P (mA 26 ad G0) S 0 o.2) G0 o.2 (mA 26 ad G0)) (nmax ct - G0.2.1) (zmax ct - G0.2.2) (mA 26 ad G0) := by
  refine Y.start (val := fun (o : (Int32 × GS)) => some (.int o.1)) (Bt := fun (o : (Int32 × GS)) => MW D clW ckH ct 26 ad P (mA 26 ad G0) S 0 o.2) (Go := fun (o : (Int32 × GS)) => o.2) ho (by decide) (Nat.le_of_ble_eq_true rfl) (lv := [(0, .ref (ad (0))), (1, .int p1), (2, .int p2)]) rfl ?_
  intro p e s m args below meth c E hr hlk hnm hZ hU hS ls hl
  obtain ⟨⟨hx, hb, hml, hown, hts⟩, hK, hJ⟩ := id E
  unfold s1_sent
  refine x_iload_n hx hb dX1_sent_0 rfl (lv_at hl 1 rfl) ?_
  refine x_iconst (v := 0) hx hb dX1_sent_1 (by decide) ?_
  refine x_iconst (v := 1) hx hb dX1_sent_2 (by decide) ?_
  refine x_aload_n hx hb dX1_sent_3 rfl (lv_at hl 0 rfl) ?_
  refine gX1_31 E hU.1.1 dX1_sent_4 ?_
  refine gX1_115 E hU.1.1 dX1_sent_7 ?_
  refine x_ishl hx hb dX1_sent_10 ?_
  refine x_iconst (v := 1) hx hb dX1_sent_11 (by decide) ?_
  refine x_isub hx hb dX1_sent_12 ?_
  refine kzX1_1_in E hZ hU hS ⟨Nat.le_of_ble_eq_true rfl, Nat.le_of_ble_eq_true rfl⟩ hl.1 (Nat.le_of_ble_eq_true rfl) dX1_sent_13 (fun o1 H locs hU hS => ?_)
  refine X.join2Y (fun (x : Int32) g H locs => YW D clW ckH ct 26 ad P (mA 26 ad G0) S 0 G0 G0 H ∧ va_S (mA 26 ad G0) s.heap H locs ∧ ∃ ls : Array Slot, g = F0 m 33 ls [.int x] ∧ lv_has ls 9 [(0, .ref (ad (0))), (1, .int p1), (2, .int p2)]) (fun (x : Int32) => G0.2.1 - G0.2.1) (fun (x : Int32) => G0.2.2 - G0.2.2) ?_ (fun j3 hj3 => ?_)
  · rintro y2 _ H locs ⟨hU, hS, ls, rfl, hl⟩
    refine X.cs (cells2 := G0.2.1 - G0.2.1) (slots2 := G0.2.2 - G0.2.2) rfl rfl ?_
    refine X.eqs (sp2 := s1_sent_J33 p1 p2 S P ad G0 ct y2) rfl ?_
    unfold s1_sent_J33
    refine kzX1_1_right E hZ hU hS ⟨Nat.le_of_ble_eq_true rfl, Nat.le_of_ble_eq_true rfl⟩ hl.1 (Nat.le_of_ble_eq_true rfl) dX1_sent_33 (fun o5 H locs hU hS => ?_)
    refine x_iload_n hx hb dX1_sent_36 rfl (lv_at hl 2 rfl) ?_
    refine x_iconst (v := -1) hx hb dX1_sent_37 (by decide) ?_
    refine X.join2Y (fun (x : Int32) g H locs => YW D clW ckH ct 26 ad P (mA 26 ad G0) S 0 G0 G0 H ∧ va_S (mA 26 ad G0) s.heap H locs ∧ ∃ ls : Array Slot, g = F0 m 71 ls [.int x] ∧ lv_has ls 9 [(0, .ref (ad (0))), (1, .int p1), (2, .int p2)]) (fun (x : Int32) => G0.2.1 - G0.2.1) (fun (x : Int32) => G0.2.2 - G0.2.2) ?_ (fun j7 hj7 => ?_)
    · rintro y6 _ H locs ⟨hU, hS, ls, rfl, hl⟩
      refine X.cs (cells2 := G0.2.1 - G0.2.1) (slots2 := G0.2.2 - G0.2.2) rfl rfl ?_
      refine X.eqs (sp2 := s1_sent_J71 p1 p2 S P ad G0 ct y6) rfl ?_
      unfold s1_sent_J71
      refine kzX1_1_found E hZ hU hS ⟨Nat.le_of_ble_eq_true rfl, Nat.le_of_ble_eq_true rfl⟩ hl.1 (Nat.le_of_ble_eq_true rfl) dX1_sent_71 (fun o10 H locs hU hS => ?_)
      refine x_aload_n hx hb dX1_sent_74 rfl (lv_at hl 0 rfl) ?_
      refine x_iload_n hx hb dX1_sent_75 rfl (lv_at hl 1 rfl) ?_
      refine kzX1_1_bitsOf E hZ hU hS ⟨Nat.le_of_ble_eq_true rfl, Nat.le_of_ble_eq_true rfl⟩ hl.1 (Nat.le_of_ble_eq_true rfl) dX1_sent_76 (fun o11 H locs hU hS => ?_)
      refine X.onR (fun b12 hb_ => ?_)
      rw [hb_]
      try rw [hb_] at hl
      refine x_astore_n (lv' := [(3, .ref b12), (0, .ref (ad (0))), (1, .int p1), (2, .int p2)]) hx hb dX1_sent_79 rfl hl (by decide) rfl (fun ls hl => ?_)
      refine x_aload_n hx hb dX1_sent_80 rfl (lv_at hl 0 rfl) ?_
      refine fx_alen E hU.1.1.2.1 (t := 0) rfl dX1_sent_81 (fun v13 => ?_)
      refine x_aload_n hx hb dX1_sent_82 rfl (lv_at hl 1 rfl) ?_
      refine gX1_31 E hU.1.1 dX1_sent_83 ?_
      refine kzX1_2_women E hZ hU hS ⟨Nat.le_of_ble_eq_true rfl, Nat.le_of_ble_eq_true rfl⟩ hl.1 (Nat.le_of_ble_eq_true rfl) dX1_sent_86 (fun o14 H locs hU hS => ?_)
      refine x_icmp_le (tgt := 95) hx hb dX1_sent_89 (by decide) (fun hc => ?_) (fun hc => ?_)
      · refine x_aload_n hx hb dX1_sent_95 rfl (lv_at hl 1 rfl) ?_
        refine x_aload_n hx hb dX1_sent_96 rfl (lv_at hl 0 rfl) ?_
        refine kzX1_1_leastTo E hZ hU hS ⟨Nat.le_of_ble_eq_true rfl, Nat.le_of_ble_eq_true rfl⟩ hl.1 (Nat.le_of_ble_eq_true rfl) dX1_sent_97 (fun o15 H locs hU hS => ?_)
        refine X.onR (fun b16 hb_ => ?_)
        rw [hb_]
        try rw [hb_] at hl
        refine x_astore (lv' := [(4, .ref b16), (3, .ref b12), (0, .ref (ad (0))), (1, .int p1), (2, .int p2)]) hx hb dX1_sent_100 hl (by decide) rfl (fun ls hl => ?_)
        refine x_iload_n hx hb dX1_sent_102 rfl (lv_at hl 4 rfl) ?_
        refine x_iconst (v := -1) hx hb dX1_sent_103 (by decide) ?_
        refine x_icmp_ne (tgt := 114) hx hb dX1_sent_104 (by decide) (fun hc => ?_) (fun hc => ?_)
        · refine x_iconst (v := 0) hx hb dX1_sent_114 (by decide) ?_
          refine x_istore (lv' := [(5, .int (0 : Int32)), (4, .ref b16), (3, .ref b12), (0, .ref (ad (0))), (1, .int p1), (2, .int p2)]) hx hb dX1_sent_115 hl (by decide) rfl (fun ls hl => ?_)
          refine x_iconst (v := 0) hx hb dX1_sent_117 (by decide) ?_
          refine x_istore (lv' := [(6, .int (0 : Int32)), (5, .int (0 : Int32)), (4, .ref b16), (3, .ref b12), (0, .ref (ad (0))), (1, .int p1), (2, .int p2)]) hx hb dX1_sent_118 hl (by decide) rfl (fun ls hl => ?_)
          refine X.loopY (I := fun (x : (Int32 × Int32)) g H locs => YW D clW ckH ct 26 ad P (mA 26 ad G0) S 0 G0 o15.2 H ∧ va_S (mA 26 ad G0) s.heap H locs ∧ ∃ ls : Array Slot, g = F0 m 120 ls [] ∧ lv_has ls 9 [(0, .ref (ad (0))), (2, .int p2), (3, .ref b12), (4, .ref b16), (5, .int x.1), (6, .int x.2)]) (cf := (fun (x : (Int32 × Int32)) => o15.2.2.1 - G0.2.1)) (sf := (fun (x : (Int32 × Int32)) => o15.2.2.2 - G0.2.2)) (fun rc19 ih19 => ?_) FUEL ((0 : Int32), (0 : Int32)) _ _ _ ⟨hU, hS, _, rfl, lv_sub hl [4, 6, 3, 2, 1, 0] rfl⟩
          rintro ⟨v17, v18⟩ _ H locs ⟨hU, hS, ls, rfl, hl⟩
          have hU : YW D clW ckH ct 26 ad P (mA 26 ad G0) S 0 G0 o15.2 H := hU
          have hl : lv_has ls 9 [(0, .ref (ad (0))), (2, .int p2), (3, .ref b12), (4, .ref b16), (5, .int v17), (6, .int v18)] := hl
          refine X.cs (cells2 := o15.2.2.1 - G0.2.1) (slots2 := o15.2.2.2 - G0.2.2) rfl rfl ?_
          refine X.eqs (sp2 := s1_sent_L120 p2 S P b12 o15 b16 rc19 v17 v18) rfl ?_
          unfold s1_sent_L120
          refine x_iload hx hb dX1_sent_120 (lv_at hl 5 rfl) ?_
          refine x_aload_n hx hb dX1_sent_122 rfl (lv_at hl 2 rfl) ?_
          refine fx_alen E hU.1.1.2.1 (t := 0) rfl dX1_sent_123 (fun v20 => ?_)
          refine x_icmp_ge (tgt := 229) hx hb dX1_sent_124 (by decide) (fun hc => ?_) (fun hc => ?_)
          · refine x_iconst (v := -1) hx hb dX1_sent_229 (by decide) ?_
            exact y_iret hx hb hr hlk hZ hU hS rfl rfl hU.1 dX1_sent_230
          · refine x_iconst (v := -1) hx hb dX1_sent_127 (by decide) ?_
            refine x_istore (lv' := [(7, .int (-1 : Int32)), (0, .ref (ad (0))), (2, .int p2), (3, .ref b12), (4, .ref b16), (5, .int v17), (6, .int v18)]) hx hb dX1_sent_128 hl (by decide) rfl (fun ls hl => ?_)
            refine x_aload_n hx hb dX1_sent_130 rfl (lv_at hl 1 rfl) ?_
            refine gX1_31 E hU.1.1 dX1_sent_131 ?_
            refine kzX1_2_women E hZ hU hS ⟨Nat.le_of_ble_eq_true rfl, Nat.le_of_ble_eq_true rfl⟩ hl.1 (Nat.le_of_ble_eq_true rfl) dX1_sent_134 (fun o21 H locs hU hS => ?_)
            refine x_iconst (v := 1) hx hb dX1_sent_137 (by decide) ?_
            refine x_isub hx hb dX1_sent_138 ?_
            refine x_istore (lv' := [(8, .int (o21 - (1 : Int32))), (7, .int (-1 : Int32)), (0, .ref (ad (0))), (2, .int p2), (3, .ref b12), (4, .ref b16), (5, .int v17), (6, .int v18)]) hx hb dX1_sent_139 hl (by decide) rfl (fun ls hl => ?_)
            refine X.loopY (I := fun (x : (Int32 × Int32)) g H locs => YW D clW ckH ct 26 ad P (mA 26 ad G0) S 0 G0 o15.2 H ∧ va_S (mA 26 ad G0) s.heap H locs ∧ ∃ ls : Array Slot, g = F0 m 141 ls [] ∧ lv_has ls 9 [(0, .ref (ad (0))), (2, .int p2), (3, .ref b12), (4, .ref b16), (5, .int v17), (6, .int v18), (7, .int x.1), (8, .int x.2)]) (cf := (fun (x : (Int32 × Int32)) => o15.2.2.1 - G0.2.1)) (sf := (fun (x : (Int32 × Int32)) => o15.2.2.2 - G0.2.2)) (fun rc24 ih24 => ?_) FUEL ((-1 : Int32), (o21 - (1 : Int32))) _ _ _ ⟨hU, hS, _, rfl, lv_sub hl [2, 3, 4, 5, 6, 7, 1, 0] rfl⟩
            rintro ⟨v22, v23⟩ _ H locs ⟨hU, hS, ls, rfl, hl⟩
            have hU : YW D clW ckH ct 26 ad P (mA 26 ad G0) S 0 G0 o15.2 H := hU
            have hl : lv_has ls 9 [(0, .ref (ad (0))), (2, .int p2), (3, .ref b12), (4, .ref b16), (5, .int v17), (6, .int v18), (7, .int v22), (8, .int v23)] := hl
            refine X.cs (cells2 := o15.2.2.1 - G0.2.1) (slots2 := o15.2.2.2 - G0.2.2) rfl rfl ?_
            refine X.eqs (sp2 := s1_sent_L141 p2 S b12 o15 b16 v17 v18 rc19 rc24 v22 v23) rfl ?_
            unfold s1_sent_L141
            refine x_iload hx hb dX1_sent_141 (lv_at hl 7 rfl) ?_
            refine x_if_lt (tgt := 203) hx hb dX1_sent_143 (by decide) (fun hc => ?_) (fun hc => ?_)
            · refine x_aload_n hx hb dX1_sent_203 rfl (lv_at hl 2 rfl) ?_
              refine x_iload hx hb dX1_sent_204 (lv_at hl 5 rfl) ?_
              refine fx_iaload E hU.1.1.2.1 dX1_sent_206 (fun v25 => ?_)
              refine x_iload_n hx hb dX1_sent_207 rfl (lv_at hl 1 rfl) ?_
              refine x_icmp_ne (tgt := 214) hx hb dX1_sent_208 (by decide) (fun hc => ?_) (fun hc => ?_)
              · refine x_iload hx hb dX1_sent_214 (lv_at hl 4 rfl) ?_
                refine x_iconst (v := 1) hx hb dX1_sent_216 (by decide) ?_
                refine x_iload hx hb dX1_sent_217 (lv_at hl 6 rfl) ?_
                refine x_ishl hx hb dX1_sent_219 ?_
                refine x_ior hx hb dX1_sent_220 ?_
                refine x_istore (lv' := [(5, .int (v17 ||| ((1 : Int32) <<< (v22 &&& 31)))), (0, .ref (ad (0))), (2, .int p2), (3, .ref b12), (4, .ref b16), (6, .int v18), (7, .int v22), (8, .int v23)]) hx hb dX1_sent_221 hl (by decide) rfl (fun ls hl => ?_)
                refine x_iinc (v := (v18 + (1 : Int32))) (lv' := [(6, .int (v18 + (1 : Int32))), (5, .int (v17 ||| ((1 : Int32) <<< (v22 &&& 31)))), (0, .ref (ad (0))), (2, .int p2), (3, .ref b12), (4, .ref b16), (7, .int v22), (8, .int v23)]) (k := 5) hx hb dX1_sent_223 hl rfl rfl (by decide) rfl (fun ls hl => ?_)
                refine x_goto (tgt := 120) hx hb dX1_sent_226 (by decide) ?_
                exact ih19 ((v17 ||| ((1 : Int32) <<< (v22 &&& 31))), (v18 + (1 : Int32))) _ _ _ ⟨hU, hS, _, rfl, lv_sub hl [2, 3, 4, 5, 1, 0] rfl⟩
              · refine x_iload hx hb dX1_sent_211 (lv_at hl 6 rfl) ?_
                exact y_iret hx hb hr hlk hZ hU hS rfl rfl hU.1 dX1_sent_213
            · refine x_iload hx hb dX1_sent_146 (lv_at hl 4 rfl) ?_
              refine x_iload hx hb dX1_sent_148 (lv_at hl 7 rfl) ?_
              refine kzX1_1_isOf E hZ hU hS ⟨Nat.le_of_ble_eq_true rfl, Nat.le_of_ble_eq_true rfl⟩ hl.1 (Nat.le_of_ble_eq_true rfl) dX1_sent_150 (fun o26 H locs hU hS => ?_)
              refine x_if_ne (tgt := 197) hx hb dX1_sent_153 (by decide) (fun hc => ?_) (fun hc => ?_)
              · refine x_iinc (v := (v23 + (-1 : Int32))) (lv' := [(8, .int (v23 + (-1 : Int32))), (0, .ref (ad (0))), (2, .int p2), (3, .ref b12), (4, .ref b16), (5, .int v17), (6, .int v18), (7, .int v22)]) (k := 7) hx hb dX1_sent_197 hl rfl rfl (by decide) rfl (fun ls hl => ?_)
                refine x_goto (tgt := 141) hx hb dX1_sent_200 (by decide) ?_
                exact ih24 (v22, (v23 + (-1 : Int32))) _ _ _ ⟨hU, hS, _, rfl, lv_sub hl [1, 2, 3, 4, 5, 6, 7, 0] rfl⟩
              · refine x_aload_n hx hb dX1_sent_156 rfl (lv_at hl 0 rfl) ?_
                refine x_iload hx hb dX1_sent_157 (lv_at hl 7 rfl) ?_
                refine x_aload_n hx hb dX1_sent_159 rfl (lv_at hl 2 rfl) ?_
                refine x_iload hx hb dX1_sent_160 (lv_at hl 5 rfl) ?_
                refine fx_iaload E hU.1.1.2.1 dX1_sent_162 (fun v27 => ?_)
                refine kzX1_1_steps E hZ hU hS ⟨Nat.le_of_ble_eq_true rfl, Nat.le_of_ble_eq_true rfl⟩ hl.1 (Nat.le_of_ble_eq_true rfl) dX1_sent_163 (fun o28 H locs hU hS => ?_)
                refine x_aload hx hb dX1_sent_166 (lv_at hl 3 rfl) ?_
                refine x_iload hx hb dX1_sent_168 (lv_at hl 5 rfl) ?_
                refine x_iconst (v := 1) hx hb dX1_sent_170 (by decide) ?_
                refine x_iadd hx hb dX1_sent_171 ?_
                refine fx_aaloadI E hU.1.1.2.1 rfl dX1_sent_172 (fun r29 => ?_)
                refine x_iload hx hb dX1_sent_173 (lv_at hl 4 rfl) ?_
                refine x_iconst (v := 1) hx hb dX1_sent_175 (by decide) ?_
                refine x_iload hx hb dX1_sent_176 (lv_at hl 7 rfl) ?_
                refine x_ishl hx hb dX1_sent_178 ?_
                refine x_ior hx hb dX1_sent_179 ?_
                refine X.onR (fun b30 hb_ => ?_)
                subst hb_
                refine fx_iaload E hU.1.1.2.1 dX1_sent_180 (fun v31 => ?_)
                refine x_iadd hx hb dX1_sent_181 ?_
                refine x_aload hx hb dX1_sent_182 (lv_at hl 3 rfl) ?_
                refine x_iload hx hb dX1_sent_184 (lv_at hl 5 rfl) ?_
                refine fx_aaloadI E hU.1.1.2.1 rfl dX1_sent_186 (fun r32 => ?_)
                refine x_iload hx hb dX1_sent_187 (lv_at hl 4 rfl) ?_
                refine X.onR (fun b33 hb_ => ?_)
                subst hb_
                refine fx_iaload E hU.1.1.2.1 dX1_sent_189 (fun v34 => ?_)
                refine x_icmp_ne (tgt := 197) hx hb dX1_sent_190 (by decide) (fun hc => ?_) (fun hc => ?_)
                · refine x_iinc (v := (v23 + (-1 : Int32))) (lv' := [(8, .int (v23 + (-1 : Int32))), (0, .ref (ad (0))), (2, .int p2), (3, .ref b12), (4, .ref b16), (5, .int v17), (6, .int v18), (7, .int v22)]) (k := 7) hx hb dX1_sent_197 hl rfl rfl (by decide) rfl (fun ls hl => ?_)
                  refine x_goto (tgt := 141) hx hb dX1_sent_200 (by decide) ?_
                  exact ih24 (v22, (v23 + (-1 : Int32))) _ _ _ ⟨hU, hS, _, rfl, lv_sub hl [1, 2, 3, 4, 5, 6, 7, 0] rfl⟩
                · refine x_iload hx hb dX1_sent_193 (lv_at hl 7 rfl) ?_
                  refine x_istore (lv' := [(7, .int v23), (0, .ref (ad (0))), (2, .int p2), (3, .ref b12), (4, .ref b16), (5, .int v17), (6, .int v18), (8, .int v23)]) hx hb dX1_sent_195 hl (by decide) rfl (fun ls hl => ?_)
                  refine x_iinc (v := (v23 + (-1 : Int32))) (lv' := [(8, .int (v23 + (-1 : Int32))), (7, .int v23), (0, .ref (ad (0))), (2, .int p2), (3, .ref b12), (4, .ref b16), (5, .int v17), (6, .int v18)]) (k := 7) hx hb dX1_sent_197 hl rfl rfl (by decide) rfl (fun ls hl => ?_)
                  refine x_goto (tgt := 141) hx hb dX1_sent_200 (by decide) ?_
                  exact ih24 (v23, (v23 + (-1 : Int32))) _ _ _ ⟨hU, hS, _, rfl, lv_sub hl [2, 3, 4, 5, 6, 7, 1, 0] rfl⟩
        · refine x_aload hx hb dX1_sent_107 (lv_at hl 0 rfl) ?_
          refine x_iconst (v := 0) hx hb dX1_sent_109 (by decide) ?_
          refine fx_aaloadI E hU.1.1.2.1 rfl dX1_sent_110 (fun r35 => ?_)
          refine x_iconst (v := 0) hx hb dX1_sent_111 (by decide) ?_
          refine X.onR (fun b36 hb_ => ?_)
          subst hb_
          refine fx_iaload E hU.1.1.2.1 dX1_sent_112 (fun v37 => ?_)
          exact y_iret hx hb hr hlk hZ hU hS rfl rfl hU.1 dX1_sent_113
      · refine x_bipush (v := -2) hx hb dX1_sent_92 (by decide) ?_
        exact y_iret hx hb hr hlk hZ hU hS rfl rfl hU.1 dX1_sent_94
    · refine x_icmp_eq (tgt := 66) hx hb dX1_sent_38 (by decide) (fun hc => ?_) (fun hc => ?_)
      · refine x_iconst (v := 1) hx hb dX1_sent_66 (by decide) ?_
        refine x_goto (tgt := 71) hx hb dX1_sent_67 (by decide) ?_
        exact hj7 (1 : Int32) _ _ _ ⟨hU, hS, _, rfl, lv_sub hl [0, 1, 2] rfl⟩
      · refine x_iload_n hx hb dX1_sent_41 rfl (lv_at hl 2 rfl) ?_
        refine x_iconst (v := 0) hx hb dX1_sent_42 (by decide) ?_
        refine x_aload_n hx hb dX1_sent_43 rfl (lv_at hl 0 rfl) ?_
        refine gX1_31 E hU.1.1 dX1_sent_44 ?_
        refine gX1_115 E hU.1.1 dX1_sent_47 ?_
        refine x_iconst (v := 1) hx hb dX1_sent_50 (by decide) ?_
        refine x_isub hx hb dX1_sent_51 ?_
        refine kzX1_1_in E hZ hU hS ⟨Nat.le_of_ble_eq_true rfl, Nat.le_of_ble_eq_true rfl⟩ hl.1 (Nat.le_of_ble_eq_true rfl) dX1_sent_52 (fun o8 H locs hU hS => ?_)
        refine x_if_eq (tgt := 70) hx hb dX1_sent_55 (by decide) (fun hc => ?_) (fun hc => ?_)
        · refine x_iconst (v := 0) hx hb dX1_sent_70 (by decide) ?_
          exact hj7 (0 : Int32) _ _ _ ⟨hU, hS, _, rfl, lv_sub hl [0, 1, 2] rfl⟩
        · refine x_iload_n hx hb dX1_sent_58 rfl (lv_at hl 1 rfl) ?_
          refine x_iload_n hx hb dX1_sent_59 rfl (lv_at hl 2 rfl) ?_
          refine kzX1_1_isOf E hZ hU hS ⟨Nat.le_of_ble_eq_true rfl, Nat.le_of_ble_eq_true rfl⟩ hl.1 (Nat.le_of_ble_eq_true rfl) dX1_sent_60 (fun o9 H locs hU hS => ?_)
          refine x_if_eq (tgt := 70) hx hb dX1_sent_63 (by decide) (fun hc => ?_) (fun hc => ?_)
          · refine x_iconst (v := 0) hx hb dX1_sent_70 (by decide) ?_
            exact hj7 (0 : Int32) _ _ _ ⟨hU, hS, _, rfl, lv_sub hl [0, 1, 2] rfl⟩
          · refine x_iconst (v := 1) hx hb dX1_sent_66 (by decide) ?_
            refine x_goto (tgt := 71) hx hb dX1_sent_67 (by decide) ?_
            exact hj7 (1 : Int32) _ _ _ ⟨hU, hS, _, rfl, lv_sub hl [0, 1, 2] rfl⟩
  · refine x_if_eq (tgt := 32) hx hb dX1_sent_16 (by decide) (fun hc => ?_) (fun hc => ?_)
    · refine x_iconst (v := 0) hx hb dX1_sent_32 (by decide) ?_
      exact hj3 (0 : Int32) _ _ _ ⟨hU, hS, _, rfl, lv_sub hl [0, 1, 2] rfl⟩
    · refine x_iload_n hx hb dX1_sent_19 rfl (lv_at hl 1 rfl) ?_
      refine kzX1_N_bitCount E hZ hU hS ⟨Nat.le_of_ble_eq_true rfl, Nat.le_of_ble_eq_true rfl⟩ hl.1 (Nat.le_of_ble_eq_true rfl) dX1_sent_20 (fun o4 H locs hU hS => ?_)
      refine x_bipush (v := 6) hx hb dX1_sent_23 (by decide) ?_
      refine x_icmp_gt (tgt := 32) hx hb dX1_sent_25 (by decide) (fun hc => ?_) (fun hc => ?_)
      · refine x_iconst (v := 0) hx hb dX1_sent_32 (by decide) ?_
        exact hj3 (0 : Int32) _ _ _ ⟨hU, hS, _, rfl, lv_sub hl [0, 1, 2] rfl⟩
      · refine x_iconst (v := 1) hx hb dX1_sent_28 (by decide) ?_
        refine x_goto (tgt := 33) hx hb dX1_sent_29 (by decide) ?_
        exact hj3 (1 : Int32) _ _ _ ⟨hU, hS, _, rfl, lv_sub hl [0, 1, 2] rfl⟩

set_option maxHeartbeats 4000000 in
theorem mY1_look (l : Launch) (D : va_G) (ct : CT) (ad : Nat → Nat) (P : Nat → Nat → Option Nat) (S : US) (G0 : GS) (p1 : Int32) (o : (Int32 × US × GS)) (ho : s1_look ct ad P S G0 p1 = some o) : Met l yX1_look (ws_ yX1_look cX1_look 11 (some .int)) { frames := 505, cells := nmax ct - G0.2.1, slots := zmax ct - G0.2.2, locals := 20112 } (mP D clW ct [.ref (ad (0)), .int p1] G0.2.1 (MW D clW ckH ct 26 ad P (fun _ => True) S 0 G0)) (yC (some (.int o.1)) (MW D clW ckH ct 26 ad P (mA 26 ad G0) o.2.1 0 o.2.2) G0 o.2.2 (mA 26 ad G0)) (nmax ct - G0.2.1) (zmax ct - G0.2.2) (mA 26 ad G0) := by
  refine Y.start (val := fun (o : (Int32 × US × GS)) => some (.int o.1)) (Bt := fun (o : (Int32 × US × GS)) => MW D clW ckH ct 26 ad P (mA 26 ad G0) o.2.1 0 o.2.2) (Go := fun (o : (Int32 × US × GS)) => o.2.2) ho (by decide) (Nat.le_of_ble_eq_true rfl) (lv := [(0, .ref (ad (0))), (1, .int p1)]) rfl ?_
  intro p e s m args below meth c E hr hlk hnm hZ hU hS ls hl
  obtain ⟨⟨hx, hb, hml, hown, hts⟩, hK, hJ⟩ := id E
  unfold s1_look
  refine x_iload_n hx hb dX1_look_0 rfl (lv_at hl 1 rfl) ?_
  refine x_iconst (v := 1) hx hb dX1_look_1 (by decide) ?_
  refine kzX1_1_oneOf E hZ hU hS ⟨Nat.le_of_ble_eq_true rfl, Nat.le_of_ble_eq_true rfl⟩ hl.1 (Nat.le_of_ble_eq_true rfl) dX1_look_2 (fun o1 H locs hU hS => ?_)
  refine x_aload_n hx hb dX1_look_5 rfl (lv_at hl 0 rfl) ?_
  refine kzX1_1_others E hZ hU hS ⟨Nat.le_of_ble_eq_true rfl, Nat.le_of_ble_eq_true rfl⟩ hl.1 (Nat.le_of_ble_eq_true rfl) dX1_look_6 (fun o2 H locs hU hS => ?_)
  refine X.onR (fun b3 hb_ => ?_)
  rw [hb_]
  try rw [hb_] at hl
  refine x_astore_n (lv' := [(2, .ref b3), (0, .ref (ad (0))), (1, .int p1)]) hx hb dX1_look_9 rfl hl (by decide) rfl (fun ls hl => ?_)
  refine x_aload_n hx hb dX1_look_10 rfl (lv_at hl 0 rfl) ?_
  refine kzX1_L_size E hZ hU hS ⟨Nat.le_of_ble_eq_true rfl, Nat.le_of_ble_eq_true rfl⟩ hl.1 (Nat.le_of_ble_eq_true rfl) dX1_look_11 (fun o4 H locs hU hS => ?_)
  refine x_bipush (v := 12) hx hb dX1_look_16 (by decide) ?_
  refine gy_newm E hZ hU hS (hts _ q1558) dX1_look_18 (fun q5 G6 H hU hS => ?_)
  refine x_astore_n (lv' := [(3, .ref q5), (2, .ref b3), (0, .ref (ad (0))), (1, .int p1)]) hx hb dX1_look_22 rfl hl (by decide) rfl (fun ls hl => ?_)
  refine x_iconst (v := 0) hx hb dX1_look_23 (by decide) ?_
  refine x_istore (lv' := [(4, .int (0 : Int32)), (3, .ref q5), (2, .ref b3), (0, .ref (ad (0))), (1, .int p1)]) hx hb dX1_look_24 hl (by decide) rfl (fun ls hl => ?_)
  refine X.loopY (I := fun (x : (US × GS × Int32)) g H locs => YW D clW ckH ct 26 ad P (mA 26 ad G0) x.1 0 G0 x.2.1 H ∧ va_S (mA 26 ad G0) s.heap H locs ∧ ∃ ls : Array Slot, g = F0 m 26 ls [] ∧ lv_has ls 11 [(0, .ref (ad (0))), (1, .int p1), (2, .ref b3), (3, .ref q5), (4, .int x.2.2)]) (cf := (fun (x : (US × GS × Int32)) => x.2.1.2.1 - G0.2.1)) (sf := (fun (x : (US × GS × Int32)) => x.2.1.2.2 - G0.2.2)) (fun rc10 ih10 => ?_) FUEL (o2.2.1, G6, (0 : Int32)) _ _ _ ⟨hU, hS, _, rfl, lv_sub hl [3, 4, 2, 1, 0] rfl⟩
  rintro ⟨S7, G8, v9⟩ _ H locs ⟨hU, hS, ls, rfl, hl⟩
  have hU : YW D clW ckH ct 26 ad P (mA 26 ad G0) S7 0 G0 G8 H := hU
  have hl : lv_has ls 11 [(0, .ref (ad (0))), (1, .int p1), (2, .ref b3), (3, .ref q5), (4, .int v9)] := hl
  refine X.cs (cells2 := G8.2.1 - G0.2.1) (slots2 := G8.2.2 - G0.2.2) rfl rfl ?_
  refine X.eqs (sp2 := s1_look_L26 p1 P ct b3 q5 rc10 S7 G8 v9) rfl ?_
  unfold s1_look_L26
  refine x_iload hx hb dX1_look_26 (lv_at hl 4 rfl) ?_
  refine x_aload_n hx hb dX1_look_28 rfl (lv_at hl 3 rfl) ?_
  refine fx_alen E hU.1.1.2.1 (t := 6) rfl dX1_look_29 (fun v11 => ?_)
  refine x_icmp_ge (tgt := 129) hx hb dX1_look_30 (by decide) (fun hc => ?_) (fun hc => ?_)
  · refine x_iconst (v := -1) hx hb dX1_look_129 (by decide) ?_
    refine x_istore (lv' := [(4, .int (-1 : Int32)), (0, .ref (ad (0))), (1, .int p1), (2, .ref b3), (3, .ref q5)]) hx hb dX1_look_130 hl (by decide) rfl (fun ls hl => ?_)
    refine x_iconst (v := 0) hx hb dX1_look_132 (by decide) ?_
    refine x_istore (lv' := [(5, .int (0 : Int32)), (4, .int (-1 : Int32)), (0, .ref (ad (0))), (1, .int p1), (2, .ref b3), (3, .ref q5)]) hx hb dX1_look_133 hl (by decide) rfl (fun ls hl => ?_)
    refine x_iconst (v := 0) hx hb dX1_look_135 (by decide) ?_
    refine x_istore (lv' := [(6, .int (0 : Int32)), (5, .int (0 : Int32)), (4, .int (-1 : Int32)), (0, .ref (ad (0))), (1, .int p1), (2, .ref b3), (3, .ref q5)]) hx hb dX1_look_136 hl (by decide) rfl (fun ls hl => ?_)
    refine X.loopY (I := fun (x : (Int32 × Int32 × Int32)) g H locs => YW D clW ckH ct 26 ad P (mA 26 ad G0) S7 0 G0 G8 H ∧ va_S (mA 26 ad G0) s.heap H locs ∧ ∃ ls : Array Slot, g = F0 m 138 ls [] ∧ lv_has ls 11 [(0, .ref (ad (0))), (1, .int p1), (3, .ref q5), (4, .int x.1), (5, .int x.2.1), (6, .int x.2.2)]) (cf := (fun (x : (Int32 × Int32 × Int32)) => G8.2.1 - G0.2.1)) (sf := (fun (x : (Int32 × Int32 × Int32)) => G8.2.2 - G0.2.2)) (fun rc15 ih15 => ?_) FUEL ((-1 : Int32), (0 : Int32), (0 : Int32)) _ _ _ ⟨hU, hS, _, rfl, lv_sub hl [3, 4, 6, 2, 1, 0] rfl⟩
    rintro ⟨v12, v13, v14⟩ _ H locs ⟨hU, hS, ls, rfl, hl⟩
    have hU : YW D clW ckH ct 26 ad P (mA 26 ad G0) S7 0 G0 G8 H := hU
    have hl : lv_has ls 11 [(0, .ref (ad (0))), (1, .int p1), (3, .ref q5), (4, .int v12), (5, .int v13), (6, .int v14)] := hl
    refine X.cs (cells2 := G8.2.1 - G0.2.1) (slots2 := G8.2.2 - G0.2.2) rfl rfl ?_
    refine X.eqs (sp2 := s1_look_L138 p1 q5 S7 G8 rc15 v12 v13 v14) rfl ?_
    unfold s1_look_L138
    refine x_iload hx hb dX1_look_138 (lv_at hl 5 rfl) ?_
    refine x_aload_n hx hb dX1_look_140 rfl (lv_at hl 0 rfl) ?_
    refine gX1_31 E hU.1.1 dX1_look_141 ?_
    refine gX1_115 E hU.1.1 dX1_look_144 ?_
    refine x_icmp_ge (tgt := 249) hx hb dX1_look_147 (by decide) (fun hc => ?_) (fun hc => ?_)
    · refine x_iload_n hx hb dX1_look_249 rfl (lv_at hl 1 rfl) ?_
      refine x_if_ne (tgt := 258) hx hb dX1_look_250 (by decide) (fun hc => ?_) (fun hc => ?_)
      · refine x_iload hx hb dX1_look_258 (lv_at hl 4 rfl) ?_
        exact y_iret hx hb hr hlk hZ hU hS rfl rfl hU.1 dX1_look_260
      · refine x_iload hx hb dX1_look_253 (lv_at hl 3 rfl) ?_
        refine x_goto (tgt := 260) hx hb dX1_look_255 (by decide) ?_
        exact y_iret hx hb hr hlk hZ hU hS rfl rfl hU.1 dX1_look_260
    · refine x_iconst (v := 0) hx hb dX1_look_150 (by decide) ?_
      refine x_istore (lv' := [(7, .int (0 : Int32)), (0, .ref (ad (0))), (1, .int p1), (3, .ref q5), (4, .int v12), (5, .int v13), (6, .int v14)]) hx hb dX1_look_151 hl (by decide) rfl (fun ls hl => ?_)
      refine x_iconst (v := 0) hx hb dX1_look_153 (by decide) ?_
      refine x_istore (lv' := [(8, .int (0 : Int32)), (7, .int (0 : Int32)), (0, .ref (ad (0))), (1, .int p1), (3, .ref q5), (4, .int v12), (5, .int v13), (6, .int v14)]) hx hb dX1_look_154 hl (by decide) rfl (fun ls hl => ?_)
      refine X.loopY (I := fun (x : (Int32 × Int32)) g H locs => YW D clW ckH ct 26 ad P (mA 26 ad G0) S7 0 G0 G8 H ∧ va_S (mA 26 ad G0) s.heap H locs ∧ ∃ ls : Array Slot, g = F0 m 156 ls [] ∧ lv_has ls 11 [(0, .ref (ad (0))), (1, .int p1), (3, .ref q5), (4, .int v12), (5, .int v13), (6, .int v14), (7, .int x.1), (8, .int x.2)]) (cf := (fun (x : (Int32 × Int32)) => G8.2.1 - G0.2.1)) (sf := (fun (x : (Int32 × Int32)) => G8.2.2 - G0.2.2)) (fun rc18 ih18 => ?_) FUEL ((0 : Int32), (0 : Int32)) _ _ _ ⟨hU, hS, _, rfl, lv_sub hl [2, 3, 4, 5, 6, 7, 1, 0] rfl⟩
      rintro ⟨v16, v17⟩ _ H locs ⟨hU, hS, ls, rfl, hl⟩
      have hU : YW D clW ckH ct 26 ad P (mA 26 ad G0) S7 0 G0 G8 H := hU
      have hl : lv_has ls 11 [(0, .ref (ad (0))), (1, .int p1), (3, .ref q5), (4, .int v12), (5, .int v13), (6, .int v14), (7, .int v16), (8, .int v17)] := hl
      refine X.cs (cells2 := G8.2.1 - G0.2.1) (slots2 := G8.2.2 - G0.2.2) rfl rfl ?_
      refine X.eqs (sp2 := s1_look_L156 q5 G8 v12 v13 v14 rc15 rc18 v16 v17) rfl ?_
      unfold s1_look_L156
      refine x_iload hx hb dX1_look_156 (lv_at hl 7 rfl) ?_
      refine x_aload_n hx hb dX1_look_158 rfl (lv_at hl 2 rfl) ?_
      refine fx_alen E hU.1.1.2.1 (t := 6) rfl dX1_look_159 (fun v19 => ?_)
      refine x_icmp_ge (tgt := 225) hx hb dX1_look_160 (by decide) (fun hc => ?_) (fun hc => ?_)
      · refine x_iload hx hb dX1_look_225 (lv_at hl 6 rfl) ?_
        refine x_iload hx hb dX1_look_227 (lv_at hl 4 rfl) ?_
        refine x_icmp_gt (tgt := 235) hx hb dX1_look_229 (by decide) (fun hc => ?_) (fun hc => ?_)
        · refine x_iload hx hb dX1_look_235 (lv_at hl 5 rfl) ?_
          refine x_istore (lv' := [(4, .int v14), (0, .ref (ad (0))), (1, .int p1), (3, .ref q5), (5, .int v13), (6, .int v14), (7, .int v16), (8, .int v17)]) hx hb dX1_look_237 hl (by decide) rfl (fun ls hl => ?_)
          refine x_iload hx hb dX1_look_239 (lv_at hl 6 rfl) ?_
          refine x_istore (lv' := [(5, .int v16), (4, .int v14), (0, .ref (ad (0))), (1, .int p1), (3, .ref q5), (6, .int v14), (7, .int v16), (8, .int v17)]) hx hb dX1_look_241 hl (by decide) rfl (fun ls hl => ?_)
          refine x_iinc (v := (v14 + (1 : Int32))) (lv' := [(6, .int (v14 + (1 : Int32))), (5, .int v16), (4, .int v14), (0, .ref (ad (0))), (1, .int p1), (3, .ref q5), (7, .int v16), (8, .int v17)]) (k := 5) hx hb dX1_look_243 hl rfl rfl (by decide) rfl (fun ls hl => ?_)
          refine x_goto (tgt := 138) hx hb dX1_look_246 (by decide) ?_
          exact ih15 (v14, v16, (v14 + (1 : Int32))) _ _ _ ⟨hU, hS, _, rfl, lv_sub hl [3, 4, 5, 2, 1, 0] rfl⟩
        · refine x_goto (tgt := 243) hx hb dX1_look_232 (by decide) ?_
          refine x_iinc (v := (v14 + (1 : Int32))) (lv' := [(6, .int (v14 + (1 : Int32))), (0, .ref (ad (0))), (1, .int p1), (3, .ref q5), (4, .int v12), (5, .int v13), (7, .int v16), (8, .int v17)]) (k := 5) hx hb dX1_look_243 hl rfl rfl (by decide) rfl (fun ls hl => ?_)
          refine x_goto (tgt := 138) hx hb dX1_look_246 (by decide) ?_
          exact ih15 (v12, v13, (v14 + (1 : Int32))) _ _ _ ⟨hU, hS, _, rfl, lv_sub hl [1, 2, 3, 4, 5, 0] rfl⟩
      · refine x_iconst (v := 1) hx hb dX1_look_163 (by decide) ?_
        refine x_istore (lv' := [(9, .int (1 : Int32)), (0, .ref (ad (0))), (1, .int p1), (3, .ref q5), (4, .int v12), (5, .int v13), (6, .int v14), (7, .int v16), (8, .int v17)]) hx hb dX1_look_164 hl (by decide) rfl (fun ls hl => ?_)
        refine x_iconst (v := 0) hx hb dX1_look_166 (by decide) ?_
        refine x_istore (lv' := [(10, .int (0 : Int32)), (9, .int (1 : Int32)), (0, .ref (ad (0))), (1, .int p1), (3, .ref q5), (4, .int v12), (5, .int v13), (6, .int v14), (7, .int v16), (8, .int v17)]) hx hb dX1_look_167 hl (by decide) rfl (fun ls hl => ?_)
        refine X.join2Y (fun (x : Int32) g H locs => YW D clW ckH ct 26 ad P (mA 26 ad G0) S7 0 G0 G8 H ∧ va_S (mA 26 ad G0) s.heap H locs ∧ ∃ ls : Array Slot, g = F0 m 211 ls [] ∧ lv_has ls 11 [(0, .ref (ad (0))), (1, .int p1), (3, .ref q5), (4, .int v12), (5, .int v13), (6, .int v14), (7, .int v16), (8, .int v17), (9, .int x)]) (fun (x : Int32) => G8.2.1 - G0.2.1) (fun (x : Int32) => G8.2.2 - G0.2.2) ?_ (fun j21 hj21 => ?_)
        · rintro v20 _ H locs ⟨hU, hS, ls, rfl, hl⟩
          refine X.cs (cells2 := G8.2.1 - G0.2.1) (slots2 := G8.2.2 - G0.2.2) rfl rfl ?_
          refine X.eqs (sp2 := s1_look_J211 v16 v17 rc18 v20) rfl ?_
          unfold s1_look_J211
          refine x_iload hx hb dX1_look_211 (lv_at hl 8 rfl) ?_
          refine x_if_eq (tgt := 219) hx hb dX1_look_213 (by decide) (fun hc => ?_) (fun hc => ?_)
          · refine x_iinc (v := (v17 + (1 : Int32))) (lv' := [(8, .int (v17 + (1 : Int32))), (0, .ref (ad (0))), (1, .int p1), (3, .ref q5), (4, .int v12), (5, .int v13), (6, .int v14), (7, .int v16), (9, .int v20)]) (k := 7) hx hb dX1_look_219 hl rfl rfl (by decide) rfl (fun ls hl => ?_)
            refine x_goto (tgt := 156) hx hb dX1_look_222 (by decide) ?_
            exact ih18 (v16, (v17 + (1 : Int32))) _ _ _ ⟨hU, hS, _, rfl, lv_sub hl [1, 2, 3, 4, 5, 6, 7, 0] rfl⟩
          · refine x_iinc (v := (v16 + (1 : Int32))) (lv' := [(7, .int (v16 + (1 : Int32))), (0, .ref (ad (0))), (1, .int p1), (3, .ref q5), (4, .int v12), (5, .int v13), (6, .int v14), (8, .int v17), (9, .int v20)]) (k := 6) hx hb dX1_look_216 hl rfl rfl (by decide) rfl (fun ls hl => ?_)
            refine x_iinc (v := (v17 + (1 : Int32))) (lv' := [(8, .int (v17 + (1 : Int32))), (7, .int (v16 + (1 : Int32))), (0, .ref (ad (0))), (1, .int p1), (3, .ref q5), (4, .int v12), (5, .int v13), (6, .int v14), (9, .int v20)]) (k := 7) hx hb dX1_look_219 hl rfl rfl (by decide) rfl (fun ls hl => ?_)
            refine x_goto (tgt := 156) hx hb dX1_look_222 (by decide) ?_
            exact ih18 ((v16 + (1 : Int32)), (v17 + (1 : Int32))) _ _ _ ⟨hU, hS, _, rfl, lv_sub hl [2, 3, 4, 5, 6, 7, 1, 0] rfl⟩
        · refine X.loopY (I := fun (x : (Int32 × Int32)) g H locs => YW D clW ckH ct 26 ad P (mA 26 ad G0) S7 0 G0 G8 H ∧ va_S (mA 26 ad G0) s.heap H locs ∧ ∃ ls : Array Slot, g = F0 m 169 ls [] ∧ lv_has ls 11 [(0, .ref (ad (0))), (1, .int p1), (3, .ref q5), (4, .int v12), (5, .int v13), (6, .int v14), (7, .int v16), (8, .int v17), (9, .int x.1), (10, .int x.2)]) (cf := (fun (x : (Int32 × Int32)) => G8.2.1 - G0.2.1)) (sf := (fun (x : (Int32 × Int32)) => G8.2.2 - G0.2.2)) (fun rc24 ih24 => ?_) FUEL ((1 : Int32), (0 : Int32)) _ _ _ ⟨hU, hS, _, rfl, lv_sub hl [2, 3, 4, 5, 6, 7, 8, 9, 1, 0] rfl⟩
          rintro ⟨v22, v23⟩ _ H locs ⟨hU, hS, ls, rfl, hl⟩
          have hU : YW D clW ckH ct 26 ad P (mA 26 ad G0) S7 0 G0 G8 H := hU
          have hl : lv_has ls 11 [(0, .ref (ad (0))), (1, .int p1), (3, .ref q5), (4, .int v12), (5, .int v13), (6, .int v14), (7, .int v16), (8, .int v17), (9, .int v22), (10, .int v23)] := hl
          refine X.cs (cells2 := G8.2.1 - G0.2.1) (slots2 := G8.2.2 - G0.2.2) rfl rfl ?_
          refine X.eqs (sp2 := s1_look_L169 q5 G8 v14 v17 j21 rc24 v22 v23) rfl ?_
          unfold s1_look_L169
          refine x_iload hx hb dX1_look_169 (lv_at hl 9 rfl) ?_
          refine x_iload hx hb dX1_look_171 (lv_at hl 7 rfl) ?_
          refine x_icmp_ge (tgt := 211) hx hb dX1_look_173 (by decide) (fun hc => ?_) (fun hc => ?_)
          · exact hj21 v22 _ _ _ ⟨hU, hS, _, rfl, lv_sub hl [0, 1, 2, 3, 4, 5, 6, 7, 8] rfl⟩
          · refine x_iload hx hb dX1_look_176 (lv_at hl 8 rfl) ?_
            refine x_if_eq (tgt := 211) hx hb dX1_look_178 (by decide) (fun hc => ?_) (fun hc => ?_)
            · exact hj21 v22 _ _ _ ⟨hU, hS, _, rfl, lv_sub hl [0, 1, 2, 3, 4, 5, 6, 7, 8] rfl⟩
            · refine x_aload_n hx hb dX1_look_181 rfl (lv_at hl 2 rfl) ?_
              refine x_iload hx hb dX1_look_182 (lv_at hl 9 rfl) ?_
              refine fx_aaloadI E hU.1.1.2.1 rfl dX1_look_184 (fun r25 => ?_)
              refine x_iload hx hb dX1_look_185 (lv_at hl 5 rfl) ?_
              refine X.onR (fun b26 hb_ => ?_)
              subst hb_
              refine fx_iaload E hU.1.1.2.1 dX1_look_187 (fun v27 => ?_)
              refine x_aload_n hx hb dX1_look_188 rfl (lv_at hl 2 rfl) ?_
              refine x_iload hx hb dX1_look_189 (lv_at hl 7 rfl) ?_
              refine fx_aaloadI E hU.1.1.2.1 rfl dX1_look_191 (fun r28 => ?_)
              refine x_iload hx hb dX1_look_192 (lv_at hl 5 rfl) ?_
              refine X.onR (fun b29 hb_ => ?_)
              subst hb_
              refine fx_iaload E hU.1.1.2.1 dX1_look_194 (fun v30 => ?_)
              refine x_icmp_eq (tgt := 202) hx hb dX1_look_195 (by decide) (fun hc => ?_) (fun hc => ?_)
              · refine x_iconst (v := 0) hx hb dX1_look_202 (by decide) ?_
                refine x_istore (lv' := [(9, .int (0 : Int32)), (0, .ref (ad (0))), (1, .int p1), (3, .ref q5), (4, .int v12), (5, .int v13), (6, .int v14), (7, .int v16), (8, .int v17), (10, .int v23)]) hx hb dX1_look_203 hl (by decide) rfl (fun ls hl => ?_)
                refine x_iinc (v := (v23 + (1 : Int32))) (lv' := [(10, .int (v23 + (1 : Int32))), (9, .int (0 : Int32)), (0, .ref (ad (0))), (1, .int p1), (3, .ref q5), (4, .int v12), (5, .int v13), (6, .int v14), (7, .int v16), (8, .int v17)]) (k := 9) hx hb dX1_look_205 hl rfl rfl (by decide) rfl (fun ls hl => ?_)
                refine x_goto (tgt := 169) hx hb dX1_look_208 (by decide) ?_
                exact ih24 ((0 : Int32), (v23 + (1 : Int32))) _ _ _ ⟨hU, hS, _, rfl, lv_sub hl [2, 3, 4, 5, 6, 7, 8, 9, 1, 0] rfl⟩
              · refine x_iconst (v := 1) hx hb dX1_look_198 (by decide) ?_
                refine x_goto (tgt := 203) hx hb dX1_look_199 (by decide) ?_
                refine x_istore (lv' := [(9, .int (1 : Int32)), (0, .ref (ad (0))), (1, .int p1), (3, .ref q5), (4, .int v12), (5, .int v13), (6, .int v14), (7, .int v16), (8, .int v17), (10, .int v23)]) hx hb dX1_look_203 hl (by decide) rfl (fun ls hl => ?_)
                refine x_iinc (v := (v23 + (1 : Int32))) (lv' := [(10, .int (v23 + (1 : Int32))), (9, .int (1 : Int32)), (0, .ref (ad (0))), (1, .int p1), (3, .ref q5), (4, .int v12), (5, .int v13), (6, .int v14), (7, .int v16), (8, .int v17)]) (k := 9) hx hb dX1_look_205 hl rfl rfl (by decide) rfl (fun ls hl => ?_)
                refine x_goto (tgt := 169) hx hb dX1_look_208 (by decide) ?_
                exact ih24 ((1 : Int32), (v23 + (1 : Int32))) _ _ _ ⟨hU, hS, _, rfl, lv_sub hl [2, 3, 4, 5, 6, 7, 8, 9, 1, 0] rfl⟩
  · refine x_aload_n hx hb dX1_look_33 rfl (lv_at hl 0 rfl) ?_
    refine gX1_44 E hU.1.1 dX1_look_34 ?_
    refine x_aload_n hx hb dX1_look_37 rfl (lv_at hl 0 rfl) ?_
    refine gX1_40 E hU.1.1 dX1_look_38 ?_
    refine kzX1_3_be E hZ hU hS (by decide) (by decide) ⟨Nat.le_of_ble_eq_true rfl, Nat.le_of_ble_eq_true rfl⟩ hl.1 (Nat.le_of_ble_eq_true rfl) dX1_look_41 (fun o31 H locs hU hS => ?_)
    refine x_aload_n hx hb dX1_look_44 rfl (lv_at hl 2 rfl) ?_
    refine x_iload hx hb dX1_look_45 (lv_at hl 4 rfl) ?_
    refine kzX1_L_get E hZ hU hS ⟨Nat.le_of_ble_eq_true rfl, Nat.le_of_ble_eq_true rfl⟩ hl.1 (Nat.le_of_ble_eq_true rfl) dX1_look_47 (fun o32 H locs hU hS => ?_)
    refine X.onR (fun b33 hb_ => ?_)
    subst hb_
    refine fx_cast E hU.1.1.2.1 (ci := 12) rfl (hts _ q1432) dX1_look_52 ?_
    refine kzX1_N_intValue E hZ hU hS ⟨Nat.le_of_ble_eq_true rfl, Nat.le_of_ble_eq_true rfl⟩ hl.1 (Nat.le_of_ble_eq_true rfl) dX1_look_55 (fun o34 H locs hU hS => ?_)
    refine x_bipush (v := 100) hx hb dX1_look_58 (by decide) ?_
    refine x_idiv hx hb dX1_look_60 (by decide) ?_
    refine x_aload_n hx hb dX1_look_61 rfl (lv_at hl 2 rfl) ?_
    refine x_iload hx hb dX1_look_62 (lv_at hl 4 rfl) ?_
    refine kzX1_L_get E hZ hU hS ⟨Nat.le_of_ble_eq_true rfl, Nat.le_of_ble_eq_true rfl⟩ hl.1 (Nat.le_of_ble_eq_true rfl) dX1_look_64 (fun o35 H locs hU hS => ?_)
    refine X.onR (fun b36 hb_ => ?_)
    subst hb_
    refine fx_cast E hU.1.1.2.1 (ci := 12) rfl (hts _ q1432) dX1_look_69 ?_
    refine kzX1_N_intValue E hZ hU hS ⟨Nat.le_of_ble_eq_true rfl, Nat.le_of_ble_eq_true rfl⟩ hl.1 (Nat.le_of_ble_eq_true rfl) dX1_look_72 (fun o37 H locs hU hS => ?_)
    refine x_bipush (v := 100) hx hb dX1_look_75 (by decide) ?_
    refine x_irem hx hb dX1_look_77 (by decide) ?_
    refine kzX1_3_loosen E hZ hU hS (by decide) ⟨Nat.le_of_ble_eq_true rfl, Nat.le_of_ble_eq_true rfl⟩ hl.1 (Nat.le_of_ble_eq_true rfl) dX1_look_78 (fun o38 H locs hU hS => ?_)
    refine x_aload_n hx hb dX1_look_81 rfl (lv_at hl 0 rfl) ?_
    refine gX1_44 E hU.1.1 dX1_look_82 ?_
    refine x_iconst (v := 5) hx hb dX1_look_85 (by decide) ?_
    refine kzX1_3_after E hZ hU hS (by decide) ⟨Nat.le_of_ble_eq_true rfl, Nat.le_of_ble_eq_true rfl⟩ hl.1 (Nat.le_of_ble_eq_true rfl) dX1_look_86 (fun o39 H locs hU hS => ?_)
    refine x_pop hx hb dX1_look_89 rfl ?_
    refine x_iconst (v := 0) hx hb dX1_look_90 (by decide) ?_
    refine x_istore (lv' := [(5, .int (0 : Int32)), (0, .ref (ad (0))), (1, .int p1), (2, .ref b3), (3, .ref q5), (4, .int v9)]) hx hb dX1_look_91 hl (by decide) rfl (fun ls hl => ?_)
    refine X.loopY (I := fun (x : (GS × Int32)) g H locs => YW D clW ckH ct 26 ad P (mA 26 ad G0) o39 0 G0 x.1 H ∧ va_S (mA 26 ad G0) s.heap H locs ∧ ∃ ls : Array Slot, g = F0 m 93 ls [] ∧ lv_has ls 11 [(0, .ref (ad (0))), (1, .int p1), (2, .ref b3), (3, .ref q5), (4, .int v9), (5, .int x.2)]) (cf := (fun (x : (GS × Int32)) => x.1.2.1 - G0.2.1)) (sf := (fun (x : (GS × Int32)) => x.1.2.2 - G0.2.2)) (fun rc42 ih42 => ?_) FUEL (G8, (0 : Int32)) _ _ _ ⟨hU, hS, _, rfl, lv_sub hl [1, 2, 3, 4, 5, 0] rfl⟩
    rintro ⟨G40, v41⟩ _ H locs ⟨hU, hS, ls, rfl, hl⟩
    have hU : YW D clW ckH ct 26 ad P (mA 26 ad G0) o39 0 G0 G40 H := hU
    have hl : lv_has ls 11 [(0, .ref (ad (0))), (1, .int p1), (2, .ref b3), (3, .ref q5), (4, .int v9), (5, .int v41)] := hl
    refine X.cs (cells2 := G40.2.1 - G0.2.1) (slots2 := G40.2.2 - G0.2.2) rfl rfl ?_
    refine X.eqs (sp2 := s1_look_L93 q5 v9 rc10 o39 rc42 G40 v41) rfl ?_
    unfold s1_look_L93
    refine x_iload hx hb dX1_look_93 (lv_at hl 5 rfl) ?_
    refine x_bipush (v := 12) hx hb dX1_look_95 (by decide) ?_
    refine x_icmp_ge (tgt := 123) hx hb dX1_look_97 (by decide) (fun hc => ?_) (fun hc => ?_)
    · refine x_iinc (v := (v9 + (1 : Int32))) (lv' := [(4, .int (v9 + (1 : Int32))), (0, .ref (ad (0))), (1, .int p1), (2, .ref b3), (3, .ref q5), (5, .int v41)]) (k := 4) hx hb dX1_look_123 hl rfl rfl (by decide) rfl (fun ls hl => ?_)
      refine x_goto (tgt := 26) hx hb dX1_look_126 (by decide) ?_
      exact ih10 (o39, G40, (v9 + (1 : Int32))) _ _ _ ⟨hU, hS, _, rfl, lv_sub hl [1, 2, 3, 4, 0] rfl⟩
    · refine x_aload_n hx hb dX1_look_100 rfl (lv_at hl 3 rfl) ?_
      refine x_iload hx hb dX1_look_101 (lv_at hl 4 rfl) ?_
      refine fx_aaloadI E hU.1.1.2.1 rfl dX1_look_103 (fun r43 => ?_)
      refine x_iload hx hb dX1_look_104 (lv_at hl 5 rfl) ?_
      refine x_aload_n hx hb dX1_look_106 rfl (lv_at hl 0 rfl) ?_
      refine gX1_44 E hU.1.1 dX1_look_107 ?_
      refine gX1_158 E hU.1.1 (by decide) dX1_look_110 ?_
      refine x_iload hx hb dX1_look_113 (lv_at hl 5 rfl) ?_
      refine ux_ald (i := lc 1 2) (n := 12) E hU.1.1.1 (lc_lt (by decide) (by decide)) (ck_lc (by decide)) dX1_look_115 ?_
      refine X.onR (fun b44 hb_ => ?_)
      subst hb_
      refine gy_iast E hU hS dX1_look_116 (fun G45 H locs hU hS => ?_)
      refine x_iinc (v := (v41 + (1 : Int32))) (lv' := [(5, .int (v41 + (1 : Int32))), (0, .ref (ad (0))), (1, .int p1), (2, .ref b3), (3, .ref q5), (4, .int v9)]) (k := 5) hx hb dX1_look_117 hl rfl rfl (by decide) rfl (fun ls hl => ?_)
      refine x_goto (tgt := 93) hx hb dX1_look_120 (by decide) ?_
      exact ih42 (G45, (v41 + (1 : Int32))) _ _ _ ⟨hU, hS, _, rfl, lv_sub hl [1, 2, 3, 4, 5, 0] rfl⟩
