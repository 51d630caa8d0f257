set_option maxRecDepth 100000
section HF
variable {ρ ρ' : Type} {p : Program} {l : Launch} {e : Env} {R : Room} {s : State} {m : MethodId} {args : Array Value} {below : List Frame} {meth : Method} {c : Code} {H : Heap} {locs : List Loc} {cells slots : Nat} {Qf : ρ → State → Prop} {sp : Option ρ}
variable {cc : ByteArray} {pc nL L : Nat} {ls : Array Slot} {rest : List Value}
variable {D : va_G} {ct : CT} {ad : Nat → Nat} {P : Nat → Nat → Option Nat} {A A0 : Nat → Prop} {S : US} {h : AH} {H0 : Heap}

end HF

set_option maxHeartbeats 4000000 in
theorem mYX_init_2 (l : Launch) (D : va_G) (ct : CT) (ck : Nat → UC) (N : Nat) (ad : Nat → Nat) (P : Nat → Nat → Option Nat) (S : US) (w : Int64) (G0 : GS) (q0 : Nat) (p1 : (Option Nat)) (p2 : (Option Nat)) (p3 : Int32) (p4 : Int32) (o : GS) (ho : sX_init_2 ct G0 q0 p1 p2 p3 p4 = some o) : Met l yJ3_init_2 (ws_ yJ3_init_2 cJ3_init_2 5 none) { frames := 1, cells := nmax ct - G0.2.1, slots := zmax ct - G0.2.2, locals := 60 } (mP D clW ct [.ref q0, va_rf p1, va_rf p2, .int p3, .int p4] G0.2.1 (MW D clW ck ct N ad P (fun _ => True) S w G0)) (yC (none) (MW D clW ck ct N ad P (mA N ad G0) S w o) G0 o (mA N ad G0)) (nmax ct - G0.2.1) (zmax ct - G0.2.2) (mA N ad G0) := by
  refine Y.start (val := fun (o : GS) => none) (Bt := fun (o : GS) => MW D clW ck ct N ad P (mA N ad G0) S w o) (Go := fun (o : GS) => o) ho (by decide) (by rcases p1 with _ | _ <;> rcases p2 with _ | _ <;> exact Nat.le_of_ble_eq_true rfl) (lv := [(0, .ref q0), (1, va_rf p1), (2, va_rf p2), (3, .int p3), (4, .int p4)]) (by rcases p1 with _ | _ <;> rcases p2 with _ | _ <;> rfl) ?_
  intro p e s m args below meth c E hr hlk hnm hZ hU hS ls hl
  obtain ⟨⟨hx, hb, hml, hown, hts⟩, hK, hJ⟩ := id E
  unfold sX_init_2
  refine x_aload_n hx hb dJ3_init_2_0 rfl (lv_at hl 0 rfl) ?_
  refine gx_objInit E (hts _ q727) (hts _ q155) (hts _ q156) ⟨Nat.le_of_ble_eq_true rfl, Nat.le_of_ble_eq_true rfl⟩ hl.1 (Nat.le_of_ble_eq_true rfl) dJ3_init_2_1 ?_
  refine x_aload_n hx hb dJ3_init_2_4 rfl (lv_at hl 0 rfl) ?_
  refine x_aload_n hx hb dJ3_init_2_5 rfl (lv_at hl 0 rfl) ?_
  refine gy_put (v := .ref q0) (ty0 := tyX6) E hU hS (ci := 5) rfl in_X6 tyX6_ok nmX6 0 (by decide) (hts _ q755) (fun _ h => h) (Or.inl rfl) rfl rfl dJ3_init_2_6 (fun G1 H locs hU hS => ?_)
  refine x_aload_n hx hb dJ3_init_2_9 rfl (lv_at hl 0 rfl) ?_
  refine gx_gets E hU.1.1 (List.mem_of_getElem? (i := 10) rfl) (hts _ q728) (fun _ h => h) dJ3_init_2_10 ?_
  refine gy_put (v := va_rf (rfN ct 9)) (ty0 := tyX6) E hU hS (ci := 5) rfl in_X6 tyX6_ok nmX6 1 (by decide) (hts _ q756) (fun _ h => h) (Or.inl rfl) (by cases (rfN ct 9) <;> rfl) (by cases (rfN ct 9) <;> rfl) dJ3_init_2_13 (fun G2 H locs hU hS => ?_)
  refine x_aload_n hx hb dJ3_init_2_16 rfl (lv_at hl 0 rfl) ?_
  refine gx_gets E hU.1.1 (List.mem_of_getElem? (i := 11) rfl) (hts _ q730) (fun _ h => h) dJ3_init_2_17 ?_
  refine gy_put (v := va_rf (rfN ct 11)) (ty0 := tyX6) E hU hS (ci := 5) rfl in_X6 tyX6_ok nmX6 2 (by decide) (hts _ q757) (fun _ h => h) (Or.inl rfl) (by cases (rfN ct 11) <;> rfl) (by cases (rfN ct 11) <;> rfl) dJ3_init_2_20 (fun G3 H locs hU hS => ?_)
  refine x_iload hx hb dJ3_init_2_23 (lv_at hl 4 rfl) ?_
  refine X.join2Y (fun (x : GS) g H locs => YW D clW ck ct N ad P (mA N ad G0) S w G0 x H ∧ va_S (mA N ad G0) s.heap H locs ∧ ∃ ls : Array Slot, g = F0 m 41 ls [] ∧ lv_has ls 5 [(0, .ref q0), (1, va_rf p1), (2, va_rf p2), (3, .int p3)]) (fun (x : GS) => x.2.1 - G0.2.1) (fun (x : GS) => x.2.2 - G0.2.2) ?_ (fun j5 hj5 => ?_)
  · rintro G4 _ H locs ⟨hU, hS, ls, rfl, hl⟩
    refine X.cs (cells2 := G4.2.1 - G0.2.1) (slots2 := G4.2.2 - G0.2.2) rfl rfl ?_
    refine X.eqs (sp2 := sX_init_2_J41 q0 p1 p2 p3 G4) rfl ?_
    unfold sX_init_2_J41
    refine x_aload_n hx hb dJ3_init_2_41 rfl (lv_at hl 0 rfl) ?_
    refine x_aload_nO hx hb dJ3_init_2_42 rfl (lv_at hl 1 rfl) ?_
    refine gy_put (v := va_rf p1) (ty0 := tyX6) E hU hS (ci := 5) rfl in_X6 tyX6_ok nmX6 3 (by decide) (hts _ q754) (fun _ h => h) (Or.inl rfl) (by cases p1 <;> rfl) (by cases p1 <;> rfl) dJ3_init_2_43 (fun G7 H locs hU hS => ?_)
    refine x_aload_n hx hb dJ3_init_2_46 rfl (lv_at hl 0 rfl) ?_
    refine x_aload_nO hx hb dJ3_init_2_47 rfl (lv_at hl 2 rfl) ?_
    refine gy_put (v := va_rf p2) (ty0 := tyX6) E hU hS (ci := 5) rfl in_X6 tyX6_ok nmX6 0 (by decide) (hts _ q755) (fun _ h => h) (Or.inl rfl) (by cases p2 <;> rfl) (by cases p2 <;> rfl) dJ3_init_2_48 (fun G8 H locs hU hS => ?_)
    refine x_iload_n hx hb dJ3_init_2_51 rfl (lv_at hl 3 rfl) ?_
    refine x_if_ne (tgt := 60) hx hb dJ3_init_2_52 (by decide) (fun hc => ?_) (fun hc => ?_)
    · exact y_vret hx hb hr hlk hZ hU hS rfl rfl hU.1 dJ3_init_2_60
    · refine x_aload_n hx hb dJ3_init_2_55 rfl (lv_at hl 0 rfl) ?_
      refine x_null hx hb dJ3_init_2_56 ?_
      refine gy_put (v := .null) (ty0 := tyX6) E hU hS (ci := 5) rfl in_X6 tyX6_ok nmX6 2 (by decide) (hts _ q757) (fun _ h => h) (Or.inl rfl) rfl rfl dJ3_init_2_57 (fun G9 H locs hU hS => ?_)
      exact y_vret hx hb hr hlk hZ hU hS rfl rfl hU.1 dJ3_init_2_60
  · refine x_if_eq (tgt := 36) hx hb dJ3_init_2_25 (by decide) (fun hc => ?_) (fun hc => ?_)
    · refine x_aload_n hx hb dJ3_init_2_36 rfl (lv_at hl 0 rfl) ?_
      refine x_null hx hb dJ3_init_2_37 ?_
      refine gy_put (v := .null) (ty0 := tyX6) E hU hS (ci := 5) rfl in_X6 tyX6_ok nmX6 1 (by decide) (hts _ q756) (fun _ h => h) (Or.inl rfl) rfl rfl dJ3_init_2_38 (fun G6 H locs hU hS => ?_)
      exact hj5 G6 _ _ _ ⟨hU, hS, _, rfl, lv_sub hl [0, 1, 2, 3] rfl⟩
    · refine x_aload_n hx hb dJ3_init_2_28 rfl (lv_at hl 0 rfl) ?_
      exact X.none
section KZ
variable {ρ : Type} {p : Program} {l : Launch} {e : Env} {R : Room} {s : State} {m : MethodId} {args : Array Value} {below : List Frame} {meth : Method} {c : Code} {H : Heap} {locs : List Loc} {Qf : ρ → State → Prop}
variable {cc : ByteArray} {pc nL L M q0 : Nat} {ls : Array Slot} {rest : List Value}
variable {D : va_G} {ct : CT} {ck : Nat → UC} {N : Nat} {ad : Nat → Nat} {P : Nat → Nat → Option Nat} {A : Nat → Prop} {S : US} {w : Int64} {G0 G : GS}
theorem kzJ4_X_init_2 {p1 : (Option Nat)} {p2 : (Option Nat)} {p3 : Int32} {p4 : Int32} (E : ME p m c cc nL s args RJ4 D clW ct) (hZ : YC ct R s A G0) (hY : YW D clW ck ct N ad P A S w G0 G H) (hS : va_S A s.heap H locs) (hR : 1 + 1 ≤ R.frames ∧ 8 + (5 + 11) + 60 ≤ R.locals) (hsize : ls.size = nL) (hW : (rest.map fun v => v.category).sum ≤ 8) (hdg : decode cc pc = .ok (.invokespecial 16, 3)) {kp : GS → Option ρ} (kk : ∀ (o : GS) (H1 : Heap) (locs1 : List Loc), YW D clW ck ct N ad P A S w G0 o H1 → va_S A s.heap H1 locs1 → X p l e R s m args below meth c H1 locs1 (o.2.1 - G0.2.1) (o.2.2 - G0.2.2) Qf (kp o) (F0 m (pc + 3) ls (rest))) : X p l e R s m args below meth c H locs (G.2.1 - G0.2.1) (G.2.2 - G0.2.2) Qf (callK (sX_init_2 ct G q0 p1 p2 p3 p4) kp) (F0 m pc ls (.int p4 :: .int p3 :: va_rf p2 :: va_rf p1 :: .ref q0 :: rest)) := gy_mx (val' := fun (o : GS) => none) (len := 3) (So := fun (o : GS) => S) (Po := fun (o : GS) => P) (Gn := fun (o : GS) => o) hZ hY hS (fun o ho => rqI (As := [va_rf p1, va_rf p2, .int p3, .int p4]) E hY.1.any (by rw [hY.1.2.1]; exact mYX_init_2 l D ct ck N ad P S w G q0 p1 p2 p3 p4 o ho) ⟨callB_of 4 E.1.2.2.2.2 (lw_meth q979) rfl rfl rfl (E.1.2.2.2.2 _ q120) (E.1.2.2.2.2 _ q977) (by decide +kernel) hR, rfl, E.1.2.2.2.2 _ q978⟩ rfl hsize rfl hW hdg (hY.room hZ)) kk
end KZ

set_option maxHeartbeats 4000000 in
theorem mYE_init_2 (l : Launch) (D : va_G) (ct : CT) (ck : Nat → UC) (N : Nat) (ad : Nat → Nat) (P : Nat → Nat → Option Nat) (S : US) (w : Int64) (G0 : GS) (q0 : Nat) (p1 : (Option Nat)) (p2 : (Option Nat)) (p3 : Int32) (p4 : Int32) (o : GS) (ho : sE_init_2 ct G0 q0 p1 p2 p3 p4 = some o) : Met l yJ4_init_2 (ws_ yJ4_init_2 cJ4_init_2 5 none) { frames := 2, cells := nmax ct - G0.2.1, slots := zmax ct - G0.2.2, locals := 84 } (mP D clW ct [.ref q0, va_rf p1, va_rf p2, .int p3, .int p4] G0.2.1 (MW D clW ck ct N ad P (fun _ => True) S w G0)) (yC (none) (MW D clW ck ct N ad P (mA N ad G0) S w o) G0 o (mA N ad G0)) (nmax ct - G0.2.1) (zmax ct - G0.2.2) (mA N ad G0) := by
  refine Y.start (val := fun (o : GS) => none) (Bt := fun (o : GS) => MW D clW ck ct N ad P (mA N ad G0) S w o) (Go := fun (o : GS) => o) ho (by decide) (by rcases p1 with _ | _ <;> rcases p2 with _ | _ <;> exact Nat.le_of_ble_eq_true rfl) (lv := [(0, .ref q0), (1, va_rf p1), (2, va_rf p2), (3, .int p3), (4, .int p4)]) (by rcases p1 with _ | _ <;> rcases p2 with _ | _ <;> rfl) ?_
  intro p e s m args below meth c E hr hlk hnm hZ hU hS ls hl
  obtain ⟨⟨hx, hb, hml, hown, hts⟩, hK, hJ⟩ := id E
  unfold sE_init_2
  refine x_aload_n hx hb dJ4_init_2_0 rfl (lv_at hl 0 rfl) ?_
  refine x_aload_nO hx hb dJ4_init_2_1 rfl (lv_at hl 1 rfl) ?_
  refine x_aload_nO hx hb dJ4_init_2_2 rfl (lv_at hl 2 rfl) ?_
  refine x_iload_n hx hb dJ4_init_2_3 rfl (lv_at hl 3 rfl) ?_
  refine x_iload hx hb dJ4_init_2_4 (lv_at hl 4 rfl) ?_
  refine kzJ4_X_init_2 E hZ hU hS ⟨Nat.le_of_ble_eq_true rfl, Nat.le_of_ble_eq_true rfl⟩ hl.1 (Nat.le_of_ble_eq_true rfl) dJ4_init_2_6 (fun o1 H locs hU hS => ?_)
  exact y_vret hx hb hr hlk hZ hU hS rfl rfl hU.1 dJ4_init_2_9
section KZ
variable {ρ : Type} {p : Program} {l : Launch} {e : Env} {R : Room} {s : State} {m : MethodId} {args : Array Value} {below : List Frame} {meth : Method} {c : Code} {H : Heap} {locs : List Loc} {Qf : ρ → State → Prop}
variable {cc : ByteArray} {pc nL L M q0 : Nat} {ls : Array Slot} {rest : List Value}
variable {D : va_G} {ct : CT} {ck : Nat → UC} {N : Nat} {ad : Nat → Nat} {P : Nat → Nat → Option Nat} {A : Nat → Prop} {S : US} {w : Int64} {G0 G : GS}
theorem kzX6_E_init_2 {p1 : (Option Nat)} {p2 : (Option Nat)} {p3 : Int32} {p4 : Int32} (E : ME p m c cc nL s args RX6 D clW ct) (hZ : YC ct R s A G0) (hY : YW D clW ck ct N ad P A S w G0 G H) (hS : va_S A s.heap H locs) (hR : 2 + 1 ≤ R.frames ∧ 8 + (5 + 11) + 84 ≤ R.locals) (hsize : ls.size = nL) (hW : (rest.map fun v => v.category).sum ≤ 8) (hdg : decode cc pc = .ok (.invokespecial 1, 3)) {kp : GS → Option ρ} (kk : ∀ (o : GS) (H1 : Heap) (locs1 : List Loc), YW D clW ck ct N ad P A S w G0 o H1 → va_S A s.heap H1 locs1 → X p l e R s m args below meth c H1 locs1 (o.2.1 - G0.2.1) (o.2.2 - G0.2.2) Qf (kp o) (F0 m (pc + 3) ls (rest))) : X p l e R s m args below meth c H locs (G.2.1 - G0.2.1) (G.2.2 - G0.2.2) Qf (callK (sE_init_2 ct G q0 p1 p2 p3 p4) kp) (F0 m pc ls (.int p4 :: .int p3 :: va_rf p2 :: va_rf p1 :: .ref q0 :: rest)) := gy_mx (val' := fun (o : GS) => none) (len := 3) (So := fun (o : GS) => S) (Po := fun (o : GS) => P) (Gn := fun (o : GS) => o) hZ hY hS (fun o ho => rqI (As := [va_rf p1, va_rf p2, .int p3, .int p4]) E hY.1.any (by rw [hY.1.2.1]; exact mYE_init_2 l D ct ck N ad P S w G q0 p1 p2 p3 p4 o ho) ⟨callB_of 4 E.1.2.2.2.2 (lw_meth q976) rfl rfl rfl (E.1.2.2.2.2 _ q121) (E.1.2.2.2.2 _ q974) (by decide +kernel) hR, rfl, E.1.2.2.2.2 _ q975⟩ rfl hsize rfl hW hdg (hY.room hZ)) kk
end KZ

set_option maxHeartbeats 4000000 in
theorem mY6_init (l : Launch) (D : va_G) (ct : CT) (ck : Nat → UC) (N : Nat) (ad : Nat → Nat) (P : Nat → Nat → Option Nat) (S : US) (w : Int64) (G0 : GS) (q0 : Nat) (p1 : Int32) (o : GS) (ho : s6_init ct G0 q0 p1 = some o) : Met l yX6_init (ws_ yX6_init cX6_init 2 none) { frames := 3, cells := nmax ct - G0.2.1, slots := zmax ct - G0.2.2, locals := 108 } (mP D clW ct [.ref q0, .int p1] G0.2.1 (MW D clW ck ct N ad P (fun _ => True) S w G0)) (yC (none) (MW D clW ck ct N ad P (mA N ad G0) S w o) G0 o (mA N ad G0)) (nmax ct - G0.2.1) (zmax ct - G0.2.2) (mA N ad G0) := by
  refine Y.start (val := fun (o : GS) => none) (Bt := fun (o : GS) => MW D clW ck ct N ad P (mA N ad G0) S w o) (Go := fun (o : GS) => o) ho (by decide) (Nat.le_of_ble_eq_true rfl) (lv := [(0, .ref q0), (1, .int p1)]) rfl ?_
  intro p e s m args below meth c E hr hlk hnm hZ hU hS ls hl
  obtain ⟨⟨hx, hb, hml, hown, hts⟩, hK, hJ⟩ := id E
  unfold s6_init
  refine x_aload_n hx hb dX6_init_0 rfl (lv_at hl 0 rfl) ?_
  refine x_null hx hb dX6_init_1 ?_
  refine x_null hx hb dX6_init_2 ?_
  refine x_iconst (v := 0) hx hb dX6_init_3 (by decide) ?_
  refine x_iconst (v := 0) hx hb dX6_init_4 (by decide) ?_
  refine kzX6_E_init_2 E hZ hU hS ⟨Nat.le_of_ble_eq_true rfl, Nat.le_of_ble_eq_true rfl⟩ hl.1 (Nat.le_of_ble_eq_true rfl) dX6_init_5 (fun o1 H locs hU hS => ?_)
  refine x_aload_n hx hb dX6_init_8 rfl (lv_at hl 0 rfl) ?_
  refine x_iload_n hx hb dX6_init_9 rfl (lv_at hl 1 rfl) ?_
  refine gy_put (v := .int p1) (ty0 := tyX6) E hU hS (ci := 5) rfl in_X6 tyX6_ok nmX6 6 (by decide) (hts _ q980) (fun _ h => h) (Or.inr ⟨rfl, hnm, rfl⟩) rfl rfl dX6_init_10 (fun G2 H locs hU hS => ?_)
  exact y_vret hx hb hr hlk hZ hU hS rfl rfl hU.1 dX6_init_13
