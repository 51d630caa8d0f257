set_option maxRecDepth 100000
section HF
variable {ρ ρ' : Type} {p : Program} {l : Launch} {e : Env} {R : Room} {s : State} {m : MethodId} {args : Array Value} {below : List Frame} {meth : Method} {c : Code} {H : Heap} {locs : List Loc} {cells slots : Nat} {Qf : ρ → State → Prop} {sp : Option ρ}
variable {cc : ByteArray} {pc nL L : Nat} {ls : Array Slot} {rest : List Value}
variable {D : va_G} {ct : CT} {ad : Nat → Nat} {P : Nat → Nat → Option Nat} {A A0 : Nat → Prop} {S : US} {h : AH} {H0 : Heap}

end HF

set_option maxHeartbeats 4000000 in
theorem mY1_keep (l : Launch) (D : va_G) (ct : CT) (ad : Nat → Nat) (P : Nat → Nat → Option Nat) (S : US) (G0 : GS) (o : GS) (ho : s1_keep ct ad P S G0 = some o) : Met l yX1_keep (ws_ yX1_keep cX1_keep 1 none) { frames := 7, cells := nmax ct - G0.2.1, slots := zmax ct - G0.2.2, locals := 191 } (mP D clW ct [.ref (ad (0))] G0.2.1 (MW D clW ckH ct 26 ad P (fun _ => True) S 0 G0)) (yC (none) (MW D clW ckH ct 26 ad P (mA 26 ad G0) S 0 o) G0 o (mA 26 ad G0)) (nmax ct - G0.2.1) (zmax ct - G0.2.2) (mA 26 ad G0) := by
  refine Y.start (val := fun (o : GS) => none) (Bt := fun (o : GS) => MW D clW ckH ct 26 ad P (mA 26 ad G0) S 0 o) (Go := fun (o : GS) => o) ho (by decide) (Nat.le_of_ble_eq_true rfl) (lv := [(0, .ref (ad (0)))]) rfl ?_
  intro p e s m args below meth c E hr hlk hnm hZ hU hS ls hl
  obtain ⟨⟨hx, hb, hml, hown, hts⟩, hK, hJ⟩ := id E
  unfold s1_keep
  refine x_aload_n hx hb dX1_keep_0 rfl (lv_at hl 0 rfl) ?_
  refine gX1_64 E hU.1.1 dX1_keep_1 (fun r1 => ?_)
  refine x_aload_n hx hb dX1_keep_4 rfl (lv_at hl 0 rfl) ?_
  refine gX1_40 E hU.1.1 dX1_keep_5 ?_
  refine kzX1_3_copyN E hZ hU hS ⟨Nat.le_of_ble_eq_true rfl, Nat.le_of_ble_eq_true rfl⟩ hl.1 (by rcases r1 with _ | _ <;> exact Nat.le_of_ble_eq_true rfl) dX1_keep_8 (fun o2 H locs hU hS => ?_)
  refine X.onR (fun b3 hb_ => ?_)
  subst hb_
  refine kzX1_L_add E hZ hU hS ⟨Nat.le_of_ble_eq_true rfl, Nat.le_of_ble_eq_true rfl⟩ hl.1 (Nat.le_of_ble_eq_true rfl) dX1_keep_11 (fun o4 H locs hU hS => ?_)
  refine x_pop hx hb dX1_keep_16 rfl ?_
  refine x_aload_n hx hb dX1_keep_17 rfl (lv_at hl 0 rfl) ?_
  refine gX1_64 E hU.1.1 dX1_keep_18 (fun r5 => ?_)
  refine X.onR (fun b6 hb_ => ?_)
  subst hb_
  refine kzX1_L_size E hZ hU hS ⟨Nat.le_of_ble_eq_true rfl, Nat.le_of_ble_eq_true rfl⟩ hl.1 (Nat.le_of_ble_eq_true rfl) dX1_keep_21 (fun o7 H locs hU hS => ?_)
  refine x_bipush (v := 40) hx hb dX1_keep_26 (by decide) ?_
  refine x_icmp_le (tgt := 42) hx hb dX1_keep_28 (by decide) (fun hc => ?_) (fun hc => ?_)
  · exact y_vret hx hb hr hlk hZ hU hS rfl rfl hU.1 dX1_keep_42
  · refine x_aload_n hx hb dX1_keep_31 rfl (lv_at hl 0 rfl) ?_
    refine gX1_64 E hU.1.1 dX1_keep_32 (fun r8 => ?_)
    refine x_iconst (v := 0) hx hb dX1_keep_35 (by decide) ?_
    refine X.onR (fun b9 hb_ => ?_)
    subst hb_
    refine kzX1_L_remove E hZ hU hS ⟨Nat.le_of_ble_eq_true rfl, Nat.le_of_ble_eq_true rfl⟩ hl.1 (Nat.le_of_ble_eq_true rfl) dX1_keep_36 (fun o10 H locs hU hS => ?_)
    refine x_pop hx hb dX1_keep_41 (by rcases o10.1 with _ | _ <;> rfl) ?_
    exact y_vret hx hb hr hlk hZ hU hS rfl rfl hU.1 dX1_keep_42
section KZ
variable {ρ : Type} {p : Program} {l : Launch} {e : Env} {R : Room} {s : State} {m : MethodId} {args : Array Value} {below : List Frame} {meth : Method} {c : Code} {H : Heap} {locs : List Loc} {Qf : ρ → State → Prop}
variable {cc : ByteArray} {pc nL L M q0 : Nat} {ls : Array Slot} {rest : List Value}
variable {D : va_G} {ct : CT} {ck : Nat → UC} {N : Nat} {ad : Nat → Nat} {P : Nat → Nat → Option Nat} {A : Nat → Prop} {S : US} {w : Int64} {G0 G : GS}
theorem kzX1_1_keep (E : ME p m c cc nL s args RX1 D clW ct) (hZ : YC ct R s A G0) (hY : YW D clW ckH ct 26 ad P A S 0 G0 G H) (hS : va_S A s.heap H locs) (hR : 7 + 1 ≤ R.frames ∧ 8 + (1 + 11) + 191 ≤ R.locals) (hsize : ls.size = nL) (hW : (rest.map fun v => v.category).sum ≤ 8) (hdg : decode cc pc = .ok (.invokevirtual 203, 3)) {kp : GS → Option ρ} (kk : ∀ (o : GS) (H1 : Heap) (locs1 : List Loc), YW D clW ckH ct 26 ad P A S 0 G0 o H1 → va_S A s.heap H1 locs1 → X p l e R s m args below meth c H1 locs1 (o.2.1 - G0.2.1) (o.2.2 - G0.2.2) Qf (kp o) (F0 m (pc + 3) ls (rest))) : X p l e R s m args below meth c H locs (G.2.1 - G0.2.1) (G.2.2 - G0.2.2) Qf (callK (s1_keep ct ad P S G) kp) (F0 m pc ls (.ref (ad (0)) :: rest)) := gy_mx (val' := fun (o : GS) => none) (len := 3) (So := fun (o : GS) => S) (Po := fun (o : GS) => P) (Gn := fun (o : GS) => o) hZ hY hS (fun o ho => rqV (As := []) E hY.1.any (recvU (i := 0) E.2.1 hY.1.1.1 (by decide) rfl rfl) (by rw [hY.1.2.1]; exact mY1_keep l D ct ad P S G o ho) (cwV 0 E.1.2.2.2.2 (lw_V q335 q337 qs1 q113 q338) rfl rfl rfl (by decide +kernel) hR) rfl hsize rfl hW hdg (hY.room hZ)) kk
end KZ

set_option maxHeartbeats 4000000 in
theorem mY1_days (l : Launch) (D : va_G) (ct : CT) (ad : Nat → Nat) (P : Nat → Nat → Option Nat) (S : US) (G0 : GS) (p1 : Int32) (o : (Int32 × US × GS)) (ho : s1_days ct ad P S G0 p1 = some o) : Met l yX1_days (ws_ yX1_days cX1_days 2 (some .int)) { frames := 504, cells := nmax ct - G0.2.1, slots := zmax ct - G0.2.2, locals := 20087 } (mP D clW ct [.ref (ad (0)), .int p1] G0.2.1 (MW D clW ckH ct 26 ad P (fun _ => True) S 0 G0)) (yC (some (.int o.1)) (MW D clW ckH ct 26 ad P (mA 26 ad G0) o.2.1 0 o.2.2) G0 o.2.2 (mA 26 ad G0)) (nmax ct - G0.2.1) (zmax ct - G0.2.2) (mA 26 ad G0) := by
  refine Y.start (val := fun (o : (Int32 × US × GS)) => some (.int o.1)) (Bt := fun (o : (Int32 × US × GS)) => MW D clW ckH ct 26 ad P (mA 26 ad G0) o.2.1 0 o.2.2) (Go := fun (o : (Int32 × US × GS)) => o.2.2) ho (by decide) (Nat.le_of_ble_eq_true rfl) (lv := [(0, .ref (ad (0))), (1, .int p1)]) rfl ?_
  intro p e s m args below meth c E hr hlk hnm hZ hU hS ls hl
  obtain ⟨⟨hx, hb, hml, hown, hts⟩, hK, hJ⟩ := id E
  unfold s1_days
  refine x_iload_n hx hb dX1_days_0 rfl (lv_at hl 1 rfl) ?_
  refine x_iconst (v := 1) hx hb dX1_days_1 (by decide) ?_
  refine x_bipush (v := 20) hx hb dX1_days_2 (by decide) ?_
  refine kzX1_1_in E hZ hU hS ⟨Nat.le_of_ble_eq_true rfl, Nat.le_of_ble_eq_true rfl⟩ hl.1 (Nat.le_of_ble_eq_true rfl) dX1_days_4 (fun o1 H locs hU hS => ?_)
  refine x_if_eq (tgt := 25) hx hb dX1_days_7 (by decide) (fun hc => ?_) (fun hc => ?_)
  · refine x_aload_n hx hb dX1_days_25 rfl (lv_at hl 0 rfl) ?_
    refine x_iconst (v := 1) hx hb dX1_days_26 (by decide) ?_
    refine kzX1_1_refuse E hZ hU hS ⟨Nat.le_of_ble_eq_true rfl, Nat.le_of_ble_eq_true rfl⟩ hl.1 (Nat.le_of_ble_eq_true rfl) dX1_days_27 (fun o2 H locs hU hS => ?_)
    exact y_iret hx hb hr hlk hZ hU hS rfl rfl hU.1 dX1_days_30
  · refine x_aload_n hx hb dX1_days_10 rfl (lv_at hl 0 rfl) ?_
    refine gX1_40 E hU.1.1 dX1_days_11 ?_
    refine gX1_129 E hU.1.1 (by decide) dX1_days_14 ?_
    refine x_iload_n hx hb dX1_days_17 rfl (lv_at hl 1 rfl) ?_
    refine x_iadd hx hb dX1_days_18 ?_
    refine x_sipush (v := 999) hx hb dX1_days_19 (by decide) ?_
    refine x_icmp_le (tgt := 31) hx hb dX1_days_22 (by decide) (fun hc => ?_) (fun hc => ?_)
    · refine x_aload_n hx hb dX1_days_31 rfl (lv_at hl 0 rfl) ?_
      refine kzX1_1_keep E hZ hU hS ⟨Nat.le_of_ble_eq_true rfl, Nat.le_of_ble_eq_true rfl⟩ hl.1 (Nat.le_of_ble_eq_true rfl) dX1_days_32 (fun o3 H locs hU hS => ?_)
      refine x_aload_n hx hb dX1_days_35 rfl (lv_at hl 0 rfl) ?_
      refine gX1_40 E hU.1.1 dX1_days_36 ?_
      refine x_iload_n hx hb dX1_days_39 rfl (lv_at hl 1 rfl) ?_
      refine kzX1_3_after E hZ hU hS (by decide) ⟨Nat.le_of_ble_eq_true rfl, Nat.le_of_ble_eq_true rfl⟩ hl.1 (Nat.le_of_ble_eq_true rfl) dX1_days_40 (fun o4 H locs hU hS => ?_)
      refine gX1_129 E hU.1.1 (by decide) dX1_days_43 ?_
      exact y_iret hx hb hr hlk hZ hU hS rfl rfl hU.1 dX1_days_46
    · refine x_aload_n hx hb dX1_days_25 rfl (lv_at hl 0 rfl) ?_
      refine x_iconst (v := 1) hx hb dX1_days_26 (by decide) ?_
      refine kzX1_1_refuse E hZ hU hS ⟨Nat.le_of_ble_eq_true rfl, Nat.le_of_ble_eq_true rfl⟩ hl.1 (Nat.le_of_ble_eq_true rfl) dX1_days_27 (fun o5 H locs hU hS => ?_)
      exact y_iret hx hb hr hlk hZ hU hS rfl rfl hU.1 dX1_days_30

set_option maxHeartbeats 4000000 in
theorem mY1_undo (l : Launch) (D : va_G) (ct : CT) (ad : Nat → Nat) (P : Nat → Nat → Option Nat) (S : US) (G0 : GS) (o : (Int32 × US × GS × (Nat → Nat → Option Nat) × (Nat → Nat))) (ho : s1_undo ct ad P S G0 = some o) : Met l yX1_undo (ws_ yX1_undo cX1_undo 1 (some .int)) { frames := 4, cells := nmax ct - G0.2.1, slots := zmax ct - G0.2.2, locals := 106 } (mP D clW ct [.ref (ad (0))] G0.2.1 (MW D clW ckH ct 26 ad P (fun _ => True) S 0 G0)) (yC (some (.int o.1)) (MW D clW ckH ct 26 o.2.2.2.2 o.2.2.2.1 (mA 26 ad G0) o.2.1 0 o.2.2.1) G0 o.2.2.1 (mA 26 ad G0)) (nmax ct - G0.2.1) (zmax ct - G0.2.2) (mA 26 ad G0) := by
  refine Y.start (val := fun (o : (Int32 × US × GS × (Nat → Nat → Option Nat) × (Nat → Nat))) => some (.int o.1)) (Bt := fun (o : (Int32 × US × GS × (Nat → Nat → Option Nat) × (Nat → Nat))) => MW D clW ckH ct 26 o.2.2.2.2 o.2.2.2.1 (mA 26 ad G0) o.2.1 0 o.2.2.1) (Go := fun (o : (Int32 × US × GS × (Nat → Nat → Option Nat) × (Nat → Nat))) => o.2.2.1) ho (by decide) (Nat.le_of_ble_eq_true rfl) (lv := [(0, .ref (ad (0)))]) rfl ?_
  intro p e s m args below meth c E hr hlk hnm hZ hU hS ls hl
  obtain ⟨⟨hx, hb, hml, hown, hts⟩, hK, hJ⟩ := id E
  unfold s1_undo
  refine x_aload_n hx hb dX1_undo_0 rfl (lv_at hl 0 rfl) ?_
  refine gX1_64 E hU.1.1 dX1_undo_1 (fun r1 => ?_)
  refine X.onR (fun b2 hb_ => ?_)
  subst hb_
  refine kzX1_L_isEmpty E hZ hU hS ⟨Nat.le_of_ble_eq_true rfl, Nat.le_of_ble_eq_true rfl⟩ hl.1 (Nat.le_of_ble_eq_true rfl) dX1_undo_4 (fun o3 H locs hU hS => ?_)
  refine x_if_eq (tgt := 14) hx hb dX1_undo_9 (by decide) (fun hc => ?_) (fun hc => ?_)
  · refine x_aload_n hx hb dX1_undo_14 rfl (lv_at hl 0 rfl) ?_
    refine x_aload_n hx hb dX1_undo_15 rfl (lv_at hl 0 rfl) ?_
    refine gX1_64 E hU.1.1 dX1_undo_16 (fun r4 => ?_)
    refine x_aload_n hx hb dX1_undo_19 rfl (lv_at hl 0 rfl) ?_
    refine gX1_64 E hU.1.1 dX1_undo_20 (fun r5 => ?_)
    refine X.onR (fun b6 hb_ => ?_)
    subst hb_
    refine kzX1_L_size E hZ hU hS ⟨Nat.le_of_ble_eq_true rfl, Nat.le_of_ble_eq_true rfl⟩ hl.1 (by rcases r4 with _ | _ <;> exact Nat.le_of_ble_eq_true rfl) dX1_undo_23 (fun o7 H locs hU hS => ?_)
    refine x_iconst (v := 1) hx hb dX1_undo_28 (by decide) ?_
    refine x_isub hx hb dX1_undo_29 ?_
    refine X.onR (fun b8 hb_ => ?_)
    subst hb_
    refine kzX1_L_remove E hZ hU hS ⟨Nat.le_of_ble_eq_true rfl, Nat.le_of_ble_eq_true rfl⟩ hl.1 (Nat.le_of_ble_eq_true rfl) dX1_undo_30 (fun o9 H locs hU hS => ?_)
    refine X.onR (fun b10 hb_ => ?_)
    rw [hb_]
    try rw [hb_] at hl
    refine fx_cast E hU.1.1.2.1 (ci := 3) rfl (hts _ q222) dX1_undo_35 ?_
    refine kzX1_3_copyF E hZ hU hS ⟨Nat.le_of_ble_eq_true rfl, Nat.le_of_ble_eq_true rfl⟩ hl.1 (Nat.le_of_ble_eq_true rfl) dX1_undo_38 (fun o11 H locs hU hS => ?_)
    refine X.onR (fun b12 hb_ => ?_)
    rw [hb_]
    try rw [hb_] at hl
    refine gy_putD (I := iL) (nw := (nwL o11.2 b12)) (j0 := 5) E hU hS rfl in_X1 tyX1_ok nmX1 2 (by decide) rfl (hts _ q270) (fun _ h => h) rfl (b := b12) rfl rfl rfl dX1_undo_41 (by decide) (by decide) (by decide) (by decide) (by decide) (fun S13 G14 P15 d16 H locs hd_ hU hS => ?_)
    try rw [← hd_]
    rw [← hd_] at hl
    refine x_aload_n hx hb dX1_undo_44 rfl (lv_at hl 0 rfl) ?_
    refine gX1_64 E hU.1.1 dX1_undo_45 (fun r17 => ?_)
    refine X.onR (fun b18 hb_ => ?_)
    subst hb_
    refine kzX1_L_size E hZ hU hS ⟨Nat.le_of_ble_eq_true rfl, Nat.le_of_ble_eq_true rfl⟩ hl.1 (Nat.le_of_ble_eq_true rfl) dX1_undo_48 (fun o19 H locs hU hS => ?_)
    exact y_iret hx hb hr hlk hZ hU hS rfl rfl hU.1 dX1_undo_53
  · refine x_iconst (v := -1) hx hb dX1_undo_12 (by decide) ?_
    exact y_iret hx hb hr hlk hZ hU hS rfl rfl hU.1 dX1_undo_13

set_option maxHeartbeats 4000000 in
theorem mY1_forget (l : Launch) (D : va_G) (ct : CT) (ad : Nat → Nat) (P : Nat → Nat → Option Nat) (S : US) (G0 : GS) (o : (GS × (Nat → Nat → Option Nat))) (ho : s1_forget ct ad P S G0 = some o) : Met l yX1_forget (ws_ yX1_forget cX1_forget 1 none) { frames := 4, cells := nmax ct - G0.2.1, slots := zmax ct - G0.2.2, locals := 120 } (mP D clW ct [.ref (ad (0))] G0.2.1 (MW D clW ckH ct 26 ad P (fun _ => True) S 0 G0)) (yC (none) (MW D clW ckH ct 26 ad o.2 (mA 26 ad G0) S 0 o.1) G0 o.1 (mA 26 ad G0)) (nmax ct - G0.2.1) (zmax ct - G0.2.2) (mA 26 ad G0) := by
  refine Y.start (val := fun (o : (GS × (Nat → Nat → Option Nat))) => none) (Bt := fun (o : (GS × (Nat → Nat → Option Nat))) => MW D clW ckH ct 26 ad o.2 (mA 26 ad G0) S 0 o.1) (Go := fun (o : (GS × (Nat → Nat → Option Nat))) => o.1) ho (by decide) (Nat.le_of_ble_eq_true rfl) (lv := [(0, .ref (ad (0)))]) rfl ?_
  intro p e s m args below meth c E hr hlk hnm hZ hU hS ls hl
  obtain ⟨⟨hx, hb, hml, hown, hts⟩, hK, hJ⟩ := id E
  unfold s1_forget
  refine x_aload_n hx hb dX1_forget_0 rfl (lv_at hl 0 rfl) ?_
  refine gy_new (ty := tyJ2) E hZ hU hS in_J2 tyJ2_ok (hts _ q264) (hts _ q164) (hts _ q117) (ci := 10) rfl (by decide) dX1_forget_1 (fun q1 G2 H hU hS => ?_)
  refine x_dup hx hb dX1_forget_4 rfl ?_
  refine kzX1_L_init E hZ hU hS ⟨Nat.le_of_ble_eq_true rfl, Nat.le_of_ble_eq_true rfl⟩ hl.1 (Nat.le_of_ble_eq_true rfl) dX1_forget_5 (fun o3 H locs hU hS => ?_)
  refine gy_putP (i := 0) (r := (some q1)) E hU hS (by decide) rfl rfl in_X1 tyX1_ok nmX1 10 (by decide) rfl (hts _ q279) (fun _ h => h) rfl rfl rfl dX1_forget_8 (fun P4 H locs hU hS => ?_)
  exact y_vret hx hb hr hlk hZ hU hS rfl rfl hU.1 dX1_forget_11

set_option maxHeartbeats 4000000 in
theorem mY1_mend (l : Launch) (D : va_G) (ct : CT) (ad : Nat → Nat) (P : Nat → Nat → Option Nat) (S : US) (G0 : GS) (p1 : Int32) (o : (Int32 × US × GS)) (ho : s1_mend ct ad P S G0 p1 = some o) : Met l yX1_mend (ws_ yX1_mend cX1_mend 2 (some .int)) { frames := 8, cells := nmax ct - G0.2.1, slots := zmax ct - G0.2.2, locals := 211 } (mP D clW ct [.ref (ad (0)), .int p1] G0.2.1 (MW D clW ckH ct 26 ad P (fun _ => True) S 0 G0)) (yC (some (.int o.1)) (MW D clW ckH ct 26 ad P (mA 26 ad G0) o.2.1 0 o.2.2) G0 o.2.2 (mA 26 ad G0)) (nmax ct - G0.2.1) (zmax ct - G0.2.2) (mA 26 ad G0) := by
  refine Y.start (val := fun (o : (Int32 × US × GS)) => some (.int o.1)) (Bt := fun (o : (Int32 × US × GS)) => MW D clW ckH ct 26 ad P (mA 26 ad G0) o.2.1 0 o.2.2) (Go := fun (o : (Int32 × US × GS)) => o.2.2) ho (by decide) (Nat.le_of_ble_eq_true rfl) (lv := [(0, .ref (ad (0))), (1, .int p1)]) rfl ?_
  intro p e s m args below meth c E hr hlk hnm hZ hU hS ls hl
  obtain ⟨⟨hx, hb, hml, hown, hts⟩, hK, hJ⟩ := id E
  unfold s1_mend
  refine x_aload_n hx hb dX1_mend_0 rfl (lv_at hl 0 rfl) ?_
  refine x_iload_n hx hb dX1_mend_1 rfl (lv_at hl 1 rfl) ?_
  refine kzX1_1_aWoman E hZ hU hS ⟨Nat.le_of_ble_eq_true rfl, Nat.le_of_ble_eq_true rfl⟩ hl.1 (Nat.le_of_ble_eq_true rfl) dX1_mend_2 (fun o1 H locs hU hS => ?_)
  refine x_aload_n hx hb dX1_mend_5 rfl (lv_at hl 0 rfl) ?_
  refine gX1_40 E hU.1.1 dX1_mend_6 ?_
  refine gX1_105 E hU.1.1 (by decide) dX1_mend_9 ?_
  refine x_iload_n hx hb dX1_mend_12 rfl (lv_at hl 1 rfl) ?_
  refine ux_ald (i := lc 0 5) (n := 6) E hU.1.1.1 (lc_lt (by decide) (by decide)) (ck_lc (by decide)) dX1_mend_13 ?_
  refine x_if_ne (tgt := 23) hx hb dX1_mend_14 (by decide) (fun hc => ?_) (fun hc => ?_)
  · refine x_aload_n hx hb dX1_mend_23 rfl (lv_at hl 0 rfl) ?_
    refine kzX1_1_keep E hZ hU hS ⟨Nat.le_of_ble_eq_true rfl, Nat.le_of_ble_eq_true rfl⟩ hl.1 (Nat.le_of_ble_eq_true rfl) dX1_mend_24 (fun o2 H locs hU hS => ?_)
    refine x_aload_n hx hb dX1_mend_27 rfl (lv_at hl 0 rfl) ?_
    refine gX1_40 E hU.1.1 dX1_mend_28 ?_
    refine x_iload_n hx hb dX1_mend_31 rfl (lv_at hl 1 rfl) ?_
    refine kzX1_3_mend E hZ hU hS (by decide) ⟨Nat.le_of_ble_eq_true rfl, Nat.le_of_ble_eq_true rfl⟩ hl.1 (Nat.le_of_ble_eq_true rfl) dX1_mend_32 (fun o3 H locs hU hS => ?_)
    refine x_aload_n hx hb dX1_mend_35 rfl (lv_at hl 0 rfl) ?_
    refine gX1_40 E hU.1.1 dX1_mend_36 ?_
    refine gX1_158 E hU.1.1 (by decide) dX1_mend_39 ?_
    refine x_aload_n hx hb dX1_mend_42 rfl (lv_at hl 0 rfl) ?_
    refine gX1_40 E hU.1.1 dX1_mend_43 ?_
    refine gX1_108 E hU.1.1 (by decide) dX1_mend_46 ?_
    refine x_iload_n hx hb dX1_mend_49 rfl (lv_at hl 1 rfl) ?_
    refine ux_ald (i := lc 0 4) (n := 6) E hU.1.1.1 (lc_lt (by decide) (by decide)) (ck_lc (by decide)) dX1_mend_50 ?_
    refine ux_ald (i := lc 0 2) (n := 12) E hU.1.1.1 (lc_lt (by decide) (by decide)) (ck_lc (by decide)) dX1_mend_51 ?_
    exact y_iret hx hb hr hlk hZ hU hS rfl rfl hU.1 dX1_mend_52
  · refine x_aload_n hx hb dX1_mend_17 rfl (lv_at hl 0 rfl) ?_
    refine x_iconst (v := 1) hx hb dX1_mend_18 (by decide) ?_
    refine kzX1_1_refuse E hZ hU hS ⟨Nat.le_of_ble_eq_true rfl, Nat.le_of_ble_eq_true rfl⟩ hl.1 (Nat.le_of_ble_eq_true rfl) dX1_mend_19 (fun o4 H locs hU hS => ?_)
    exact y_iret hx hb hr hlk hZ hU hS rfl rfl hU.1 dX1_mend_22

set_option maxHeartbeats 4000000 in
theorem mY1_go (l : Launch) (D : va_G) (ct : CT) (ad : Nat → Nat) (P : Nat → Nat → Option Nat) (S : US) (G0 : GS) (p1 : Int32) (p2 : Int32) (o : (Int32 × US × GS)) (ho : s1_go ct ad P S G0 p1 p2 = some o) : Met l yX1_go (ws_ yX1_go cX1_go 4 (some .int)) { frames := 8, cells := nmax ct - G0.2.1, slots := zmax ct - G0.2.2, locals := 211 } (mP D clW ct [.ref (ad (0)), .int p1, .int p2] G0.2.1 (MW D clW ckH ct 26 ad P (fun _ => True) S 0 G0)) (yC (some (.int o.1)) (MW D clW ckH ct 26 ad P (mA 26 ad G0) o.2.1 0 o.2.2) G0 o.2.2 (mA 26 ad G0)) (nmax ct - G0.2.1) (zmax ct - G0.2.2) (mA 26 ad G0) := by
  refine Y.start (val := fun (o : (Int32 × US × GS)) => some (.int o.1)) (Bt := fun (o : (Int32 × US × GS)) => MW D clW ckH ct 26 ad P (mA 26 ad G0) o.2.1 0 o.2.2) (Go := fun (o : (Int32 × US × GS)) => o.2.2) ho (by decide) (Nat.le_of_ble_eq_true rfl) (lv := [(0, .ref (ad (0))), (1, .int p1), (2, .int p2)]) rfl ?_
  intro p e s m args below meth c E hr hlk hnm hZ hU hS ls hl
  obtain ⟨⟨hx, hb, hml, hown, hts⟩, hK, hJ⟩ := id E
  unfold s1_go
  refine x_aload_n hx hb dX1_go_0 rfl (lv_at hl 0 rfl) ?_
  refine x_iload_n hx hb dX1_go_1 rfl (lv_at hl 1 rfl) ?_
  refine kzX1_1_aWoman E hZ hU hS ⟨Nat.le_of_ble_eq_true rfl, Nat.le_of_ble_eq_true rfl⟩ hl.1 (Nat.le_of_ble_eq_true rfl) dX1_go_2 (fun o1 H locs hU hS => ?_)
  refine x_aload_n hx hb dX1_go_5 rfl (lv_at hl 0 rfl) ?_
  refine x_iload_n hx hb dX1_go_6 rfl (lv_at hl 2 rfl) ?_
  refine kzX1_1_aStretch E hZ hU hS ⟨Nat.le_of_ble_eq_true rfl, Nat.le_of_ble_eq_true rfl⟩ hl.1 (Nat.le_of_ble_eq_true rfl) dX1_go_7 (fun o2 H locs hU hS => ?_)
  refine x_aload_n hx hb dX1_go_10 rfl (lv_at hl 0 rfl) ?_
  refine gX1_40 E hU.1.1 dX1_go_11 ?_
  refine gX1_108 E hU.1.1 (by decide) dX1_go_14 ?_
  refine x_iload_n hx hb dX1_go_17 rfl (lv_at hl 1 rfl) ?_
  refine ux_ald (i := lc 0 4) (n := 6) E hU.1.1.1 (lc_lt (by decide) (by decide)) (ck_lc (by decide)) dX1_go_18 ?_
  refine x_istore_n (lv' := [(3, .int (S (lc 0 4) p1.toNatClampNeg)), (0, .ref (ad (0))), (1, .int p1), (2, .int p2)]) hx hb dX1_go_19 rfl hl (by decide) rfl (fun ls hl => ?_)
  refine x_iload_n hx hb dX1_go_20 rfl (lv_at hl 0 rfl) ?_
  refine x_iload_n hx hb dX1_go_21 rfl (lv_at hl 3 rfl) ?_
  refine x_icmp_ne (tgt := 31) hx hb dX1_go_22 (by decide) (fun hc => ?_) (fun hc => ?_)
  · refine x_aload_n hx hb dX1_go_31 rfl (lv_at hl 1 rfl) ?_
    refine kzX1_1_keep E hZ hU hS ⟨Nat.le_of_ble_eq_true rfl, Nat.le_of_ble_eq_true rfl⟩ hl.1 (Nat.le_of_ble_eq_true rfl) dX1_go_32 (fun o3 H locs hU hS => ?_)
    refine x_aload_n hx hb dX1_go_35 rfl (lv_at hl 1 rfl) ?_
    refine gX1_40 E hU.1.1 dX1_go_36 ?_
    refine gX1_108 E hU.1.1 (by decide) dX1_go_39 ?_
    refine x_iload_n hx hb dX1_go_42 rfl (lv_at hl 2 rfl) ?_
    refine x_iload_n hx hb dX1_go_43 rfl (lv_at hl 3 rfl) ?_
    refine gx_ast (i := lc 0 4) (n := 6) E hU.1.1 hS (lc_lt (by decide) (by decide)) (ck_lc (by decide)) dX1_go_44 (fun S4 H locs hG_ hS hz_ => ?_)
    replace hU := hU.gw hG_ hz_.1
    refine x_iload_n hx hb dX1_go_45 rfl (lv_at hl 0 rfl) ?_
    exact y_iret hx hb hr hlk hZ hU hS rfl rfl hU.1 dX1_go_46
  · refine x_aload_n hx hb dX1_go_25 rfl (lv_at hl 1 rfl) ?_
    refine x_iconst (v := 1) hx hb dX1_go_26 (by decide) ?_
    refine kzX1_1_refuse E hZ hU hS ⟨Nat.le_of_ble_eq_true rfl, Nat.le_of_ble_eq_true rfl⟩ hl.1 (Nat.le_of_ble_eq_true rfl) dX1_go_27 (fun o5 H locs hU hS => ?_)
    exact y_iret hx hb hr hlk hZ hU hS rfl rfl hU.1 dX1_go_30

set_option maxHeartbeats 4000000 in
theorem mY1_tear (l : Launch) (D : va_G) (ct : CT) (ad : Nat → Nat) (P : Nat → Nat → Option Nat) (S : US) (G0 : GS) (p1 : Int32) (p2 : Int32) (o : (Int32 × US × GS)) (ho : s1_tear ct ad P S G0 p1 p2 = some o) : Met l yX1_tear (ws_ yX1_tear cX1_tear 3 (some .int)) { frames := 8, cells := nmax ct - G0.2.1, slots := zmax ct - G0.2.2, locals := 211 } (mP D clW ct [.ref (ad (0)), .int p1, .int p2] G0.2.1 (MW D clW ckH ct 26 ad P (fun _ => True) S 0 G0)) (yC (some (.int o.1)) (MW D clW ckH ct 26 ad P (mA 26 ad G0) o.2.1 0 o.2.2) G0 o.2.2 (mA 26 ad G0)) (nmax ct - G0.2.1) (zmax ct - G0.2.2) (mA 26 ad G0) := by
  refine Y.start (val := fun (o : (Int32 × US × GS)) => some (.int o.1)) (Bt := fun (o : (Int32 × US × GS)) => MW D clW ckH ct 26 ad P (mA 26 ad G0) o.2.1 0 o.2.2) (Go := fun (o : (Int32 × US × GS)) => o.2.2) ho (by decide) (Nat.le_of_ble_eq_true rfl) (lv := [(0, .ref (ad (0))), (1, .int p1), (2, .int p2)]) rfl ?_
  intro p e s m args below meth c E hr hlk hnm hZ hU hS ls hl
  obtain ⟨⟨hx, hb, hml, hown, hts⟩, hK, hJ⟩ := id E
  unfold s1_tear
  refine x_aload_n hx hb dX1_tear_0 rfl (lv_at hl 0 rfl) ?_
  refine x_iload_n hx hb dX1_tear_1 rfl (lv_at hl 1 rfl) ?_
  refine kzX1_1_aStretch E hZ hU hS ⟨Nat.le_of_ble_eq_true rfl, Nat.le_of_ble_eq_true rfl⟩ hl.1 (Nat.le_of_ble_eq_true rfl) dX1_tear_2 (fun o1 H locs hU hS => ?_)
  refine x_iload_n hx hb dX1_tear_5 rfl (lv_at hl 2 rfl) ?_
  refine x_iconst (v := 1) hx hb dX1_tear_6 (by decide) ?_
  refine x_bipush (v := 50) hx hb dX1_tear_7 (by decide) ?_
  refine kzX1_1_in E hZ hU hS ⟨Nat.le_of_ble_eq_true rfl, Nat.le_of_ble_eq_true rfl⟩ hl.1 (Nat.le_of_ble_eq_true rfl) dX1_tear_9 (fun o2 H locs hU hS => ?_)
  refine x_if_eq (tgt := 26) hx hb dX1_tear_12 (by decide) (fun hc => ?_) (fun hc => ?_)
  · refine x_aload_n hx hb dX1_tear_26 rfl (lv_at hl 0 rfl) ?_
    refine x_iconst (v := 1) hx hb dX1_tear_27 (by decide) ?_
    refine kzX1_1_refuse E hZ hU hS ⟨Nat.le_of_ble_eq_true rfl, Nat.le_of_ble_eq_true rfl⟩ hl.1 (Nat.le_of_ble_eq_true rfl) dX1_tear_28 (fun o3 H locs hU hS => ?_)
    exact y_iret hx hb hr hlk hZ hU hS rfl rfl hU.1 dX1_tear_31
  · refine x_aload_n hx hb dX1_tear_15 rfl (lv_at hl 0 rfl) ?_
    refine gX1_40 E hU.1.1 dX1_tear_16 ?_
    refine x_iload_n hx hb dX1_tear_19 rfl (lv_at hl 1 rfl) ?_
    refine kzX1_3_isOpen E hZ hU hS (by decide) ⟨Nat.le_of_ble_eq_true rfl, Nat.le_of_ble_eq_true rfl⟩ hl.1 (Nat.le_of_ble_eq_true rfl) dX1_tear_20 (fun o4 H locs hU hS => ?_)
    refine x_if_eq (tgt := 32) hx hb dX1_tear_23 (by decide) (fun hc => ?_) (fun hc => ?_)
    · refine x_aload_n hx hb dX1_tear_32 rfl (lv_at hl 0 rfl) ?_
      refine kzX1_1_keep E hZ hU hS ⟨Nat.le_of_ble_eq_true rfl, Nat.le_of_ble_eq_true rfl⟩ hl.1 (Nat.le_of_ble_eq_true rfl) dX1_tear_33 (fun o5 H locs hU hS => ?_)
      refine x_aload_n hx hb dX1_tear_36 rfl (lv_at hl 0 rfl) ?_
      refine gX1_40 E hU.1.1 dX1_tear_37 ?_
      refine x_iload_n hx hb dX1_tear_40 rfl (lv_at hl 1 rfl) ?_
      refine x_iload_n hx hb dX1_tear_41 rfl (lv_at hl 2 rfl) ?_
      refine kzX1_3_loosen E hZ hU hS (by decide) ⟨Nat.le_of_ble_eq_true rfl, Nat.le_of_ble_eq_true rfl⟩ hl.1 (Nat.le_of_ble_eq_true rfl) dX1_tear_42 (fun o6 H locs hU hS => ?_)
      refine x_aload_n hx hb dX1_tear_45 rfl (lv_at hl 0 rfl) ?_
      refine gX1_40 E hU.1.1 dX1_tear_46 ?_
      refine gX1_158 E hU.1.1 (by decide) dX1_tear_49 ?_
      refine x_iload_n hx hb dX1_tear_52 rfl (lv_at hl 1 rfl) ?_
      refine ux_ald (i := lc 0 2) (n := 12) E hU.1.1.1 (lc_lt (by decide) (by decide)) (ck_lc (by decide)) dX1_tear_53 ?_
      exact y_iret hx hb hr hlk hZ hU hS rfl rfl hU.1 dX1_tear_54
    · refine x_aload_n hx hb dX1_tear_26 rfl (lv_at hl 0 rfl) ?_
      refine x_iconst (v := 1) hx hb dX1_tear_27 (by decide) ?_
      refine kzX1_1_refuse E hZ hU hS ⟨Nat.le_of_ble_eq_true rfl, Nat.le_of_ble_eq_true rfl⟩ hl.1 (Nat.le_of_ble_eq_true rfl) dX1_tear_28 (fun o7 H locs hU hS => ?_)
      exact y_iret hx hb hr hlk hZ hU hS rfl rfl hU.1 dX1_tear_31

set_option maxHeartbeats 4000000 in
theorem mY1_stitch (l : Launch) (D : va_G) (ct : CT) (ad : Nat → Nat) (P : Nat → Nat → Option Nat) (S : US) (G0 : GS) (p1 : Int32) (p2 : Int32) (o : (Int32 × US × GS)) (ho : s1_stitch ct ad P S G0 p1 p2 = some o) : Met l yX1_stitch (ws_ yX1_stitch cX1_stitch 4 (some .int)) { frames := 8, cells := nmax ct - G0.2.1, slots := zmax ct - G0.2.2, locals := 211 } (mP D clW ct [.ref (ad (0)), .int p1, .int p2] G0.2.1 (MW D clW ckH ct 26 ad P (fun _ => True) S 0 G0)) (yC (some (.int o.1)) (MW D clW ckH ct 26 ad P (mA 26 ad G0) o.2.1 0 o.2.2) G0 o.2.2 (mA 26 ad G0)) (nmax ct - G0.2.1) (zmax ct - G0.2.2) (mA 26 ad G0) := by
  refine Y.start (val := fun (o : (Int32 × US × GS)) => some (.int o.1)) (Bt := fun (o : (Int32 × US × GS)) => MW D clW ckH ct 26 ad P (mA 26 ad G0) o.2.1 0 o.2.2) (Go := fun (o : (Int32 × US × GS)) => o.2.2) ho (by decide) (Nat.le_of_ble_eq_true rfl) (lv := [(0, .ref (ad (0))), (1, .int p1), (2, .int p2)]) rfl ?_
  intro p e s m args below meth c E hr hlk hnm hZ hU hS ls hl
  obtain ⟨⟨hx, hb, hml, hown, hts⟩, hK, hJ⟩ := id E
  unfold s1_stitch
  refine x_aload_n hx hb dX1_stitch_0 rfl (lv_at hl 0 rfl) ?_
  refine x_iload_n hx hb dX1_stitch_1 rfl (lv_at hl 1 rfl) ?_
  refine kzX1_1_aStretch E hZ hU hS ⟨Nat.le_of_ble_eq_true rfl, Nat.le_of_ble_eq_true rfl⟩ hl.1 (Nat.le_of_ble_eq_true rfl) dX1_stitch_2 (fun o1 H locs hU hS => ?_)
  refine x_aload_n hx hb dX1_stitch_5 rfl (lv_at hl 0 rfl) ?_
  refine gX1_40 E hU.1.1 dX1_stitch_6 ?_
  refine gX1_161 E hU.1.1 (by decide) dX1_stitch_9 ?_
  refine x_iload_n hx hb dX1_stitch_12 rfl (lv_at hl 1 rfl) ?_
  refine ux_ald (i := lc 0 3) (n := 12) E hU.1.1.1 (lc_lt (by decide) (by decide)) (ck_lc (by decide)) dX1_stitch_13 ?_
  refine x_istore_n (lv' := [(3, .int (S (lc 0 3) p1.toNatClampNeg)), (0, .ref (ad (0))), (1, .int p1), (2, .int p2)]) hx hb dX1_stitch_14 rfl hl (by decide) rfl (fun ls hl => ?_)
  refine x_iload_n hx hb dX1_stitch_15 rfl (lv_at hl 3 rfl) ?_
  refine x_iconst (v := 0) hx hb dX1_stitch_16 (by decide) ?_
  refine x_iconst (v := 2) hx hb dX1_stitch_17 (by decide) ?_
  refine kzX1_1_in E hZ hU hS ⟨Nat.le_of_ble_eq_true rfl, Nat.le_of_ble_eq_true rfl⟩ hl.1 (Nat.le_of_ble_eq_true rfl) dX1_stitch_18 (fun o2 H locs hU hS => ?_)
  refine x_if_eq (tgt := 29) hx hb dX1_stitch_21 (by decide) (fun hc => ?_) (fun hc => ?_)
  · refine x_aload_n hx hb dX1_stitch_29 rfl (lv_at hl 1 rfl) ?_
    refine x_iconst (v := 1) hx hb dX1_stitch_30 (by decide) ?_
    refine kzX1_1_refuse E hZ hU hS ⟨Nat.le_of_ble_eq_true rfl, Nat.le_of_ble_eq_true rfl⟩ hl.1 (Nat.le_of_ble_eq_true rfl) dX1_stitch_31 (fun o3 H locs hU hS => ?_)
    exact y_iret hx hb hr hlk hZ hU hS rfl rfl hU.1 dX1_stitch_34
  · refine x_iload_n hx hb dX1_stitch_24 rfl (lv_at hl 3 rfl) ?_
    refine x_iload_n hx hb dX1_stitch_25 rfl (lv_at hl 0 rfl) ?_
    refine x_icmp_ne (tgt := 35) hx hb dX1_stitch_26 (by decide) (fun hc => ?_) (fun hc => ?_)
    · refine x_aload_n hx hb dX1_stitch_35 rfl (lv_at hl 1 rfl) ?_
      refine kzX1_1_keep E hZ hU hS ⟨Nat.le_of_ble_eq_true rfl, Nat.le_of_ble_eq_true rfl⟩ hl.1 (Nat.le_of_ble_eq_true rfl) dX1_stitch_36 (fun o4 H locs hU hS => ?_)
      refine x_aload_n hx hb dX1_stitch_39 rfl (lv_at hl 1 rfl) ?_
      refine gX1_40 E hU.1.1 dX1_stitch_40 ?_
      refine gX1_161 E hU.1.1 (by decide) dX1_stitch_43 ?_
      refine x_iload_n hx hb dX1_stitch_46 rfl (lv_at hl 2 rfl) ?_
      refine x_iload_n hx hb dX1_stitch_47 rfl (lv_at hl 3 rfl) ?_
      refine gx_ast (i := lc 0 3) (n := 12) E hU.1.1 hS (lc_lt (by decide) (by decide)) (ck_lc (by decide)) dX1_stitch_48 (fun S5 H locs hG_ hS hz_ => ?_)
      replace hU := hU.gw hG_ hz_.1
      refine x_iload_n hx hb dX1_stitch_49 rfl (lv_at hl 0 rfl) ?_
      exact y_iret hx hb hr hlk hZ hU hS rfl rfl hU.1 dX1_stitch_50
    · refine x_aload_n hx hb dX1_stitch_29 rfl (lv_at hl 1 rfl) ?_
      refine x_iconst (v := 1) hx hb dX1_stitch_30 (by decide) ?_
      refine kzX1_1_refuse E hZ hU hS ⟨Nat.le_of_ble_eq_true rfl, Nat.le_of_ble_eq_true rfl⟩ hl.1 (Nat.le_of_ble_eq_true rfl) dX1_stitch_31 (fun o6 H locs hU hS => ?_)
      exact y_iret hx hb hr hlk hZ hU hS rfl rfl hU.1 dX1_stitch_34

set_option maxHeartbeats 4000000 in
theorem mY1_thread (l : Launch) (D : va_G) (ct : CT) (ad : Nat → Nat) (P : Nat → Nat → Option Nat) (S : US) (G0 : GS) (p1 : Int32) (p2 : Int32) (o : (Int32 × US × GS)) (ho : s1_thread ct ad P S G0 p1 p2 = some o) : Met l yX1_thread (ws_ yX1_thread cX1_thread 3 (some .int)) { frames := 8, cells := nmax ct - G0.2.1, slots := zmax ct - G0.2.2, locals := 211 } (mP D clW ct [.ref (ad (0)), .int p1, .int p2] G0.2.1 (MW D clW ckH ct 26 ad P (fun _ => True) S 0 G0)) (yC (some (.int o.1)) (MW D clW ckH ct 26 ad P (mA 26 ad G0) o.2.1 0 o.2.2) G0 o.2.2 (mA 26 ad G0)) (nmax ct - G0.2.1) (zmax ct - G0.2.2) (mA 26 ad G0) := by
  refine Y.start (val := fun (o : (Int32 × US × GS)) => some (.int o.1)) (Bt := fun (o : (Int32 × US × GS)) => MW D clW ckH ct 26 ad P (mA 26 ad G0) o.2.1 0 o.2.2) (Go := fun (o : (Int32 × US × GS)) => o.2.2) ho (by decide) (Nat.le_of_ble_eq_true rfl) (lv := [(0, .ref (ad (0))), (1, .int p1), (2, .int p2)]) rfl ?_
  intro p e s m args below meth c E hr hlk hnm hZ hU hS ls hl
  obtain ⟨⟨hx, hb, hml, hown, hts⟩, hK, hJ⟩ := id E
  unfold s1_thread
  refine x_aload_n hx hb dX1_thread_0 rfl (lv_at hl 0 rfl) ?_
  refine x_iload_n hx hb dX1_thread_1 rfl (lv_at hl 1 rfl) ?_
  refine kzX1_1_aWoman E hZ hU hS ⟨Nat.le_of_ble_eq_true rfl, Nat.le_of_ble_eq_true rfl⟩ hl.1 (Nat.le_of_ble_eq_true rfl) dX1_thread_2 (fun o1 H locs hU hS => ?_)
  refine x_iload_n hx hb dX1_thread_5 rfl (lv_at hl 2 rfl) ?_
  refine x_iconst (v := 1) hx hb dX1_thread_6 (by decide) ?_
  refine x_bipush (v := 50) hx hb dX1_thread_7 (by decide) ?_
  refine kzX1_1_in E hZ hU hS ⟨Nat.le_of_ble_eq_true rfl, Nat.le_of_ble_eq_true rfl⟩ hl.1 (Nat.le_of_ble_eq_true rfl) dX1_thread_9 (fun o2 H locs hU hS => ?_)
  refine x_if_ne (tgt := 21) hx hb dX1_thread_12 (by decide) (fun hc => ?_) (fun hc => ?_)
  · refine x_aload_n hx hb dX1_thread_21 rfl (lv_at hl 0 rfl) ?_
    refine kzX1_1_keep E hZ hU hS ⟨Nat.le_of_ble_eq_true rfl, Nat.le_of_ble_eq_true rfl⟩ hl.1 (Nat.le_of_ble_eq_true rfl) dX1_thread_22 (fun o3 H locs hU hS => ?_)
    refine x_aload_n hx hb dX1_thread_25 rfl (lv_at hl 0 rfl) ?_
    refine gX1_40 E hU.1.1 dX1_thread_26 ?_
    refine gX1_105 E hU.1.1 (by decide) dX1_thread_29 ?_
    refine x_iload_n hx hb dX1_thread_32 rfl (lv_at hl 1 rfl) ?_
    refine x_bipush (v := 99) hx hb dX1_thread_33 (by decide) ?_
    refine x_aload_n hx hb dX1_thread_35 rfl (lv_at hl 0 rfl) ?_
    refine gX1_40 E hU.1.1 dX1_thread_36 ?_
    refine gX1_105 E hU.1.1 (by decide) dX1_thread_39 ?_
    refine x_iload_n hx hb dX1_thread_42 rfl (lv_at hl 1 rfl) ?_
    refine ux_ald (i := lc 0 5) (n := 6) E hU.1.1.1 (lc_lt (by decide) (by decide)) (ck_lc (by decide)) dX1_thread_43 ?_
    refine x_iload_n hx hb dX1_thread_44 rfl (lv_at hl 2 rfl) ?_
    refine x_iadd hx hb dX1_thread_45 ?_
    refine kX1_min E ⟨Nat.le_of_ble_eq_true rfl, Nat.le_of_ble_eq_true rfl⟩ hl.1 (Nat.le_of_ble_eq_true rfl) dX1_thread_46 (hU.room0 hZ) ?_
    refine gx_ast (i := lc 0 5) (n := 6) E hU.1.1 hS (lc_lt (by decide) (by decide)) (ck_lc (by decide)) dX1_thread_49 (fun S4 H locs hG_ hS hz_ => ?_)
    replace hU := hU.gw hG_ hz_.1
    refine x_aload_n hx hb dX1_thread_50 rfl (lv_at hl 0 rfl) ?_
    refine gX1_40 E hU.1.1 dX1_thread_51 ?_
    refine gX1_105 E hU.1.1 (by decide) dX1_thread_54 ?_
    refine x_iload_n hx hb dX1_thread_57 rfl (lv_at hl 1 rfl) ?_
    refine ux_ald (i := lc 0 5) (n := 6) E hU.1.1.1 (lc_lt (by decide) (by decide)) (ck_lc (by decide)) dX1_thread_58 ?_
    exact y_iret hx hb hr hlk hZ hU hS rfl rfl hU.1 dX1_thread_59
  · refine x_aload_n hx hb dX1_thread_15 rfl (lv_at hl 0 rfl) ?_
    refine x_iconst (v := 1) hx hb dX1_thread_16 (by decide) ?_
    refine kzX1_1_refuse E hZ hU hS ⟨Nat.le_of_ble_eq_true rfl, Nat.le_of_ble_eq_true rfl⟩ hl.1 (Nat.le_of_ble_eq_true rfl) dX1_thread_17 (fun o5 H locs hU hS => ?_)
    exact y_iret hx hb hr hlk hZ hU hS rfl rfl hU.1 dX1_thread_20

set_option maxHeartbeats 4000000 in
theorem mY1_bitsOf (l : Launch) (D : va_G) (ct : CT) (ad : Nat → Nat) (P : Nat → Nat → Option Nat) (S : US) (G0 : GS) (p1 : Int32) (o : ((Option Nat) × GS)) (ho : s1_bitsOf ct ad P S G0 p1 = some o) : Met l yX1_bitsOf (ws_ yX1_bitsOf cX1_bitsOf 5 (some (.array .int))) { frames := 2, cells := nmax ct - G0.2.1, slots := zmax ct - G0.2.2, locals := 61 } (mP D clW ct [.ref (ad (0)), .int p1] G0.2.1 (MW D clW ckH ct 26 ad P (fun _ => True) S 0 G0)) (yC (some (va_rf o.1)) (MW D clW ckH ct 26 ad P (mA 26 ad G0) S 0 o.2) G0 o.2 (mA 26 ad G0)) (nmax ct - G0.2.1) (zmax ct - G0.2.2) (mA 26 ad G0) := by
  refine Y.start (val := fun (o : ((Option Nat) × GS)) => some (va_rf o.1)) (Bt := fun (o : ((Option Nat) × GS)) => MW D clW ckH ct 26 ad P (mA 26 ad G0) S 0 o.2) (Go := fun (o : ((Option Nat) × GS)) => o.2) ho (by decide) (Nat.le_of_ble_eq_true rfl) (lv := [(0, .ref (ad (0))), (1, .int p1)]) rfl ?_
  intro p e s m args below meth c E hr hlk hnm hZ hU hS ls hl
  obtain ⟨⟨hx, hb, hml, hown, hts⟩, hK, hJ⟩ := id E
  replace hr : meth.sig.returnType = some (FieldType.array FieldType.int) ∧ ((∃ n, (FieldType.array FieldType.int) = .object n) ∨ ∃ t, (FieldType.array FieldType.int) = .array t) := ⟨hr, Or.inr ⟨_, rfl⟩⟩
  unfold s1_bitsOf
  refine x_iload_n hx hb dX1_bitsOf_0 rfl (lv_at hl 1 rfl) ?_
  refine kzX1_N_bitCount E hZ hU hS ⟨Nat.le_of_ble_eq_true rfl, Nat.le_of_ble_eq_true rfl⟩ hl.1 (Nat.le_of_ble_eq_true rfl) dX1_bitsOf_1 (fun o1 H locs hU hS => ?_)
  refine gy_newa (atype := .int) (t := 0) (ty := .int) (x := .inl (fun _ => 0)) E hZ hU hS (hts _ q189) rfl rfl (fun h => h) (fun _ => rfl) (by decide) dX1_bitsOf_4 (fun q2 G3 H hU hS => ?_)
  refine x_astore_n (lv' := [(2, .ref q2), (0, .ref (ad (0))), (1, .int p1)]) hx hb dX1_bitsOf_6 rfl hl (by decide) rfl (fun ls hl => ?_)
  refine x_iconst (v := 0) hx hb dX1_bitsOf_7 (by decide) ?_
  refine x_istore_n (lv' := [(3, .int (0 : Int32)), (2, .ref q2), (0, .ref (ad (0))), (1, .int p1)]) hx hb dX1_bitsOf_8 rfl hl (by decide) rfl (fun ls hl => ?_)
  refine x_iconst (v := 0) hx hb dX1_bitsOf_9 (by decide) ?_
  refine x_istore (lv' := [(4, .int (0 : Int32)), (3, .int (0 : Int32)), (2, .ref q2), (0, .ref (ad (0))), (1, .int p1)]) hx hb dX1_bitsOf_10 hl (by decide) rfl (fun ls hl => ?_)
  refine X.loopY (I := fun (x : (GS × Int32 × Int32)) g H locs => YW D clW ckH ct 26 ad P (mA 26 ad G0) S 0 G0 x.1 H ∧ va_S (mA 26 ad G0) s.heap H locs ∧ ∃ ls : Array Slot, g = F0 m 12 ls [] ∧ lv_has ls 5 [(0, .ref (ad (0))), (1, .int p1), (2, .ref q2), (3, .int x.2.1), (4, .int x.2.2)]) (cf := (fun (x : (GS × Int32 × Int32)) => x.1.2.1 - G0.2.1)) (sf := (fun (x : (GS × Int32 × Int32)) => x.1.2.2 - G0.2.2)) (fun rc7 ih7 => ?_) FUEL (G3, (0 : Int32), (0 : Int32)) _ _ _ ⟨hU, hS, _, rfl, lv_sub hl [3, 4, 2, 1, 0] rfl⟩
  rintro ⟨G4, v5, v6⟩ _ H locs ⟨hU, hS, ls, rfl, hl⟩
  have hU : YW D clW ckH ct 26 ad P (mA 26 ad G0) S 0 G0 G4 H := hU
  have hl : lv_has ls 5 [(0, .ref (ad (0))), (1, .int p1), (2, .ref q2), (3, .int v5), (4, .int v6)] := hl
  refine X.cs (cells2 := G4.2.1 - G0.2.1) (slots2 := G4.2.2 - G0.2.2) rfl rfl ?_
  refine X.eqs (sp2 := s1_bitsOf_L12 p1 S q2 rc7 G4 v5 v6) rfl ?_
  unfold s1_bitsOf_L12
  refine x_iload hx hb dX1_bitsOf_12 (lv_at hl 4 rfl) ?_
  refine x_aload_n hx hb dX1_bitsOf_14 rfl (lv_at hl 0 rfl) ?_
  refine gX1_31 E hU.1.1 dX1_bitsOf_15 ?_
  refine gX1_115 E hU.1.1 dX1_bitsOf_18 ?_
  refine x_icmp_ge (tgt := 47) hx hb dX1_bitsOf_21 (by decide) (fun hc => ?_) (fun hc => ?_)
  · refine x_aload_n hx hb dX1_bitsOf_47 rfl (lv_at hl 2 rfl) ?_
    exact y_aret (r := (some q2)) hx hb hr hlk hZ hU hS rfl rfl hU.1 dX1_bitsOf_48
  · refine x_iload_n hx hb dX1_bitsOf_24 rfl (lv_at hl 1 rfl) ?_
    refine x_iload hx hb dX1_bitsOf_25 (lv_at hl 4 rfl) ?_
    refine kzX1_1_isOf E hZ hU hS ⟨Nat.le_of_ble_eq_true rfl, Nat.le_of_ble_eq_true rfl⟩ hl.1 (Nat.le_of_ble_eq_true rfl) dX1_bitsOf_27 (fun o8 H locs hU hS => ?_)
    refine x_if_eq (tgt := 41) hx hb dX1_bitsOf_30 (by decide) (fun hc => ?_) (fun hc => ?_)
    · refine x_iinc (v := (v6 + (1 : Int32))) (lv' := [(4, .int (v6 + (1 : Int32))), (0, .ref (ad (0))), (1, .int p1), (2, .ref q2), (3, .int v5)]) (k := 4) hx hb dX1_bitsOf_41 hl rfl rfl (by decide) rfl (fun ls hl => ?_)
      refine x_goto (tgt := 12) hx hb dX1_bitsOf_44 (by decide) ?_
      exact ih7 (G4, v5, (v6 + (1 : Int32))) _ _ _ ⟨hU, hS, _, rfl, lv_sub hl [1, 2, 3, 4, 0] rfl⟩
    · refine x_aload_n hx hb dX1_bitsOf_33 rfl (lv_at hl 2 rfl) ?_
      refine x_iload_n hx hb dX1_bitsOf_34 rfl (lv_at hl 3 rfl) ?_
      refine x_iinc (v := (v5 + (1 : Int32))) (lv' := [(3, .int (v5 + (1 : Int32))), (0, .ref (ad (0))), (1, .int p1), (2, .ref q2), (4, .int v6)]) (k := 3) hx hb dX1_bitsOf_35 hl rfl rfl (by decide) rfl (fun ls hl => ?_)
      refine x_iload hx hb dX1_bitsOf_38 (lv_at hl 4 rfl) ?_
      refine gy_iast E hU hS dX1_bitsOf_40 (fun G9 H locs hU hS => ?_)
      refine x_iinc (v := (v6 + (1 : Int32))) (lv' := [(4, .int (v6 + (1 : Int32))), (3, .int (v5 + (1 : Int32))), (0, .ref (ad (0))), (1, .int p1), (2, .ref q2)]) (k := 4) hx hb dX1_bitsOf_41 hl rfl rfl (by decide) rfl (fun ls hl => ?_)
      refine x_goto (tgt := 12) hx hb dX1_bitsOf_44 (by decide) ?_
      exact ih7 (G9, (v5 + (1 : Int32)), (v6 + (1 : Int32))) _ _ _ ⟨hU, hS, _, rfl, lv_sub hl [2, 3, 4, 1, 0] rfl⟩
section KZ
variable {ρ : Type} {p : Program} {l : Launch} {e : Env} {R : Room} {s : State} {m : MethodId} {args : Array Value} {below : List Frame} {meth : Method} {c : Code} {H : Heap} {locs : List Loc} {Qf : ρ → State → Prop}
variable {cc : ByteArray} {pc nL L M q0 : Nat} {ls : Array Slot} {rest : List Value}
variable {D : va_G} {ct : CT} {ck : Nat → UC} {N : Nat} {ad : Nat → Nat} {P : Nat → Nat → Option Nat} {A : Nat → Prop} {S : US} {w : Int64} {G0 G : GS}
theorem kzX1_1_bitsOf {p1 : Int32} (E : ME p m c cc nL s args RX1 D clW ct) (hZ : YC ct R s A G0) (hY : YW D clW ckH ct 26 ad P A S 0 G0 G H) (hS : va_S A s.heap H locs) (hR : 2 + 1 ≤ R.frames ∧ 8 + (5 + 11) + 61 ≤ R.locals) (hsize : ls.size = nL) (hW : (rest.map fun v => v.category).sum ≤ 8) (hdg : decode cc pc = .ok (.invokevirtual 269, 3)) {kp : ((Option Nat) × GS) → Option ρ} (kk : ∀ (o : ((Option Nat) × GS)) (H1 : Heap) (locs1 : List Loc), YW D clW ckH ct 26 ad P A S 0 G0 o.2 H1 → va_S A s.heap H1 locs1 → X p l e R s m args below meth c H1 locs1 (o.2.2.1 - G0.2.1) (o.2.2.2 - G0.2.2) Qf (kp o) (F0 m (pc + 3) ls (va_rf o.1 :: rest))) : X p l e R s m args below meth c H locs (G.2.1 - G0.2.1) (G.2.2 - G0.2.2) Qf (callK (s1_bitsOf ct ad P S G p1) kp) (F0 m pc ls (.int p1 :: .ref (ad (0)) :: rest)) := gy_mx (val' := fun (o : ((Option Nat) × GS)) => some (va_rf o.1)) (len := 3) (So := fun (o : ((Option Nat) × GS)) => S) (Po := fun (o : ((Option Nat) × GS)) => P) (Gn := fun (o : ((Option Nat) × GS)) => o.2) hZ hY hS (fun o ho => rqV (As := [.int p1]) E hY.1.any (recvU (i := 0) E.2.1 hY.1.1.1 (by decide) rfl rfl) (by rw [hY.1.2.1]; exact mY1_bitsOf l D ct ad P S G p1 o ho) (cwV 1 E.1.2.2.2.2 (lw_V q1550 q1552 qs38 q113 q1553) rfl rfl rfl (by decide +kernel) hR) rfl hsize rfl hW hdg (hY.room hZ)) kk
end KZ

set_option maxHeartbeats 4000000 in
theorem mY1_see (l : Launch) (D : va_G) (ct : CT) (ad : Nat → Nat) (P : Nat → Nat → Option Nat) (S : US) (G0 : GS) (p1 : Int32) (p2 : Int32) (p3 : Int32) (o : (Int32 × US × GS)) (ho : s1_see ct ad P S G0 p1 p2 p3 = some o) : Met l yX1_see (ws_ yX1_see cX1_see 4 (some .int)) { frames := 7, cells := nmax ct - G0.2.1, slots := zmax ct - G0.2.2, locals := 191 } (mP D clW ct [.ref (ad (0)), .int p1, .int p2, .int p3] G0.2.1 (MW D clW ckH ct 26 ad P (fun _ => True) S 0 G0)) (yC (some (.int o.1)) (MW D clW ckH ct 26 ad P (mA 26 ad G0) o.2.1 0 o.2.2) G0 o.2.2 (mA 26 ad G0)) (nmax ct - G0.2.1) (zmax ct - G0.2.2) (mA 26 ad G0) := by
  refine Y.start (val := fun (o : (Int32 × US × GS)) => some (.int o.1)) (Bt := fun (o : (Int32 × US × GS)) => MW D clW ckH ct 26 ad P (mA 26 ad G0) o.2.1 0 o.2.2) (Go := fun (o : (Int32 × US × GS)) => o.2.2) ho (by decide) (Nat.le_of_ble_eq_true rfl) (lv := [(0, .ref (ad (0))), (1, .int p1), (2, .int p2), (3, .int p3)]) rfl ?_
  intro p e s m args below meth c E hr hlk hnm hZ hU hS ls hl
  obtain ⟨⟨hx, hb, hml, hown, hts⟩, hK, hJ⟩ := id E
  unfold s1_see
  refine x_aload_n hx hb dX1_see_0 rfl (lv_at hl 0 rfl) ?_
  refine x_iload_n hx hb dX1_see_1 rfl (lv_at hl 1 rfl) ?_
  refine kzX1_1_aStretch E hZ hU hS ⟨Nat.le_of_ble_eq_true rfl, Nat.le_of_ble_eq_true rfl⟩ hl.1 (Nat.le_of_ble_eq_true rfl) dX1_see_2 (fun o1 H locs hU hS => ?_)
  refine x_aload_n hx hb dX1_see_5 rfl (lv_at hl 0 rfl) ?_
  refine gX1_68 E hU.1.1 dX1_see_6 (fun r2 => ?_)
  refine X.onR (fun b3 hb_ => ?_)
  subst hb_
  refine kzX1_L_size E hZ hU hS ⟨Nat.le_of_ble_eq_true rfl, Nat.le_of_ble_eq_true rfl⟩ hl.1 (Nat.le_of_ble_eq_true rfl) dX1_see_9 (fun o4 H locs hU hS => ?_)
  refine x_bipush (v := 8) hx hb dX1_see_14 (by decide) ?_
  refine x_icmp_eq (tgt := 39) hx hb dX1_see_16 (by decide) (fun hc => ?_) (fun hc => ?_)
  · refine x_aload_n hx hb dX1_see_39 rfl (lv_at hl 0 rfl) ?_
    refine x_iconst (v := 2) hx hb dX1_see_40 (by decide) ?_
    refine kzX1_1_refuse E hZ hU hS ⟨Nat.le_of_ble_eq_true rfl, Nat.le_of_ble_eq_true rfl⟩ hl.1 (Nat.le_of_ble_eq_true rfl) dX1_see_41 (fun o5 H locs hU hS => ?_)
    exact y_iret hx hb hr hlk hZ hU hS rfl rfl hU.1 dX1_see_44
  · refine x_iload_n hx hb dX1_see_19 rfl (lv_at hl 2 rfl) ?_
    refine x_iconst (v := 0) hx hb dX1_see_20 (by decide) ?_
    refine x_bipush (v := 20) hx hb dX1_see_21 (by decide) ?_
    refine kzX1_1_in E hZ hU hS ⟨Nat.le_of_ble_eq_true rfl, Nat.le_of_ble_eq_true rfl⟩ hl.1 (Nat.le_of_ble_eq_true rfl) dX1_see_23 (fun o6 H locs hU hS => ?_)
    refine x_if_eq (tgt := 39) hx hb dX1_see_26 (by decide) (fun hc => ?_) (fun hc => ?_)
    · refine x_aload_n hx hb dX1_see_39 rfl (lv_at hl 0 rfl) ?_
      refine x_iconst (v := 2) hx hb dX1_see_40 (by decide) ?_
      refine kzX1_1_refuse E hZ hU hS ⟨Nat.le_of_ble_eq_true rfl, Nat.le_of_ble_eq_true rfl⟩ hl.1 (Nat.le_of_ble_eq_true rfl) dX1_see_41 (fun o7 H locs hU hS => ?_)
      exact y_iret hx hb hr hlk hZ hU hS rfl rfl hU.1 dX1_see_44
    · refine x_iload_n hx hb dX1_see_29 rfl (lv_at hl 3 rfl) ?_
      refine x_iconst (v := 0) hx hb dX1_see_30 (by decide) ?_
      refine x_bipush (v := 99) hx hb dX1_see_31 (by decide) ?_
      refine kzX1_1_in E hZ hU hS ⟨Nat.le_of_ble_eq_true rfl, Nat.le_of_ble_eq_true rfl⟩ hl.1 (Nat.le_of_ble_eq_true rfl) dX1_see_33 (fun o8 H locs hU hS => ?_)
      refine x_if_ne (tgt := 45) hx hb dX1_see_36 (by decide) (fun hc => ?_) (fun hc => ?_)
      · refine x_aload_n hx hb dX1_see_45 rfl (lv_at hl 0 rfl) ?_
        refine gX1_68 E hU.1.1 dX1_see_46 (fun r9 => ?_)
        refine x_iconst (v := 3) hx hb dX1_see_49 (by decide) ?_
        refine gy_newa (atype := .int) (t := 0) (ty := .int) (x := .inl (fun _ => 0)) E hZ hU hS (hts _ q189) rfl rfl (fun h => h) (fun _ => rfl) (by decide) dX1_see_50 (fun q10 G11 H hU hS => ?_)
        refine x_dup hx hb dX1_see_52 rfl ?_
        refine x_iconst (v := 0) hx hb dX1_see_53 (by decide) ?_
        refine x_iload_n hx hb dX1_see_54 rfl (lv_at hl 1 rfl) ?_
        refine gy_iast E hU hS dX1_see_55 (fun G12 H locs hU hS => ?_)
        refine x_dup hx hb dX1_see_56 rfl ?_
        refine x_iconst (v := 1) hx hb dX1_see_57 (by decide) ?_
        refine x_iload_n hx hb dX1_see_58 rfl (lv_at hl 2 rfl) ?_
        refine gy_iast E hU hS dX1_see_59 (fun G13 H locs hU hS => ?_)
        refine x_dup hx hb dX1_see_60 rfl ?_
        refine x_iconst (v := 2) hx hb dX1_see_61 (by decide) ?_
        refine x_iload_n hx hb dX1_see_62 rfl (lv_at hl 3 rfl) ?_
        refine gy_iast E hU hS dX1_see_63 (fun G14 H locs hU hS => ?_)
        refine X.onR (fun b15 hb_ => ?_)
        subst hb_
        refine kzX1_L_add E hZ hU hS ⟨Nat.le_of_ble_eq_true rfl, Nat.le_of_ble_eq_true rfl⟩ hl.1 (Nat.le_of_ble_eq_true rfl) dX1_see_64 (fun o16 H locs hU hS => ?_)
        refine x_pop hx hb dX1_see_69 rfl ?_
        refine x_aload_n hx hb dX1_see_70 rfl (lv_at hl 0 rfl) ?_
        refine gX1_68 E hU.1.1 dX1_see_71 (fun r17 => ?_)
        refine X.onR (fun b18 hb_ => ?_)
        subst hb_
        refine kzX1_L_size E hZ hU hS ⟨Nat.le_of_ble_eq_true rfl, Nat.le_of_ble_eq_true rfl⟩ hl.1 (Nat.le_of_ble_eq_true rfl) dX1_see_74 (fun o19 H locs hU hS => ?_)
        exact y_iret hx hb hr hlk hZ hU hS rfl rfl hU.1 dX1_see_79
      · refine x_aload_n hx hb dX1_see_39 rfl (lv_at hl 0 rfl) ?_
        refine x_iconst (v := 2) hx hb dX1_see_40 (by decide) ?_
        refine kzX1_1_refuse E hZ hU hS ⟨Nat.le_of_ble_eq_true rfl, Nat.le_of_ble_eq_true rfl⟩ hl.1 (Nat.le_of_ble_eq_true rfl) dX1_see_41 (fun o20 H locs hU hS => ?_)
        exact y_iret hx hb hr hlk hZ hU hS rfl rfl hU.1 dX1_see_44

set_option maxHeartbeats 4000000 in
theorem mY1_others (l : Launch) (D : va_G) (ct : CT) (ad : Nat → Nat) (P : Nat → Nat → Option Nat) (S : US) (G0 : GS) (o : ((Option Nat) × US × GS)) (ho : s1_others ct ad P S G0 = some o) : Met l yX1_others (ws_ yX1_others cX1_others 4 (some (.object "java/util/List"))) { frames := 504, cells := nmax ct - G0.2.1, slots := zmax ct - G0.2.2, locals := 20089 } (mP D clW ct [.ref (ad (0))] G0.2.1 (MW D clW ckH ct 26 ad P (fun _ => True) S 0 G0)) (yC (some (va_rf o.1)) (MW D clW ckH ct 26 ad P (mA 26 ad G0) o.2.1 0 o.2.2) G0 o.2.2 (mA 26 ad G0)) (nmax ct - G0.2.1) (zmax ct - G0.2.2) (mA 26 ad G0) := by
  refine Y.start (val := fun (o : ((Option Nat) × US × GS)) => some (va_rf o.1)) (Bt := fun (o : ((Option Nat) × US × GS)) => MW D clW ckH ct 26 ad P (mA 26 ad G0) o.2.1 0 o.2.2) (Go := fun (o : ((Option Nat) × US × GS)) => o.2.2) ho (by decide) (Nat.le_of_ble_eq_true rfl) (lv := [(0, .ref (ad (0)))]) rfl ?_
  intro p e s m args below meth c E hr hlk hnm hZ hU hS ls hl
  obtain ⟨⟨hx, hb, hml, hown, hts⟩, hK, hJ⟩ := id E
  replace hr : meth.sig.returnType = some (FieldType.object "java/util/List") ∧ ((∃ n, (FieldType.object "java/util/List") = .object n) ∨ ∃ t, (FieldType.object "java/util/List") = .array t) := ⟨hr, Or.inl ⟨_, rfl⟩⟩
  unfold s1_others
  refine gy_new (ty := tyJ2) E hZ hU hS in_J2 tyJ2_ok (hts _ q264) (hts _ q164) (hts _ q117) (ci := 10) rfl (by decide) dX1_others_0 (fun q1 G2 H hU hS => ?_)
  refine x_dup hx hb dX1_others_3 rfl ?_
  refine kzX1_L_init E hZ hU hS ⟨Nat.le_of_ble_eq_true rfl, Nat.le_of_ble_eq_true rfl⟩ hl.1 (Nat.le_of_ble_eq_true rfl) dX1_others_4 (fun o3 H locs hU hS => ?_)
  refine x_astore_n (lv' := [(1, .ref q1), (0, .ref (ad (0)))]) hx hb dX1_others_7 rfl hl (by decide) rfl (fun ls hl => ?_)
  refine x_iconst (v := 0) hx hb dX1_others_8 (by decide) ?_
  refine x_istore_n (lv' := [(2, .int (0 : Int32)), (1, .ref q1), (0, .ref (ad (0)))]) hx hb dX1_others_9 rfl hl (by decide) rfl (fun ls hl => ?_)
  refine X.loopY (I := fun (x : (US × GS × Int32)) g H locs => YW D clW ckH ct 26 ad P (mA 26 ad G0) x.1 0 G0 x.2.1 H ∧ va_S (mA 26 ad G0) s.heap H locs ∧ ∃ ls : Array Slot, g = F0 m 10 ls [] ∧ lv_has ls 4 [(0, .ref (ad (0))), (1, .ref q1), (2, .int x.2.2)]) (cf := (fun (x : (US × GS × Int32)) => x.2.1.2.1 - G0.2.1)) (sf := (fun (x : (US × GS × Int32)) => x.2.1.2.2 - G0.2.2)) (fun rc7 ih7 => ?_) FUEL (S, o3, (0 : Int32)) _ _ _ ⟨hU, hS, _, rfl, lv_sub hl [2, 1, 0] rfl⟩
  rintro ⟨S4, G5, v6⟩ _ H locs ⟨hU, hS, ls, rfl, hl⟩
  have hU : YW D clW ckH ct 26 ad P (mA 26 ad G0) S4 0 G0 G5 H := hU
  have hl : lv_has ls 4 [(0, .ref (ad (0))), (1, .ref q1), (2, .int v6)] := hl
  refine X.cs (cells2 := G5.2.1 - G0.2.1) (slots2 := G5.2.2 - G0.2.2) rfl rfl ?_
  refine X.eqs (sp2 := s1_others_L10 P ct q1 rc7 S4 G5 v6) rfl ?_
  unfold s1_others_L10
  refine x_iload_n hx hb dX1_others_10 rfl (lv_at hl 2 rfl) ?_
  refine x_aload_n hx hb dX1_others_11 rfl (lv_at hl 0 rfl) ?_
  refine gX1_31 E hU.1.1 dX1_others_12 ?_
  refine gX1_115 E hU.1.1 dX1_others_15 ?_
  refine x_icmp_ge (tgt := 91) hx hb dX1_others_18 (by decide) (fun hc => ?_) (fun hc => ?_)
  · refine x_aload_n hx hb dX1_others_91 rfl (lv_at hl 1 rfl) ?_
    exact y_aret (r := (some q1)) hx hb hr hlk hZ hU hS rfl rfl hU.1 dX1_others_92
  · refine x_iconst (v := 1) hx hb dX1_others_21 (by decide) ?_
    refine x_istore_n (lv' := [(3, .int (1 : Int32)), (0, .ref (ad (0))), (1, .ref q1), (2, .int v6)]) hx hb dX1_others_22 rfl hl (by decide) rfl (fun ls hl => ?_)
    refine X.loopY (I := fun (x : (US × GS × Int32)) g H locs => YW D clW ckH ct 26 ad P (mA 26 ad G0) x.1 0 G0 x.2.1 H ∧ va_S (mA 26 ad G0) s.heap H locs ∧ ∃ ls : Array Slot, g = F0 m 23 ls [] ∧ lv_has ls 4 [(0, .ref (ad (0))), (1, .ref q1), (2, .int v6), (3, .int x.2.2)]) (cf := (fun (x : (US × GS × Int32)) => x.2.1.2.1 - G0.2.1)) (sf := (fun (x : (US × GS × Int32)) => x.2.1.2.2 - G0.2.2)) (fun rc11 ih11 => ?_) FUEL (S4, G5, (1 : Int32)) _ _ _ ⟨hU, hS, _, rfl, lv_sub hl [1, 2, 3, 0] rfl⟩
    rintro ⟨S8, G9, v10⟩ _ H locs ⟨hU, hS, ls, rfl, hl⟩
    have hU : YW D clW ckH ct 26 ad P (mA 26 ad G0) S8 0 G0 G9 H := hU
    have hl : lv_has ls 4 [(0, .ref (ad (0))), (1, .ref q1), (2, .int v6), (3, .int v10)] := hl
    refine X.cs (cells2 := G9.2.1 - G0.2.1) (slots2 := G9.2.2 - G0.2.2) rfl rfl ?_
    refine X.eqs (sp2 := s1_others_L23 P ct q1 v6 rc7 rc11 S8 G9 v10) rfl ?_
    unfold s1_others_L23
    refine x_iload_n hx hb dX1_others_23 rfl (lv_at hl 3 rfl) ?_
    refine x_bipush (v := 50) hx hb dX1_others_24 (by decide) ?_
    refine x_icmp_gt (tgt := 85) hx hb dX1_others_26 (by decide) (fun hc => ?_) (fun hc => ?_)
    · refine x_iinc (v := (v6 + (1 : Int32))) (lv' := [(2, .int (v6 + (1 : Int32))), (0, .ref (ad (0))), (1, .ref q1), (3, .int v10)]) (k := 2) hx hb dX1_others_85 hl rfl rfl (by decide) rfl (fun ls hl => ?_)
      refine x_goto (tgt := 10) hx hb dX1_others_88 (by decide) ?_
      exact ih7 (S8, G9, (v6 + (1 : Int32))) _ _ _ ⟨hU, hS, _, rfl, lv_sub hl [1, 2, 0] rfl⟩
    · refine x_aload_n hx hb dX1_others_29 rfl (lv_at hl 0 rfl) ?_
      refine gX1_40 E hU.1.1 dX1_others_30 ?_
      refine x_iload_n hx hb dX1_others_33 rfl (lv_at hl 2 rfl) ?_
      refine kzX1_3_isOpen E hZ hU hS (by decide) ⟨Nat.le_of_ble_eq_true rfl, Nat.le_of_ble_eq_true rfl⟩ hl.1 (Nat.le_of_ble_eq_true rfl) dX1_others_34 (fun o12 H locs hU hS => ?_)
      refine x_if_ne (tgt := 85) hx hb dX1_others_37 (by decide) (fun hc => ?_) (fun hc => ?_)
      · refine x_iinc (v := (v6 + (1 : Int32))) (lv' := [(2, .int (v6 + (1 : Int32))), (0, .ref (ad (0))), (1, .ref q1), (3, .int v10)]) (k := 2) hx hb dX1_others_85 hl rfl rfl (by decide) rfl (fun ls hl => ?_)
        refine x_goto (tgt := 10) hx hb dX1_others_88 (by decide) ?_
        exact ih7 (S8, G9, (v6 + (1 : Int32))) _ _ _ ⟨hU, hS, _, rfl, lv_sub hl [1, 2, 0] rfl⟩
      · refine x_aload_n hx hb dX1_others_40 rfl (lv_at hl 0 rfl) ?_
        refine gX1_44 E hU.1.1 dX1_others_41 ?_
        refine x_aload_n hx hb dX1_others_44 rfl (lv_at hl 0 rfl) ?_
        refine gX1_40 E hU.1.1 dX1_others_45 ?_
        refine kzX1_3_be E hZ hU hS (by decide) (by decide) ⟨Nat.le_of_ble_eq_true rfl, Nat.le_of_ble_eq_true rfl⟩ hl.1 (Nat.le_of_ble_eq_true rfl) dX1_others_48 (fun o13 H locs hU hS => ?_)
        refine x_iload_n hx hb dX1_others_51 rfl (lv_at hl 2 rfl) ?_
        refine x_iload_n hx hb dX1_others_52 rfl (lv_at hl 3 rfl) ?_
        refine kzX1_3_loosen E hZ hU hS (by decide) ⟨Nat.le_of_ble_eq_true rfl, Nat.le_of_ble_eq_true rfl⟩ hl.1 (Nat.le_of_ble_eq_true rfl) dX1_others_53 (fun o14 H locs hU hS => ?_)
        refine x_aload_n hx hb dX1_others_56 rfl (lv_at hl 0 rfl) ?_
        refine kzX1_1_isSo E hZ hU hS ⟨Nat.le_of_ble_eq_true rfl, Nat.le_of_ble_eq_true rfl⟩ hl.1 (Nat.le_of_ble_eq_true rfl) dX1_others_57 (fun o15 H locs hU hS => ?_)
        refine x_if_eq (tgt := 79) hx hb dX1_others_60 (by decide) (fun hc => ?_) (fun hc => ?_)
        · refine x_iinc (v := (v10 + (1 : Int32))) (lv' := [(3, .int (v10 + (1 : Int32))), (0, .ref (ad (0))), (1, .ref q1), (2, .int v6)]) (k := 3) hx hb dX1_others_79 hl rfl rfl (by decide) rfl (fun ls hl => ?_)
          refine x_goto (tgt := 23) hx hb dX1_others_82 (by decide) ?_
          exact ih11 (o15.2, G9, (v10 + (1 : Int32))) _ _ _ ⟨hU, hS, _, rfl, lv_sub hl [1, 2, 3, 0] rfl⟩
        · refine x_aload_n hx hb dX1_others_63 rfl (lv_at hl 1 rfl) ?_
          refine x_bipush (v := 100) hx hb dX1_others_64 (by decide) ?_
          refine x_iload_n hx hb dX1_others_66 rfl (lv_at hl 2 rfl) ?_
          refine x_imul hx hb dX1_others_67 ?_
          refine x_iload_n hx hb dX1_others_68 rfl (lv_at hl 3 rfl) ?_
          refine x_iadd hx hb dX1_others_69 ?_
          refine kzX1_N_valueOf E hZ hU hS ⟨Nat.le_of_ble_eq_true rfl, Nat.le_of_ble_eq_true rfl⟩ hl.1 (Nat.le_of_ble_eq_true rfl) dX1_others_70 (fun o16 H locs hU hS => ?_)
          refine kzX1_L_add E hZ hU hS ⟨Nat.le_of_ble_eq_true rfl, Nat.le_of_ble_eq_true rfl⟩ hl.1 (Nat.le_of_ble_eq_true rfl) dX1_others_73 (fun o17 H locs hU hS => ?_)
          refine x_pop hx hb dX1_others_78 rfl ?_
          refine x_iinc (v := (v10 + (1 : Int32))) (lv' := [(3, .int (v10 + (1 : Int32))), (0, .ref (ad (0))), (1, .ref q1), (2, .int v6)]) (k := 3) hx hb dX1_others_79 hl rfl rfl (by decide) rfl (fun ls hl => ?_)
          refine x_goto (tgt := 23) hx hb dX1_others_82 (by decide) ?_
          exact ih11 (o15.2, o17.2, (v10 + (1 : Int32))) _ _ _ ⟨hU, hS, _, rfl, lv_sub hl [1, 2, 3, 0] rfl⟩
section KZ
variable {ρ : Type} {p : Program} {l : Launch} {e : Env} {R : Room} {s : State} {m : MethodId} {args : Array Value} {below : List Frame} {meth : Method} {c : Code} {H : Heap} {locs : List Loc} {Qf : ρ → State → Prop}
variable {cc : ByteArray} {pc nL L M q0 : Nat} {ls : Array Slot} {rest : List Value}
variable {D : va_G} {ct : CT} {ck : Nat → UC} {N : Nat} {ad : Nat → Nat} {P : Nat → Nat → Option Nat} {A : Nat → Prop} {S : US} {w : Int64} {G0 G : GS}
theorem kzX1_1_others (E : ME p m c cc nL s args RX1 D clW ct) (hZ : YC ct R s A G0) (hY : YW D clW ckH ct 26 ad P A S 0 G0 G H) (hS : va_S A s.heap H locs) (hR : 504 + 1 ≤ R.frames ∧ 8 + (4 + 11) + 20089 ≤ R.locals) (hsize : ls.size = nL) (hW : (rest.map fun v => v.category).sum ≤ 8) (hdg : decode cc pc = .ok (.invokevirtual 308, 3)) {kp : ((Option Nat) × US × GS) → Option ρ} (kk : ∀ (o : ((Option Nat) × US × GS)) (H1 : Heap) (locs1 : List Loc), YW D clW ckH ct 26 ad P A o.2.1 0 G0 o.2.2 H1 → va_S A s.heap H1 locs1 → X p l e R s m args below meth c H1 locs1 (o.2.2.2.1 - G0.2.1) (o.2.2.2.2 - G0.2.2) Qf (kp o) (F0 m (pc + 3) ls (va_rf o.1 :: rest))) : X p l e R s m args below meth c H locs (G.2.1 - G0.2.1) (G.2.2 - G0.2.2) Qf (callK (s1_others ct ad P S G) kp) (F0 m pc ls (.ref (ad (0)) :: rest)) := gy_mx (val' := fun (o : ((Option Nat) × US × GS)) => some (va_rf o.1)) (len := 3) (So := fun (o : ((Option Nat) × US × GS)) => o.2.1) (Po := fun (o : ((Option Nat) × US × GS)) => P) (Gn := fun (o : ((Option Nat) × US × GS)) => o.2.2) hZ hY hS (fun o ho => rqV (As := []) E hY.1.any (recvU (i := 0) E.2.1 hY.1.1.1 (by decide) rfl rfl) (by rw [hY.1.2.1]; exact mY1_others l D ct ad P S G o ho) (cwV 0 E.1.2.2.2.2 (lw_V q1743 q1745 qs44 q113 q1746) rfl rfl rfl (by decide +kernel) hR) rfl hsize rfl hW hdg (hY.room hZ)) kk
end KZ

set_option maxHeartbeats 4000000 in
theorem mY1_torn (l : Launch) (D : va_G) (ct : CT) (ad : Nat → Nat) (P : Nat → Nat → Option Nat) (S : US) (G0 : GS) (p1 : Int32) (o : (Int32 × US × GS)) (ho : s1_torn ct ad P S G0 p1 = some o) : Met l yX1_torn (ws_ yX1_torn cX1_torn 3 (some .int)) { frames := 505, cells := nmax ct - G0.2.1, slots := zmax ct - G0.2.2, locals := 20112 } (mP D clW ct [.ref (ad (0)), .int p1] G0.2.1 (MW D clW ckH ct 26 ad P (fun _ => True) S 0 G0)) (yC (some (.int o.1)) (MW D clW ckH ct 26 ad P (mA 26 ad G0) o.2.1 0 o.2.2) G0 o.2.2 (mA 26 ad G0)) (nmax ct - G0.2.1) (zmax ct - G0.2.2) (mA 26 ad G0) := by
  refine Y.start (val := fun (o : (Int32 × US × GS)) => some (.int o.1)) (Bt := fun (o : (Int32 × US × GS)) => MW D clW ckH ct 26 ad P (mA 26 ad G0) o.2.1 0 o.2.2) (Go := fun (o : (Int32 × US × GS)) => o.2.2) ho (by decide) (Nat.le_of_ble_eq_true rfl) (lv := [(0, .ref (ad (0))), (1, .int p1)]) rfl ?_
  intro p e s m args below meth c E hr hlk hnm hZ hU hS ls hl
  obtain ⟨⟨hx, hb, hml, hown, hts⟩, hK, hJ⟩ := id E
  unfold s1_torn
  refine x_iload_n hx hb dX1_torn_0 rfl (lv_at hl 1 rfl) ?_
  refine x_iconst (v := 2) hx hb dX1_torn_1 (by decide) ?_
  refine kzX1_1_oneOf E hZ hU hS ⟨Nat.le_of_ble_eq_true rfl, Nat.le_of_ble_eq_true rfl⟩ hl.1 (Nat.le_of_ble_eq_true rfl) dX1_torn_2 (fun o1 H locs hU hS => ?_)
  refine x_iload_n hx hb dX1_torn_5 rfl (lv_at hl 1 rfl) ?_
  refine x_iconst (v := 2) hx hb dX1_torn_6 (by decide) ?_
  refine x_icmp_ne (tgt := 35) hx hb dX1_torn_7 (by decide) (fun hc => ?_) (fun hc => ?_)
  · refine x_aload_n hx hb dX1_torn_35 rfl (lv_at hl 0 rfl) ?_
    refine kzX1_1_others E hZ hU hS ⟨Nat.le_of_ble_eq_true rfl, Nat.le_of_ble_eq_true rfl⟩ hl.1 (Nat.le_of_ble_eq_true rfl) dX1_torn_36 (fun o2 H locs hU hS => ?_)
    refine X.onR (fun b3 hb_ => ?_)
    rw [hb_]
    try rw [hb_] at hl
    refine x_astore_n (lv' := [(2, .ref b3), (0, .ref (ad (0))), (1, .int p1)]) hx hb dX1_torn_39 rfl hl (by decide) rfl (fun ls hl => ?_)
    refine x_iload_n hx hb dX1_torn_40 rfl (lv_at hl 2 rfl) ?_
    refine x_if_ne (tgt := 53) hx hb dX1_torn_41 (by decide) (fun hc => ?_) (fun hc => ?_)
    · refine x_aload_n hx hb dX1_torn_53 rfl (lv_at hl 0 rfl) ?_
      refine kzX1_L_isEmpty E hZ hU hS ⟨Nat.le_of_ble_eq_true rfl, Nat.le_of_ble_eq_true rfl⟩ hl.1 (Nat.le_of_ble_eq_true rfl) dX1_torn_54 (fun o4 H locs hU hS => ?_)
      refine x_if_eq (tgt := 66) hx hb dX1_torn_59 (by decide) (fun hc => ?_) (fun hc => ?_)
      · refine x_aload_n hx hb dX1_torn_66 rfl (lv_at hl 0 rfl) ?_
        refine x_iconst (v := 0) hx hb dX1_torn_67 (by decide) ?_
        refine kzX1_L_get E hZ hU hS ⟨Nat.le_of_ble_eq_true rfl, Nat.le_of_ble_eq_true rfl⟩ hl.1 (Nat.le_of_ble_eq_true rfl) dX1_torn_68 (fun o5 H locs hU hS => ?_)
        refine X.onR (fun b6 hb_ => ?_)
        subst hb_
        refine fx_cast E hU.1.1.2.1 (ci := 12) rfl (hts _ q1432) dX1_torn_73 ?_
        refine kzX1_N_intValue E hZ hU hS ⟨Nat.le_of_ble_eq_true rfl, Nat.le_of_ble_eq_true rfl⟩ hl.1 (Nat.le_of_ble_eq_true rfl) dX1_torn_76 (fun o7 H locs hU hS => ?_)
        exact y_iret hx hb hr hlk hZ hU hS rfl rfl hU.1 dX1_torn_79
      · refine x_iconst (v := -1) hx hb dX1_torn_62 (by decide) ?_
        refine x_goto (tgt := 79) hx hb dX1_torn_63 (by decide) ?_
        exact y_iret hx hb hr hlk hZ hU hS rfl rfl hU.1 dX1_torn_79
    · refine x_aload_n hx hb dX1_torn_44 rfl (lv_at hl 0 rfl) ?_
      refine kzX1_L_size E hZ hU hS ⟨Nat.le_of_ble_eq_true rfl, Nat.le_of_ble_eq_true rfl⟩ hl.1 (Nat.le_of_ble_eq_true rfl) dX1_torn_45 (fun o8 H locs hU hS => ?_)
      refine x_goto (tgt := 79) hx hb dX1_torn_50 (by decide) ?_
      exact y_iret hx hb hr hlk hZ hU hS rfl rfl hU.1 dX1_torn_79
  · refine x_aload_n hx hb dX1_torn_10 rfl (lv_at hl 0 rfl) ?_
    refine gX1_44 E hU.1.1 dX1_torn_11 ?_
    refine x_aload_n hx hb dX1_torn_14 rfl (lv_at hl 0 rfl) ?_
    refine gX1_40 E hU.1.1 dX1_torn_15 ?_
    refine kzX1_3_be E hZ hU hS (by decide) (by decide) ⟨Nat.le_of_ble_eq_true rfl, Nat.le_of_ble_eq_true rfl⟩ hl.1 (Nat.le_of_ble_eq_true rfl) dX1_torn_18 (fun o9 H locs hU hS => ?_)
    refine x_pop hx hb dX1_torn_21 rfl ?_
    refine x_aload_n hx hb dX1_torn_22 rfl (lv_at hl 0 rfl) ?_
    refine kzX1_1_isSo E hZ hU hS ⟨Nat.le_of_ble_eq_true rfl, Nat.le_of_ble_eq_true rfl⟩ hl.1 (Nat.le_of_ble_eq_true rfl) dX1_torn_23 (fun o10 H locs hU hS => ?_)
    refine x_if_eq (tgt := 33) hx hb dX1_torn_26 (by decide) (fun hc => ?_) (fun hc => ?_)
    · refine x_iconst (v := 0) hx hb dX1_torn_33 (by decide) ?_
      exact y_iret hx hb hr hlk hZ hU hS rfl rfl hU.1 dX1_torn_34
    · refine x_iconst (v := 1) hx hb dX1_torn_29 (by decide) ?_
      refine x_goto (tgt := 34) hx hb dX1_torn_30 (by decide) ?_
      exact y_iret hx hb hr hlk hZ hU hS rfl rfl hU.1 dX1_torn_34

set_option maxHeartbeats 4000000 in
theorem mY1_gains (l : Launch) (D : va_G) (ct : CT) (ad : Nat → Nat) (P : Nat → Nat → Option Nat) (S : US) (G0 : GS) (p1 : Int32) (p2 : Int32) (p3 : Int32) (p4 : Int32) (o : ((Option Nat) × US × GS)) (ho : s1_gains ct ad P S G0 p1 p2 p3 p4 = some o) : Met l yX1_gains (ws_ yX1_gains cX1_gains 5 (some (.array .int))) { frames := 504, cells := nmax ct - G0.2.1, slots := zmax ct - G0.2.2, locals := 20087 } (mP D clW ct [.ref (ad (0)), .int p1, .int p2, .int p3, .int p4] G0.2.1 (MW D clW ckH ct 26 ad P (fun _ => True) S 0 G0)) (yC (some (va_rf o.1)) (MW D clW ckH ct 26 ad P (mA 26 ad G0) o.2.1 0 o.2.2) G0 o.2.2 (mA 26 ad G0)) (nmax ct - G0.2.1) (zmax ct - G0.2.2) (mA 26 ad G0) := by
  refine Y.start (val := fun (o : ((Option Nat) × US × GS)) => some (va_rf o.1)) (Bt := fun (o : ((Option Nat) × US × GS)) => MW D clW ckH ct 26 ad P (mA 26 ad G0) o.2.1 0 o.2.2) (Go := fun (o : ((Option Nat) × US × GS)) => o.2.2) ho (by decide) (Nat.le_of_ble_eq_true rfl) (lv := [(0, .ref (ad (0))), (1, .int p1), (2, .int p2), (3, .int p3), (4, .int p4)]) rfl ?_
  intro p e s m args below meth c E hr hlk hnm hZ hU hS ls hl
  obtain ⟨⟨hx, hb, hml, hown, hts⟩, hK, hJ⟩ := id E
  replace hr : meth.sig.returnType = some (FieldType.array FieldType.int) ∧ ((∃ n, (FieldType.array FieldType.int) = .object n) ∨ ∃ t, (FieldType.array FieldType.int) = .array t) := ⟨hr, Or.inr ⟨_, rfl⟩⟩
  unfold s1_gains
  refine x_aload_n hx hb dX1_gains_0 rfl (lv_at hl 0 rfl) ?_
  refine gX1_44 E hU.1.1 dX1_gains_1 ?_
  refine x_aload_n hx hb dX1_gains_4 rfl (lv_at hl 0 rfl) ?_
  refine gX1_40 E hU.1.1 dX1_gains_5 ?_
  refine kzX1_3_be E hZ hU hS (by decide) (by decide) ⟨Nat.le_of_ble_eq_true rfl, Nat.le_of_ble_eq_true rfl⟩ hl.1 (Nat.le_of_ble_eq_true rfl) dX1_gains_8 (fun o1 H locs hU hS => ?_)
  refine x_pop hx hb dX1_gains_11 rfl ?_
  refine x_aload_n hx hb dX1_gains_12 rfl (lv_at hl 0 rfl) ?_
  refine x_iload_n hx hb dX1_gains_13 rfl (lv_at hl 1 rfl) ?_
  refine x_iload_n hx hb dX1_gains_14 rfl (lv_at hl 2 rfl) ?_
  refine kX1_min E ⟨Nat.le_of_ble_eq_true rfl, Nat.le_of_ble_eq_true rfl⟩ hl.1 (Nat.le_of_ble_eq_true rfl) dX1_gains_15 (hU.room0 hZ) ?_
  refine x_iload_n hx hb dX1_gains_18 rfl (lv_at hl 1 rfl) ?_
  refine x_iload_n hx hb dX1_gains_19 rfl (lv_at hl 2 rfl) ?_
  refine X.join2Y (fun (x : Int32) g H locs => YW D clW ckH ct 26 ad P (mA 26 ad G0) o1 0 G0 G0 H ∧ va_S (mA 26 ad G0) s.heap H locs ∧ ∃ ls : Array Slot, g = F0 m 29 ls [.int x, .int (if p2 < p1 then p2 else p1), .ref (ad (0))] ∧ lv_has ls 5 [(0, .ref (ad (0))), (1, .int p1), (2, .int p2), (3, .int p3), (4, .int p4)]) (fun (x : Int32) => G0.2.1 - G0.2.1) (fun (x : Int32) => G0.2.2 - G0.2.2) ?_ (fun j3 hj3 => ?_)
  · rintro y2 _ H locs ⟨hU, hS, ls, rfl, hl⟩
    refine X.cs (cells2 := G0.2.1 - G0.2.1) (slots2 := G0.2.2 - G0.2.2) rfl rfl ?_
    refine X.eqs (sp2 := s1_gains_J29 p1 p2 p3 p4 P G0 ct o1 y2) rfl ?_
    unfold s1_gains_J29
    refine x_iconst (v := 1) hx hb dX1_gains_29 (by decide) ?_
    refine X.join2Y (fun (x : Int32) g H locs => YW D clW ckH ct 26 ad P (mA 26 ad G0) o1 0 G0 G0 H ∧ va_S (mA 26 ad G0) s.heap H locs ∧ ∃ ls : Array Slot, g = F0 m 38 ls [.int x, .int (if p2 < p1 then p2 else p1), .ref (ad (0))] ∧ lv_has ls 5 [(0, .ref (ad (0))), (1, .int p1), (2, .int p2), (3, .int p3), (4, .int p4)]) (fun (x : Int32) => G0.2.1 - G0.2.1) (fun (x : Int32) => G0.2.2 - G0.2.2) ?_ (fun j5 hj5 => ?_)
    · rintro y4 _ H locs ⟨hU, hS, ls, rfl, hl⟩
      refine X.cs (cells2 := G0.2.1 - G0.2.1) (slots2 := G0.2.2 - G0.2.2) rfl rfl ?_
      refine X.eqs (sp2 := s1_gains_J38 p1 p2 p3 p4 P G0 ct o1 y4) rfl ?_
      unfold s1_gains_J38
      refine kzX1_1_moves E hZ hU hS ⟨Nat.le_of_ble_eq_true rfl, Nat.le_of_ble_eq_true rfl⟩ hl.1 (Nat.le_of_ble_eq_true rfl) dX1_gains_38 (fun o6 H locs hU hS => ?_)
      refine x_aload_n hx hb dX1_gains_41 rfl (lv_at hl 0 rfl) ?_
      refine x_iload_n hx hb dX1_gains_42 rfl (lv_at hl 1 rfl) ?_
      refine x_iload_n hx hb dX1_gains_43 rfl (lv_at hl 2 rfl) ?_
      refine kX1_max E ⟨Nat.le_of_ble_eq_true rfl, Nat.le_of_ble_eq_true rfl⟩ hl.1 (Nat.le_of_ble_eq_true rfl) dX1_gains_44 (hU.room0 hZ) ?_
      refine x_iload_n hx hb dX1_gains_47 rfl (lv_at hl 1 rfl) ?_
      refine x_iload_n hx hb dX1_gains_48 rfl (lv_at hl 2 rfl) ?_
      refine X.join2Y (fun (x : Int32) g H locs => YW D clW ckH ct 26 ad P (mA 26 ad G0) o6 0 G0 G0 H ∧ va_S (mA 26 ad G0) s.heap H locs ∧ ∃ ls : Array Slot, g = F0 m 58 ls [.int x, .int (if p1 < p2 then p2 else p1), .ref (ad (0))] ∧ lv_has ls 5 [(0, .ref (ad (0))), (1, .int p1), (2, .int p2), (3, .int p3), (4, .int p4)]) (fun (x : Int32) => G0.2.1 - G0.2.1) (fun (x : Int32) => G0.2.2 - G0.2.2) ?_ (fun j8 hj8 => ?_)
      · rintro y7 _ H locs ⟨hU, hS, ls, rfl, hl⟩
        refine X.cs (cells2 := G0.2.1 - G0.2.1) (slots2 := G0.2.2 - G0.2.2) rfl rfl ?_
        refine X.eqs (sp2 := s1_gains_J58 p1 p2 p3 p4 P G0 ct o6 y7) rfl ?_
        unfold s1_gains_J58
        refine x_iconst (v := 1) hx hb dX1_gains_58 (by decide) ?_
        refine X.join2Y (fun (x : Int32) g H locs => YW D clW ckH ct 26 ad P (mA 26 ad G0) o6 0 G0 G0 H ∧ va_S (mA 26 ad G0) s.heap H locs ∧ ∃ ls : Array Slot, g = F0 m 67 ls [.int x, .int (if p1 < p2 then p2 else p1), .ref (ad (0))] ∧ lv_has ls 5 [(0, .ref (ad (0))), (1, .int p1), (2, .int p2), (3, .int p3), (4, .int p4)]) (fun (x : Int32) => G0.2.1 - G0.2.1) (fun (x : Int32) => G0.2.2 - G0.2.2) ?_ (fun j10 hj10 => ?_)
        · rintro y9 _ H locs ⟨hU, hS, ls, rfl, hl⟩
          refine X.cs (cells2 := G0.2.1 - G0.2.1) (slots2 := G0.2.2 - G0.2.2) rfl rfl ?_
          refine X.eqs (sp2 := s1_gains_J67 p1 p2 p3 p4 P G0 ct o6 y9) rfl ?_
          unfold s1_gains_J67
          refine kzX1_1_moves E hZ hU hS ⟨Nat.le_of_ble_eq_true rfl, Nat.le_of_ble_eq_true rfl⟩ hl.1 (Nat.le_of_ble_eq_true rfl) dX1_gains_67 (fun o11 H locs hU hS => ?_)
          refine x_aload_n hx hb dX1_gains_70 rfl (lv_at hl 0 rfl) ?_
          refine gX1_44 E hU.1.1 dX1_gains_71 ?_
          refine x_iconst (v := 5) hx hb dX1_gains_74 (by decide) ?_
          refine kzX1_3_after E hZ hU hS (by decide) ⟨Nat.le_of_ble_eq_true rfl, Nat.le_of_ble_eq_true rfl⟩ hl.1 (Nat.le_of_ble_eq_true rfl) dX1_gains_75 (fun o12 H locs hU hS => ?_)
          refine x_pop hx hb dX1_gains_78 rfl ?_
          refine x_iconst (v := 2) hx hb dX1_gains_79 (by decide) ?_
          refine gy_newa (atype := .int) (t := 0) (ty := .int) (x := .inl (fun _ => 0)) E hZ hU hS (hts _ q189) rfl rfl (fun h => h) (fun _ => rfl) (by decide) dX1_gains_80 (fun q13 G14 H hU hS => ?_)
          refine x_dup hx hb dX1_gains_82 rfl ?_
          refine x_iconst (v := 0) hx hb dX1_gains_83 (by decide) ?_
          refine x_aload_n hx hb dX1_gains_84 rfl (lv_at hl 0 rfl) ?_
          refine gX1_44 E hU.1.1 dX1_gains_85 ?_
          refine gX1_158 E hU.1.1 (by decide) dX1_gains_88 ?_
          refine x_aload_n hx hb dX1_gains_91 rfl (lv_at hl 0 rfl) ?_
          refine gX1_40 E hU.1.1 dX1_gains_92 ?_
          refine gX1_108 E hU.1.1 (by decide) dX1_gains_95 ?_
          refine x_iload_n hx hb dX1_gains_98 rfl (lv_at hl 1 rfl) ?_
          refine ux_ald (i := lc 0 4) (n := 6) E hU.1.1.1 (lc_lt (by decide) (by decide)) (ck_lc (by decide)) dX1_gains_99 ?_
          refine ux_ald (i := lc 1 2) (n := 12) E hU.1.1.1 (lc_lt (by decide) (by decide)) (ck_lc (by decide)) dX1_gains_100 ?_
          refine x_bipush (v := 10) hx hb dX1_gains_101 (by decide) ?_
          refine x_idiv hx hb dX1_gains_103 (by decide) ?_
          refine x_iload_n hx hb dX1_gains_104 rfl (lv_at hl 3 rfl) ?_
          refine x_isub hx hb dX1_gains_105 ?_
          refine gy_iast E hU hS dX1_gains_106 (fun G15 H locs hU hS => ?_)
          refine x_dup hx hb dX1_gains_107 rfl ?_
          refine x_iconst (v := 1) hx hb dX1_gains_108 (by decide) ?_
          refine x_aload_n hx hb dX1_gains_109 rfl (lv_at hl 0 rfl) ?_
          refine gX1_44 E hU.1.1 dX1_gains_110 ?_
          refine gX1_158 E hU.1.1 (by decide) dX1_gains_113 ?_
          refine x_aload_n hx hb dX1_gains_116 rfl (lv_at hl 0 rfl) ?_
          refine gX1_40 E hU.1.1 dX1_gains_117 ?_
          refine gX1_108 E hU.1.1 (by decide) dX1_gains_120 ?_
          refine x_iload_n hx hb dX1_gains_123 rfl (lv_at hl 2 rfl) ?_
          refine ux_ald (i := lc 0 4) (n := 6) E hU.1.1.1 (lc_lt (by decide) (by decide)) (ck_lc (by decide)) dX1_gains_124 ?_
          refine ux_ald (i := lc 1 2) (n := 12) E hU.1.1.1 (lc_lt (by decide) (by decide)) (ck_lc (by decide)) dX1_gains_125 ?_
          refine x_bipush (v := 10) hx hb dX1_gains_126 (by decide) ?_
          refine x_idiv hx hb dX1_gains_128 (by decide) ?_
          refine x_iload hx hb dX1_gains_129 (lv_at hl 4 rfl) ?_
          refine x_isub hx hb dX1_gains_131 ?_
          refine gy_iast E hU hS dX1_gains_132 (fun G16 H locs hU hS => ?_)
          exact y_aret (r := (some q13)) hx hb hr hlk hZ hU hS rfl rfl hU.1 dX1_gains_133
        · refine x_icmp_ne (tgt := 66) hx hb dX1_gains_59 (by decide) (fun hc => ?_) (fun hc => ?_)
          · refine x_iconst (v := 0) hx hb dX1_gains_66 (by decide) ?_
            exact hj10 (0 : Int32) _ _ _ ⟨hU, hS, _, rfl, lv_sub hl [0, 1, 2, 3, 4] rfl⟩
          · refine x_iconst (v := 1) hx hb dX1_gains_62 (by decide) ?_
            refine x_goto (tgt := 67) hx hb dX1_gains_63 (by decide) ?_
            exact hj10 (1 : Int32) _ _ _ ⟨hU, hS, _, rfl, lv_sub hl [0, 1, 2, 3, 4] rfl⟩
      · refine x_icmp_ge (tgt := 57) hx hb dX1_gains_49 (by decide) (fun hc => ?_) (fun hc => ?_)
        · refine x_iload_n hx hb dX1_gains_57 rfl (lv_at hl 3 rfl) ?_
          exact hj8 p3 _ _ _ ⟨hU, hS, _, rfl, lv_sub hl [0, 1, 2, 3, 4] rfl⟩
        · refine x_iload hx hb dX1_gains_52 (lv_at hl 4 rfl) ?_
          refine x_goto (tgt := 58) hx hb dX1_gains_54 (by decide) ?_
          exact hj8 p4 _ _ _ ⟨hU, hS, _, rfl, lv_sub hl [0, 1, 2, 3, 4] rfl⟩
    · refine x_icmp_ne (tgt := 37) hx hb dX1_gains_30 (by decide) (fun hc => ?_) (fun hc => ?_)
      · refine x_iconst (v := 0) hx hb dX1_gains_37 (by decide) ?_
        exact hj5 (0 : Int32) _ _ _ ⟨hU, hS, _, rfl, lv_sub hl [0, 1, 2, 3, 4] rfl⟩
      · refine x_iconst (v := 1) hx hb dX1_gains_33 (by decide) ?_
        refine x_goto (tgt := 38) hx hb dX1_gains_34 (by decide) ?_
        exact hj5 (1 : Int32) _ _ _ ⟨hU, hS, _, rfl, lv_sub hl [0, 1, 2, 3, 4] rfl⟩
  · refine x_icmp_ge (tgt := 27) hx hb dX1_gains_20 (by decide) (fun hc => ?_) (fun hc => ?_)
    · refine x_iload hx hb dX1_gains_27 (lv_at hl 4 rfl) ?_
      exact hj3 p4 _ _ _ ⟨hU, hS, _, rfl, lv_sub hl [0, 1, 2, 3, 4] rfl⟩
    · refine x_iload_n hx hb dX1_gains_23 rfl (lv_at hl 3 rfl) ?_
      refine x_goto (tgt := 29) hx hb dX1_gains_24 (by decide) ?_
      exact hj3 p3 _ _ _ ⟨hU, hS, _, rfl, lv_sub hl [0, 1, 2, 3, 4] rfl⟩
section KZ
variable {ρ : Type} {p : Program} {l : Launch} {e : Env} {R : Room} {s : State} {m : MethodId} {args : Array Value} {below : List Frame} {meth : Method} {c : Code} {H : Heap} {locs : List Loc} {Qf : ρ → State → Prop}
variable {cc : ByteArray} {pc nL L M q0 : Nat} {ls : Array Slot} {rest : List Value}
variable {D : va_G} {ct : CT} {ck : Nat → UC} {N : Nat} {ad : Nat → Nat} {P : Nat → Nat → Option Nat} {A : Nat → Prop} {S : US} {w : Int64} {G0 G : GS}
theorem kzX1_1_gains {p1 : Int32} {p2 : Int32} {p3 : Int32} {p4 : Int32} (E : ME p m c cc nL s args RX1 D clW ct) (hZ : YC ct R s A G0) (hY : YW D clW ckH ct 26 ad P A S 0 G0 G H) (hS : va_S A s.heap H locs) (hR : 504 + 1 ≤ R.frames ∧ 8 + (5 + 11) + 20087 ≤ R.locals) (hsize : ls.size = nL) (hW : (rest.map fun v => v.category).sum ≤ 8) (hdg : decode cc pc = .ok (.invokevirtual 322, 3)) {kp : ((Option Nat) × US × GS) → Option ρ} (kk : ∀ (o : ((Option Nat) × US × GS)) (H1 : Heap) (locs1 : List Loc), YW D clW ckH ct 26 ad P A o.2.1 0 G0 o.2.2 H1 → va_S A s.heap H1 locs1 → X p l e R s m args below meth c H1 locs1 (o.2.2.2.1 - G0.2.1) (o.2.2.2.2 - G0.2.2) Qf (kp o) (F0 m (pc + 3) ls (va_rf o.1 :: rest))) : X p l e R s m args below meth c H locs (G.2.1 - G0.2.1) (G.2.2 - G0.2.2) Qf (callK (s1_gains ct ad P S G p1 p2 p3 p4) kp) (F0 m pc ls (.int p4 :: .int p3 :: .int p2 :: .int p1 :: .ref (ad (0)) :: rest)) := gy_mx (val' := fun (o : ((Option Nat) × US × GS)) => some (va_rf o.1)) (len := 3) (So := fun (o : ((Option Nat) × US × GS)) => o.2.1) (Po := fun (o : ((Option Nat) × US × GS)) => P) (Gn := fun (o : ((Option Nat) × US × GS)) => o.2.2) hZ hY hS (fun o ho => rqV (As := [.int p1, .int p2, .int p3, .int p4]) E hY.1.any (recvU (i := 0) E.2.1 hY.1.1.1 (by decide) rfl rfl) (by rw [hY.1.2.1]; exact mY1_gains l D ct ad P S G p1 p2 p3 p4 o ho) (cwV 4 E.1.2.2.2.2 (lw_V q1770 q1772 qs45 q113 q1773) rfl rfl rfl (by decide +kernel) hR) rfl hsize rfl hW hdg (hY.room hZ)) kk
end KZ

set_option maxHeartbeats 4000000 in
theorem mY1_game (l : Launch) (D : va_G) (ct : CT) (ad : Nat → Nat) (P : Nat → Nat → Option Nat) (S : US) (G0 : GS) (p1 : Int32) (p2 : Int32) (p3 : Int32) (o : (Int32 × US × GS)) (ho : s1_game ct ad P S G0 p1 p2 p3 = some o) : Met l yX1_game (ws_ yX1_game cX1_game 9 (some .int)) { frames := 505, cells := nmax ct - G0.2.1, slots := zmax ct - G0.2.2, locals := 20111 } (mP D clW ct [.ref (ad (0)), .int p1, .int p2, .int p3] G0.2.1 (MW D clW ckH ct 26 ad P (fun _ => True) S 0 G0)) (yC (some (.int o.1)) (MW D clW ckH ct 26 ad P (mA 26 ad G0) o.2.1 0 o.2.2) G0 o.2.2 (mA 26 ad G0)) (nmax ct - G0.2.1) (zmax ct - G0.2.2) (mA 26 ad G0) := by
  refine Y.start (val := fun (o : (Int32 × US × GS)) => some (.int o.1)) (Bt := fun (o : (Int32 × US × GS)) => MW D clW ckH ct 26 ad P (mA 26 ad G0) o.2.1 0 o.2.2) (Go := fun (o : (Int32 × US × GS)) => o.2.2) ho (by decide) (Nat.le_of_ble_eq_true rfl) (lv := [(0, .ref (ad (0))), (1, .int p1), (2, .int p2), (3, .int p3)]) rfl ?_
  intro p e s m args below meth c E hr hlk hnm hZ hU hS ls hl
  obtain ⟨⟨hx, hb, hml, hown, hts⟩, hK, hJ⟩ := id E
  unfold s1_game
  refine x_aload_n hx hb dX1_game_0 rfl (lv_at hl 0 rfl) ?_
  refine x_iload_n hx hb dX1_game_1 rfl (lv_at hl 1 rfl) ?_
  refine kzX1_1_aWoman E hZ hU hS ⟨Nat.le_of_ble_eq_true rfl, Nat.le_of_ble_eq_true rfl⟩ hl.1 (Nat.le_of_ble_eq_true rfl) dX1_game_2 (fun o1 H locs hU hS => ?_)
  refine x_aload_n hx hb dX1_game_5 rfl (lv_at hl 0 rfl) ?_
  refine x_iload_n hx hb dX1_game_6 rfl (lv_at hl 2 rfl) ?_
  refine kzX1_1_aWoman E hZ hU hS ⟨Nat.le_of_ble_eq_true rfl, Nat.le_of_ble_eq_true rfl⟩ hl.1 (Nat.le_of_ble_eq_true rfl) dX1_game_7 (fun o2 H locs hU hS => ?_)
  refine x_iload_n hx hb dX1_game_10 rfl (lv_at hl 3 rfl) ?_
  refine x_iconst (v := 1) hx hb dX1_game_11 (by decide) ?_
  refine kzX1_1_oneOf E hZ hU hS ⟨Nat.le_of_ble_eq_true rfl, Nat.le_of_ble_eq_true rfl⟩ hl.1 (Nat.le_of_ble_eq_true rfl) dX1_game_12 (fun o3 H locs hU hS => ?_)
  refine x_iload_n hx hb dX1_game_15 rfl (lv_at hl 1 rfl) ?_
  refine x_iload_n hx hb dX1_game_16 rfl (lv_at hl 2 rfl) ?_
  refine X.join2Y (fun (x : Int32) g H locs => YW D clW ckH ct 26 ad P (mA 26 ad G0) S 0 G0 G0 H ∧ va_S (mA 26 ad G0) s.heap H locs ∧ ∃ ls : Array Slot, g = F0 m 25 ls [.int x] ∧ lv_has ls 9 [(0, .ref (ad (0))), (1, .int p1), (2, .int p2), (3, .int p3)]) (fun (x : Int32) => G0.2.1 - G0.2.1) (fun (x : Int32) => G0.2.2 - G0.2.2) ?_ (fun j5 hj5 => ?_)
  · rintro y4 _ H locs ⟨hU, hS, ls, rfl, hl⟩
    refine X.cs (cells2 := G0.2.1 - G0.2.1) (slots2 := G0.2.2 - G0.2.2) rfl rfl ?_
    refine X.eqs (sp2 := s1_game_J25 p1 p2 p3 S P ad G0 ct y4) rfl ?_
    unfold s1_game_J25
    refine kzX1_1_right E hZ hU hS ⟨Nat.le_of_ble_eq_true rfl, Nat.le_of_ble_eq_true rfl⟩ hl.1 (Nat.le_of_ble_eq_true rfl) dX1_game_25 (fun o6 H locs hU hS => ?_)
    refine x_iconst (v := 0) hx hb dX1_game_28 (by decide) ?_
    refine x_istore (lv' := [(4, .int (0 : Int32)), (0, .ref (ad (0))), (1, .int p1), (2, .int p2), (3, .int p3)]) hx hb dX1_game_29 hl (by decide) rfl (fun ls hl => ?_)
    refine x_iconst (v := -1) hx hb dX1_game_31 (by decide) ?_
    refine x_istore (lv' := [(5, .int (-1 : Int32)), (4, .int (0 : Int32)), (0, .ref (ad (0))), (1, .int p1), (2, .int p2), (3, .int p3)]) hx hb dX1_game_32 hl (by decide) rfl (fun ls hl => ?_)
    refine x_iconst (v := 0) hx hb dX1_game_34 (by decide) ?_
    refine x_istore (lv' := [(6, .int (0 : Int32)), (5, .int (-1 : Int32)), (4, .int (0 : Int32)), (0, .ref (ad (0))), (1, .int p1), (2, .int p2), (3, .int p3)]) hx hb dX1_game_35 hl (by decide) rfl (fun ls hl => ?_)
    refine X.loopY (I := fun (x : (US × GS × Int32 × Int32 × Int32)) g H locs => YW D clW ckH ct 26 ad P (mA 26 ad G0) x.1 0 G0 x.2.1 H ∧ va_S (mA 26 ad G0) s.heap H locs ∧ ∃ ls : Array Slot, g = F0 m 37 ls [] ∧ lv_has ls 9 [(0, .ref (ad (0))), (1, .int p1), (2, .int p2), (3, .int p3), (4, .int x.2.2.1), (5, .int x.2.2.2.1), (6, .int x.2.2.2.2)]) (cf := (fun (x : (US × GS × Int32 × Int32 × Int32)) => x.2.1.2.1 - G0.2.1)) (sf := (fun (x : (US × GS × Int32 × Int32 × Int32)) => x.2.1.2.2 - G0.2.2)) (fun rc12 ih12 => ?_) FUEL (S, G0, (0 : Int32), (-1 : Int32), (0 : Int32)) _ _ _ ⟨hU, hS, _, rfl, lv_sub hl [3, 4, 5, 6, 2, 1, 0] rfl⟩
    rintro ⟨S7, G8, v9, v10, v11⟩ _ H locs ⟨hU, hS, ls, rfl, hl⟩
    have hU : YW D clW ckH ct 26 ad P (mA 26 ad G0) S7 0 G0 G8 H := hU
    have hl : lv_has ls 9 [(0, .ref (ad (0))), (1, .int p1), (2, .int p2), (3, .int p3), (4, .int v9), (5, .int v10), (6, .int v11)] := hl
    refine X.cs (cells2 := G8.2.1 - G0.2.1) (slots2 := G8.2.2 - G0.2.2) rfl rfl ?_
    refine X.eqs (sp2 := s1_game_L37 p1 p2 p3 P ad ct rc12 S7 G8 v9 v10 v11) rfl ?_
    unfold s1_game_L37
    refine x_iload hx hb dX1_game_37 (lv_at hl 6 rfl) ?_
    refine x_iconst (v := 2) hx hb dX1_game_39 (by decide) ?_
    refine x_icmp_ge (tgt := 139) hx hb dX1_game_40 (by decide) (fun hc => ?_) (fun hc => ?_)
    · refine x_iload_n hx hb dX1_game_139 rfl (lv_at hl 3 rfl) ?_
      refine x_if_ne (tgt := 148) hx hb dX1_game_140 (by decide) (fun hc => ?_) (fun hc => ?_)
      · refine x_iload hx hb dX1_game_148 (lv_at hl 5 rfl) ?_
        exact y_iret hx hb hr hlk hZ hU hS rfl rfl hU.1 dX1_game_150
      · refine x_iload hx hb dX1_game_143 (lv_at hl 4 rfl) ?_
        refine x_goto (tgt := 150) hx hb dX1_game_145 (by decide) ?_
        exact y_iret hx hb hr hlk hZ hU hS rfl rfl hU.1 dX1_game_150
    · refine x_iconst (v := 0) hx hb dX1_game_43 (by decide) ?_
      refine x_istore (lv' := [(7, .int (0 : Int32)), (0, .ref (ad (0))), (1, .int p1), (2, .int p2), (3, .int p3), (4, .int v9), (5, .int v10), (6, .int v11)]) hx hb dX1_game_44 hl (by decide) rfl (fun ls hl => ?_)
      refine X.loopY (I := fun (x : (US × GS × Int32 × Int32 × Int32)) g H locs => YW D clW ckH ct 26 ad P (mA 26 ad G0) x.1 0 G0 x.2.1 H ∧ va_S (mA 26 ad G0) s.heap H locs ∧ ∃ ls : Array Slot, g = F0 m 46 ls [] ∧ lv_has ls 9 [(0, .ref (ad (0))), (1, .int p1), (2, .int p2), (3, .int p3), (4, .int x.2.2.1), (5, .int x.2.2.2.1), (6, .int v11), (7, .int x.2.2.2.2)]) (cf := (fun (x : (US × GS × Int32 × Int32 × Int32)) => x.2.1.2.1 - G0.2.1)) (sf := (fun (x : (US × GS × Int32 × Int32 × Int32)) => x.2.1.2.2 - G0.2.2)) (fun rc18 ih18 => ?_) FUEL (S7, G8, v9, v10, (0 : Int32)) _ _ _ ⟨hU, hS, _, rfl, lv_sub hl [1, 2, 3, 4, 5, 6, 7, 0] rfl⟩
      rintro ⟨S13, G14, v15, v16, v17⟩ _ H locs ⟨hU, hS, ls, rfl, hl⟩
      have hU : YW D clW ckH ct 26 ad P (mA 26 ad G0) S13 0 G0 G14 H := hU
      have hl : lv_has ls 9 [(0, .ref (ad (0))), (1, .int p1), (2, .int p2), (3, .int p3), (4, .int v15), (5, .int v16), (6, .int v11), (7, .int v17)] := hl
      refine X.cs (cells2 := G14.2.1 - G0.2.1) (slots2 := G14.2.2 - G0.2.2) rfl rfl ?_
      refine X.eqs (sp2 := s1_game_L46 p1 p2 P ad ct v11 rc12 rc18 S13 G14 v15 v16 v17) rfl ?_
      unfold s1_game_L46
      refine x_iload hx hb dX1_game_46 (lv_at hl 7 rfl) ?_
      refine x_iconst (v := 2) hx hb dX1_game_48 (by decide) ?_
      refine x_icmp_ge (tgt := 133) hx hb dX1_game_49 (by decide) (fun hc => ?_) (fun hc => ?_)
      · refine x_iinc (v := (v11 + (1 : Int32))) (lv' := [(6, .int (v11 + (1 : Int32))), (0, .ref (ad (0))), (1, .int p1), (2, .int p2), (3, .int p3), (4, .int v15), (5, .int v16), (7, .int v17)]) (k := 6) hx hb dX1_game_133 hl rfl rfl (by decide) rfl (fun ls hl => ?_)
        refine x_goto (tgt := 37) hx hb dX1_game_136 (by decide) ?_
        exact ih12 (S13, G14, v15, v16, (v11 + (1 : Int32))) _ _ _ ⟨hU, hS, _, rfl, lv_sub hl [1, 2, 3, 4, 5, 6, 0] rfl⟩
      · refine x_aload_n hx hb dX1_game_52 rfl (lv_at hl 0 rfl) ?_
        refine x_iload_n hx hb dX1_game_53 rfl (lv_at hl 1 rfl) ?_
        refine x_iload_n hx hb dX1_game_54 rfl (lv_at hl 2 rfl) ?_
        refine x_iload hx hb dX1_game_55 (lv_at hl 6 rfl) ?_
        refine x_iload hx hb dX1_game_57 (lv_at hl 7 rfl) ?_
        refine kzX1_1_gains E hZ hU hS ⟨Nat.le_of_ble_eq_true rfl, Nat.le_of_ble_eq_true rfl⟩ hl.1 (Nat.le_of_ble_eq_true rfl) dX1_game_59 (fun o19 H locs hU hS => ?_)
        refine X.onR (fun b20 hb_ => ?_)
        rw [hb_]
        try rw [hb_] at hl
        refine x_astore (lv' := [(8, .ref b20), (0, .ref (ad (0))), (1, .int p1), (2, .int p2), (3, .int p3), (4, .int v15), (5, .int v16), (6, .int v11), (7, .int v17)]) hx hb dX1_game_62 hl (by decide) rfl (fun ls hl => ?_)
        refine x_aload_n hx hb dX1_game_64 rfl (lv_at hl 1 rfl) ?_
        refine x_iload_n hx hb dX1_game_65 rfl (lv_at hl 2 rfl) ?_
        refine x_iload_n hx hb dX1_game_66 rfl (lv_at hl 3 rfl) ?_
        refine x_iconst (v := 1) hx hb dX1_game_67 (by decide) ?_
        refine x_iload hx hb dX1_game_68 (lv_at hl 7 rfl) ?_
        refine x_isub hx hb dX1_game_70 ?_
        refine x_iload hx hb dX1_game_71 (lv_at hl 8 rfl) ?_
        refine kzX1_1_gains E hZ hU hS ⟨Nat.le_of_ble_eq_true rfl, Nat.le_of_ble_eq_true rfl⟩ hl.1 (Nat.le_of_ble_eq_true rfl) dX1_game_73 (fun o21 H locs hU hS => ?_)
        refine x_iconst (v := 0) hx hb dX1_game_76 (by decide) ?_
        refine X.onR (fun b22 hb_ => ?_)
        rw [hb_]
        try rw [hb_] at hl
        refine fx_iaload E hU.1.1.2.1 dX1_game_77 (fun v23 => ?_)
        refine x_aload hx hb dX1_game_78 (lv_at hl 0 rfl) ?_
        refine x_iconst (v := 0) hx hb dX1_game_80 (by decide) ?_
        refine fx_iaload E hU.1.1.2.1 dX1_game_81 (fun v24 => ?_)
        refine x_icmp_gt (tgt := 127) hx hb dX1_game_82 (by decide) (fun hc => ?_) (fun hc => ?_)
        · refine x_iinc (v := (v17 + (1 : Int32))) (lv' := [(7, .int (v17 + (1 : Int32))), (8, .ref b20), (0, .ref (ad (0))), (1, .int p1), (2, .int p2), (3, .int p3), (4, .int v15), (5, .int v16), (6, .int v11)]) (k := 8) hx hb dX1_game_127 hl rfl rfl (by decide) rfl (fun ls hl => ?_)
          refine x_goto (tgt := 46) hx hb dX1_game_130 (by decide) ?_
          exact ih18 (o21.2.1, o21.2.2, v15, v16, (v17 + (1 : Int32))) _ _ _ ⟨hU, hS, _, rfl, lv_sub hl [2, 3, 4, 5, 6, 7, 8, 0] rfl⟩
        · refine x_aload_n hx hb dX1_game_85 rfl (lv_at hl 1 rfl) ?_
          refine x_iload_n hx hb dX1_game_86 rfl (lv_at hl 2 rfl) ?_
          refine x_iload_n hx hb dX1_game_87 rfl (lv_at hl 3 rfl) ?_
          refine x_iload hx hb dX1_game_88 (lv_at hl 7 rfl) ?_
          refine x_iconst (v := 1) hx hb dX1_game_90 (by decide) ?_
          refine x_iload hx hb dX1_game_91 (lv_at hl 8 rfl) ?_
          refine x_isub hx hb dX1_game_93 ?_
          refine kzX1_1_gains E hZ hU hS ⟨Nat.le_of_ble_eq_true rfl, Nat.le_of_ble_eq_true rfl⟩ hl.1 (Nat.le_of_ble_eq_true rfl) dX1_game_94 (fun o25 H locs hU hS => ?_)
          refine x_iconst (v := 1) hx hb dX1_game_97 (by decide) ?_
          refine X.onR (fun b26 hb_ => ?_)
          rw [hb_]
          try rw [hb_] at hl
          refine fx_iaload E hU.1.1.2.1 dX1_game_98 (fun v27 => ?_)
          refine x_aload hx hb dX1_game_99 (lv_at hl 0 rfl) ?_
          refine x_iconst (v := 1) hx hb dX1_game_101 (by decide) ?_
          refine fx_iaload E hU.1.1.2.1 dX1_game_102 (fun v28 => ?_)
          refine x_icmp_le (tgt := 109) hx hb dX1_game_103 (by decide) (fun hc => ?_) (fun hc => ?_)
          · refine x_iload hx hb dX1_game_109 (lv_at hl 5 rfl) ?_
            refine x_if_ne (tgt := 124) hx hb dX1_game_111 (by decide) (fun hc => ?_) (fun hc => ?_)
            · refine x_iinc (v := (v15 + (1 : Int32))) (lv' := [(4, .int (v15 + (1 : Int32))), (8, .ref b20), (0, .ref (ad (0))), (1, .int p1), (2, .int p2), (3, .int p3), (5, .int v16), (6, .int v11), (7, .int v17)]) (k := 5) hx hb dX1_game_124 hl rfl rfl (by decide) rfl (fun ls hl => ?_)
              refine x_iinc (v := (v17 + (1 : Int32))) (lv' := [(7, .int (v17 + (1 : Int32))), (4, .int (v15 + (1 : Int32))), (8, .ref b20), (0, .ref (ad (0))), (1, .int p1), (2, .int p2), (3, .int p3), (5, .int v16), (6, .int v11)]) (k := 8) hx hb dX1_game_127 hl rfl rfl (by decide) rfl (fun ls hl => ?_)
              refine x_goto (tgt := 46) hx hb dX1_game_130 (by decide) ?_
              exact ih18 (o25.2.1, o25.2.2, (v15 + (1 : Int32)), v16, (v17 + (1 : Int32))) _ _ _ ⟨hU, hS, _, rfl, lv_sub hl [3, 4, 5, 6, 1, 7, 8, 0] rfl⟩
            · refine x_bipush (v := 10) hx hb dX1_game_114 (by decide) ?_
              refine x_iload hx hb dX1_game_116 (lv_at hl 7 rfl) ?_
              refine x_imul hx hb dX1_game_118 ?_
              refine x_iload hx hb dX1_game_119 (lv_at hl 8 rfl) ?_
              refine x_iadd hx hb dX1_game_121 ?_
              refine x_istore (lv' := [(5, .int (((10 : Int32) * v11) + v17)), (8, .ref b20), (0, .ref (ad (0))), (1, .int p1), (2, .int p2), (3, .int p3), (4, .int v15), (6, .int v11), (7, .int v17)]) hx hb dX1_game_122 hl (by decide) rfl (fun ls hl => ?_)
              refine x_iinc (v := (v15 + (1 : Int32))) (lv' := [(4, .int (v15 + (1 : Int32))), (5, .int (((10 : Int32) * v11) + v17)), (8, .ref b20), (0, .ref (ad (0))), (1, .int p1), (2, .int p2), (3, .int p3), (6, .int v11), (7, .int v17)]) (k := 6) hx hb dX1_game_124 hl rfl rfl (by decide) rfl (fun ls hl => ?_)
              refine x_iinc (v := (v17 + (1 : Int32))) (lv' := [(7, .int (v17 + (1 : Int32))), (4, .int (v15 + (1 : Int32))), (5, .int (((10 : Int32) * v11) + v17)), (8, .ref b20), (0, .ref (ad (0))), (1, .int p1), (2, .int p2), (3, .int p3), (6, .int v11)]) (k := 8) hx hb dX1_game_127 hl rfl rfl (by decide) rfl (fun ls hl => ?_)
              refine x_goto (tgt := 46) hx hb dX1_game_130 (by decide) ?_
              exact ih18 (o25.2.1, o25.2.2, (v15 + (1 : Int32)), (((10 : Int32) * v11) + v17), (v17 + (1 : Int32))) _ _ _ ⟨hU, hS, _, rfl, lv_sub hl [4, 5, 6, 7, 1, 2, 8, 0] rfl⟩
          · refine x_goto (tgt := 127) hx hb dX1_game_106 (by decide) ?_
            refine x_iinc (v := (v17 + (1 : Int32))) (lv' := [(7, .int (v17 + (1 : Int32))), (8, .ref b20), (0, .ref (ad (0))), (1, .int p1), (2, .int p2), (3, .int p3), (4, .int v15), (5, .int v16), (6, .int v11)]) (k := 8) hx hb dX1_game_127 hl rfl rfl (by decide) rfl (fun ls hl => ?_)
            refine x_goto (tgt := 46) hx hb dX1_game_130 (by decide) ?_
            exact ih18 (o25.2.1, o25.2.2, v15, v16, (v17 + (1 : Int32))) _ _ _ ⟨hU, hS, _, rfl, lv_sub hl [2, 3, 4, 5, 6, 7, 8, 0] rfl⟩
  · refine x_icmp_eq (tgt := 24) hx hb dX1_game_17 (by decide) (fun hc => ?_) (fun hc => ?_)
    · refine x_iconst (v := 0) hx hb dX1_game_24 (by decide) ?_
      exact hj5 (0 : Int32) _ _ _ ⟨hU, hS, _, rfl, lv_sub hl [0, 1, 2, 3] rfl⟩
    · refine x_iconst (v := 1) hx hb dX1_game_20 (by decide) ?_
      refine x_goto (tgt := 25) hx hb dX1_game_21 (by decide) ?_
      exact hj5 (1 : Int32) _ _ _ ⟨hU, hS, _, rfl, lv_sub hl [0, 1, 2, 3] rfl⟩
