set_option maxRecDepth 100000
section TK
variable {p : Program} {l : Launch} {e : Env} {R : Room} {s : State} {m : MethodId} {args : Array Value} {below : List Frame} {meth : Method} {c : Code} {H : Heap} {locs : List Loc}
variable {cc : ByteArray} {pc nL : Nat} {ls : Array Slot}
variable {D : va_G} {ct : CT} {ad : Nat → Nat} {P : Nat → Nat → Option Nat} {A : Nat → Prop} {S : US} {h : AH}
theorem tkW_right {rest : List Value} {p1 : Int32} (E : ME p m c cc nL s args RX1 D clW ct) (hst : l.stackTraces = false) (hU : PW ct H) (hS : va_S (nA s.heap.size) s.heap H locs) (hxt : ∀ x ∈ c.exceptionTable.toList, covers x pc = false) (hlk : meth.locks = false) (hR : 6 + 1 ≤ R.frames ∧ 8 + (1 + 11) + 100 ≤ R.locals) (hsize : ls.size = nL) (hW : (rest.map fun v => v.category).sum ≤ 8) (hdg : decode cc pc = .ok (.invokestatic 74, 3)) (hRc : 1 ≤ R.cells ∧ 6 ≤ R.slots) : X p l e R s m args below meth c H locs 0 0 (tQ below args s (nA s.heap.size)) (t1_right p1) (F0 m pc ls (.int p1 :: rest)) := tx_endW (A1 := nA H.size) hS (fun q hq => Nat.le_trans hS.1 hq) hxt hlk (fun k hk => rtS (As := [.int p1]) E hU (mT1_right l hst D ct p1 _ k hk) (va_cwS 1 E.1.2.2.2.2 (lw_S q699 q700 q113 q701) rfl rfl rfl (by decide +kernel) hR) rfl hsize rfl hW hdg hRc)
end TK
set_option maxHeartbeats 4000000 in
theorem mT1_ring (l : Launch) (hst : l.stackTraces = false) (D : va_G) (ct : CT) (ad : Nat → Nat) (P : Nat → Nat → Option Nat) (S : US) (h : AH) (p1 : Int32) (sz : Nat) (k : Int32) (ho : t1_ring S ct P h p1 = some k) : vx_Met l yX1_ring (wsW_ yX1_ring cX1_ring 4 (some .int) [(40, 48, 51, 87)]) { frames := 7, cells := 1, slots := 6, locals := 120 } (mP D clW ct [.ref (ad (0)), .int p1] sz (GH D ct ad P (fun _ => True) S h)) nQ (tX k (nA sz)) 1 6 (nA sz) := by
  refine TH.start ho (by decide) (Nat.le_of_ble_eq_true rfl) (lv := [(0, .ref (ad (0))), (1, .int p1)]) rfl ?_
  intro p e s m args below meth c E hlk htab hsz hU ls hl
  subst hsz
  obtain ⟨⟨hx, hb, hml, hown, hts⟩, hK, hJ⟩ := id E
  have hU0 : PW ct s.heap := hU.pw
  have hA0 : ∀ q, s.heap.size ≤ q → (nA s.heap.size) q := fun q h => h
  have hS : va_S (nA s.heap.size) s.heap s.heap [] := va_S.rf
  unfold t1_ring
  refine x_iload_n hx hb dX1_ring_0 rfl (lv_at hl 1 rfl) ?_
  refine X.join2 (fun (x : Int32) g H locs => GH D ct ad P (fun _ => True) S h H ∧ va_S (nA s.heap.size) s.heap H locs ∧ ∃ ls : Array Slot, g = F0 m 17 ls [.int x] ∧ lv_has ls 4 [(0, .ref (ad (0))), (1, .int p1)]) ?_ (fun j2 hj2 => ?_)
  · rintro y1 _ H locs ⟨hU, hS, ls, rfl, hl⟩
    refine X.eqs (sp2 := t1_ring_J17 y1) rfl ?_
    unfold t1_ring_J17
    exact tkW_right E hst hU.pw hS (fun x hx => by rw [htab] at hx; cases List.mem_singleton.mp hx; rfl) hlk ⟨by decide, by decide⟩ hl.1 (Nat.le_of_ble_eq_true rfl) dX1_ring_17 ⟨Nat.le_refl _, Nat.le_refl _⟩
  · refine x_if_lt (tgt := 16) hx hb dX1_ring_1 (by decide) (fun hc => ?_) (fun hc => ?_)
    · refine x_iconst (v := 0) hx hb dX1_ring_16 (by decide) ?_
      exact hj2 (0 : Int32) _ _ _ ⟨hU, hS, _, rfl, lv_sub hl [0, 1] rfl⟩
    · refine x_iload_n hx hb dX1_ring_4 rfl (lv_at hl 1 rfl) ?_
      refine x_aload_n hx hb dX1_ring_5 rfl (lv_at hl 0 rfl) ?_
      refine gX1_71 E hU dX1_ring_6 ?_
      refine x_icmp_gt (tgt := 16) hx hb dX1_ring_9 (by decide) (fun hc => ?_) (fun hc => ?_)
      · refine x_iconst (v := 0) hx hb dX1_ring_16 (by decide) ?_
        exact hj2 (0 : Int32) _ _ _ ⟨hU, hS, _, rfl, lv_sub hl [0, 1] rfl⟩
      · refine x_iconst (v := 1) hx hb dX1_ring_12 (by decide) ?_
        refine x_goto (tgt := 17) hx hb dX1_ring_13 (by decide) ?_
        exact hj2 (1 : Int32) _ _ _ ⟨hU, hS, _, rfl, lv_sub hl [0, 1] rfl⟩

section KZ
variable {ρ : Type} {p : Program} {l : Launch} {e : Env} {R : Room} {s : State} {m : MethodId} {args : Array Value} {below : List Frame} {meth : Method} {c : Code} {H : Heap} {locs : List Loc} {Qf : ρ → State → Prop}
variable {cc : ByteArray} {pc nL L M q0 : Nat} {ls : Array Slot} {rest : List Value}
variable {D : va_G} {ct : CT} {ck : Nat → UC} {N : Nat} {ad : Nat → Nat} {P : Nat → Nat → Option Nat} {A : Nat → Prop} {S : US} {w : Int64} {G0 G : GS}
theorem kzX1_5_init {p1 : (Option Nat)} {p2 : Int32} (E : ME p m c cc nL s args RX1 D clW ct) (hZ : YC ct R s A G0) (hY : YW D clW ck ct N ad P A S w G0 G H) (hS : va_S A s.heap H locs) (hR : 5 + 1 ≤ R.frames ∧ 8 + (3 + 11) + 140 ≤ R.locals) (hsize : ls.size = nL) (hW : (rest.map fun v => v.category).sum ≤ 8) (hdg : decode cc pc = .ok (.invokespecial 80, 3)) {kp : GS → Option ρ} (kk : ∀ (o : GS) (H1 : Heap) (locs1 : List Loc), YW D clW ck ct N ad P A S w G0 o H1 → va_S A s.heap H1 locs1 → X p l e R s m args below meth c H1 locs1 (o.2.1 - G0.2.1) (o.2.2 - G0.2.2) Qf (kp o) (F0 m (pc + 3) ls (rest))) : X p l e R s m args below meth c H locs (G.2.1 - G0.2.1) (G.2.2 - G0.2.2) Qf (callK (s5_init ct G q0 p1 p2) kp) (F0 m pc ls (.int p2 :: va_rf p1 :: .ref q0 :: rest)) := gy_mx (val' := fun (o : GS) => none) (len := 3) (So := fun (o : GS) => S) (Po := fun (o : GS) => P) (Gn := fun (o : GS) => o) hZ hY hS (fun o ho => rqI (As := [va_rf p1, .int p2]) E hY.1.any (by rw [hY.1.2.1]; exact mY5_init l D ct ck N ad P S w G q0 p1 p2 o ho) ⟨callB_of 2 E.1.2.2.2.2 (lw_meth q770) rfl rfl rfl (E.1.2.2.2.2 _ q124) (E.1.2.2.2.2 _ q768) (by decide +kernel) hR, rfl, E.1.2.2.2.2 _ q769⟩ rfl hsize rfl hW hdg (hY.room hZ)) kk
end KZ

set_option maxHeartbeats 4000000 in
theorem mW1_ring (l : Launch) (hst : l.stackTraces = false) (D : va_G) (ct : CT) (ad : Nat → Nat) (P : Nat → Nat → Option Nat) (S : US) (G0 : GS) (p1 : Int32) (o : (Int32 × US × GS × (Nat → Nat → Option Nat) × (Nat → Nat))) (ho : s1_ring ct ad P S G0 p1 = some o) : vx_Met l yX1_ring (wsW_ yX1_ring cX1_ring 4 (some .int) [(40, 48, 51, 87)]) { frames := 109, cells := nmax ct - G0.2.1, slots := zmax ct - G0.2.2, locals := 2285 } (mP D clW ct [.ref (ad (0)), .int p1] G0.2.1 (MW D clW ckH ct 26 ad P (fun _ => True) S 0 G0)) (yC (some (.int o.1)) (MW D clW ckH ct 26 o.2.2.2.2 o.2.2.2.1 (mA 26 ad G0) o.2.1 0 o.2.2.1) G0 o.2.2.1 (mA 26 ad G0)) nX (nmax ct - G0.2.1) (zmax ct - G0.2.2) (mA 26 ad G0) := by
  refine YH.start (val := fun (o : (Int32 × US × GS × (Nat → Nat → Option Nat) × (Nat → Nat))) => some (.int o.1)) (Bt := fun (o : (Int32 × US × GS × (Nat → Nat → Option Nat) × (Nat → Nat))) => MW D clW ckH ct 26 o.2.2.2.2 o.2.2.2.1 (mA 26 ad G0) o.2.1 0 o.2.2.1) (Go := fun (o : (Int32 × US × GS × (Nat → Nat → Option Nat) × (Nat → Nat))) => o.2.2.1) ho (by decide) (Nat.le_of_ble_eq_true rfl) (lv := [(0, .ref (ad (0))), (1, .int p1)]) rfl ?_
  intro p e s m args below meth c E hr hlk hnm htab hZ hU hS ls hl
  obtain ⟨⟨hx, hb, hml, hown, hts⟩, hK, hJ⟩ := id E
  unfold s1_ring
  refine x_iload_n hx hb dX1_ring_0 rfl (lv_at hl 1 rfl) ?_
  refine X.join2Y (fun (x : Int32) g H locs => YW D clW ckH ct 26 ad P (mA 26 ad G0) S 0 G0 G0 H ∧ va_S (mA 26 ad G0) s.heap H locs ∧ ∃ ls : Array Slot, g = F0 m 17 ls [.int x] ∧ lv_has ls 4 [(0, .ref (ad (0))), (1, .int p1)]) (fun (x : Int32) => G0.2.1 - G0.2.1) (fun (x : Int32) => G0.2.2 - G0.2.2) ?_ (fun j2 hj2 => ?_)
  · rintro y1 _ H locs ⟨hU, hS, ls, rfl, hl⟩
    refine X.cs (cells2 := G0.2.1 - G0.2.1) (slots2 := G0.2.2 - G0.2.2) rfl rfl ?_
    refine X.eqs (sp2 := s1_ring_J17 p1 S P ad G0 ct y1) rfl ?_
    unfold s1_ring_J17
    refine kzX1_1_right E hZ hU hS ⟨Nat.le_of_ble_eq_true rfl, Nat.le_of_ble_eq_true rfl⟩ hl.1 (Nat.le_of_ble_eq_true rfl) dX1_ring_17 (fun o3 H locs hU hS => ?_)
    refine x_aload_n hx hb dX1_ring_20 rfl (lv_at hl 0 rfl) ?_
    refine x_iconst (v := 0) hx hb dX1_ring_21 (by decide) ?_
    refine pX1_71 E hU.1.1 hS dX1_ring_22 (fun S4 H locs hG_ hS hz_ => ?_)
    replace hU := hU.gw hG_ hz_.1
    refine x_aload_n hx hb dX1_ring_25 rfl (lv_at hl 0 rfl) ?_
    refine x_iconst (v := -1) hx hb dX1_ring_26 (by decide) ?_
    refine pX1_54 E hU.1.1 hS dX1_ring_27 (fun S5 H locs hG_ hS hz_ => ?_)
    replace hU := hU.gw hG_ hz_.1
    refine gy_new (ty := tyX5) E hZ hU hS in_X5 tyX5_ok (hts _ q766) (hts _ q767) (hts _ q124) (ci := 4) rfl (by decide) dX1_ring_30 (fun q6 G7 H hU hS => ?_)
    refine x_dup hx hb dX1_ring_33 rfl ?_
    refine x_aload_n hx hb dX1_ring_34 rfl (lv_at hl 0 rfl) ?_
    refine x_iload_n hx hb dX1_ring_35 rfl (lv_at hl 1 rfl) ?_
    refine kzX1_5_init E hZ hU hS ⟨Nat.le_of_ble_eq_true rfl, Nat.le_of_ble_eq_true rfl⟩ hl.1 (Nat.le_of_ble_eq_true rfl) dX1_ring_36 (fun o8 H locs hU hS => ?_)
    refine x_astore_n (lv' := [(2, .ref q6), (0, .ref (ad (0))), (1, .int p1)]) hx hb dX1_ring_39 rfl hl (by decide) rfl (fun ls hl => ?_)
    refine x_aload_n hx hb dX1_ring_40 rfl (lv_at hl 1 rfl) ?_
    refine x_aload_n hx hb dX1_ring_41 rfl (lv_at hl 0 rfl) ?_
    refine X.tB (X.hC fun fs_ bw_ hq_ => uy_catch (x := ⟨40, 48, 51, 87⟩) E hZ hU hS (fun o ho => rtV (As := []) E hU.1.any (recvA E.2.1 hU.1.1.2.1 hq_ rfl) (by rw [hU.1.2.1]; exact mU5_read l D ct ad P S5 o8 q6 o ho) (cwV 0 E.1.2.2.2.2 (lw_V q830 q831 q832 q124 q833) rfl rfl rfl (by decide +kernel) ⟨Nat.le_of_ble_eq_true rfl, Nat.le_of_ble_eq_true rfl⟩) rfl hl.1 rfl (Nat.le_of_ble_eq_true rfl) dX1_ring_42 (hU.room hZ)) htab rfl (by decide) (hts _ q698) (hJ.at q964 rfl) (fun x9 H locs hU hS => ?_)) ?_
    · refine x_astore_n (lv' := [(3, .ref x9.1), (2, .ref q6), (0, .ref (ad (0))), (1, .int p1)]) hx hb dX1_ring_51 rfl hl (by decide) rfl (fun ls hl => ?_)
      refine x_aload_n hx hb dX1_ring_52 rfl (lv_at hl 2 rfl) ?_
      refine x_aload_n hx hb dX1_ring_53 rfl (lv_at hl 1 rfl) ?_
      refine fx_getIN E hU.1.1.2.1 (ci := 4) rfl in_X5 7 (by decide) (hJ.at q797 rfl) (fun _ h => h) dX1_ring_54 (fun v10 => ?_)
      refine pX1_54 E hU.1.1 hS dX1_ring_57 (fun S11 H locs hG_ hS hz_ => ?_)
      replace hU := hU.gw hG_ hz_.1
      refine x_aload_n hx hb dX1_ring_60 rfl (lv_at hl 2 rfl) ?_
      refine gX1_58 E hU.1.1 dX1_ring_61 ?_
      refine x_iconst (v := 0) hx hb dX1_ring_64 (by decide) ?_
      refine x_dup2_11 hx hb dX1_ring_65 rfl rfl ?_
      refine ux_ald (i := 4) (n := 3) E hU.1.1.1 (by decide) rfl dX1_ring_66 ?_
      refine x_iconst (v := 1) hx hb dX1_ring_67 (by decide) ?_
      refine x_iadd hx hb dX1_ring_68 ?_
      refine gx_ast (i := 4) (n := 3) E hU.1.1 hS (by decide) rfl dX1_ring_69 (fun S12 H locs hG_ hS hz_ => ?_)
      replace hU := hU.gw hG_ hz_.1
      refine x_aload_n hx hb dX1_ring_70 rfl (lv_at hl 0 rfl) ?_
      refine fx_getIN E hU.1.1.2.1 (ci := 5) rfl in_X6 6 (by decide) (hJ.at q981 rfl) (fun _ h => h) dX1_ring_71 (fun v13 => ?_)
      exact y_iret hx hb hr hlk hZ hU hS rfl rfl hU.1 dX1_ring_74
    refine kzX1_5_read E hZ hU hS ⟨Nat.le_of_ble_eq_true rfl, Nat.le_of_ble_eq_true rfl⟩ hl.1 (Nat.le_of_ble_eq_true rfl) dX1_ring_42 (fun o14 H locs hU hS => ?_)
    refine X.onR (fun b15 hb_ => ?_)
    rw [hb_]
    try rw [hb_] at hl
    refine gy_putD (I := [1]) (nw := (fun _ => b15)) (j0 := 1) E hU hS rfl in_X1 tyX1_ok nmX1 1 (by decide) rfl (hts _ q269) (fun _ h => h) rfl (b := b15) rfl rfl rfl dX1_ring_45 (by decide) (by decide) (by decide) (by decide) (by decide) (fun S16 G17 P18 d19 H locs hd_ hU hS => ?_)
    try rw [← hd_]
    rw [← hd_] at hl
    refine x_goto (tgt := 75) hx hb dX1_ring_48 (by decide) ?_
    refine x_aload_n hx hb dX1_ring_75 rfl (lv_at hl 1 rfl) ?_
    refine x_aload_n hx hb dX1_ring_76 rfl (lv_at hl 0 rfl) ?_
    refine fx_getRN E hU.1.1.2.1 (ci := 4) rfl in_X5 2 (by decide) (hJ.at q791 rfl) (fun _ h => h) dX1_ring_77 (fun r20 => ?_)
    refine X.onR (fun b21 hb_ => ?_)
    subst hb_
    refine gy_putD (I := iL) (nw := (nwL G17 b21)) (j0 := 5) E hU hS rfl in_X1 tyX1_ok nmX1 2 (by decide) rfl (hts _ q270) (fun _ h => h) rfl (b := b21) rfl rfl rfl dX1_ring_80 (by decide) (by decide) (by decide) (by decide) (by decide) (fun S22 G23 P24 d25 H locs hd_ hU hS => ?_)
    try rw [← hd_]
    rw [← hd_] at hl
    refine x_aload_n hx hb dX1_ring_83 rfl (lv_at hl 1 rfl) ?_
    refine gy_new (ty := tyJ2) E hZ hU hS in_J2 tyJ2_ok (hts _ q264) (hts _ q164) (hts _ q117) (ci := 10) rfl (by decide) dX1_ring_84 (fun q26 G27 H hU hS => ?_)
    refine x_dup hx hb dX1_ring_87 rfl ?_
    refine kzX1_L_init E hZ hU hS ⟨Nat.le_of_ble_eq_true rfl, Nat.le_of_ble_eq_true rfl⟩ hl.1 (Nat.le_of_ble_eq_true rfl) dX1_ring_88 (fun o28 H locs hU hS => ?_)
    refine gy_putP (i := 0) (r := (some q26)) E hU hS (by decide) rfl rfl in_X1 tyX1_ok nmX1 9 (by decide) rfl (hts _ q278) (fun _ h => h) rfl rfl rfl dX1_ring_91 (fun P29 H locs hU hS => ?_)
    refine x_aload_n hx hb dX1_ring_94 rfl (lv_at hl 1 rfl) ?_
    refine gy_new (ty := tyJ2) E hZ hU hS in_J2 tyJ2_ok (hts _ q264) (hts _ q164) (hts _ q117) (ci := 10) rfl (by decide) dX1_ring_95 (fun q30 G31 H hU hS => ?_)
    refine x_dup hx hb dX1_ring_98 rfl ?_
    refine kzX1_L_init E hZ hU hS ⟨Nat.le_of_ble_eq_true rfl, Nat.le_of_ble_eq_true rfl⟩ hl.1 (Nat.le_of_ble_eq_true rfl) dX1_ring_99 (fun o32 H locs hU hS => ?_)
    refine gy_putP (i := 0) (r := (some q30)) E hU hS (by decide) rfl rfl in_X1 tyX1_ok nmX1 10 (by decide) rfl (hts _ q279) (fun _ h => h) rfl rfl rfl dX1_ring_102 (fun P33 H locs hU hS => ?_)
    refine x_aload_n hx hb dX1_ring_105 rfl (lv_at hl 1 rfl) ?_
    refine x_null hx hb dX1_ring_106 ?_
    refine gy_putP (i := 0) (r := none) E hU hS (by decide) rfl rfl in_X1 tyX1_ok nmX1 11 (by decide) rfl (hts _ q280) (fun _ h => h) rfl rfl rfl dX1_ring_107 (fun P34 H locs hU hS => ?_)
    refine x_iconst (v := 0) hx hb dX1_ring_110 (by decide) ?_
    exact y_iret hx hb hr hlk hZ hU hS rfl rfl hU.1 dX1_ring_111
  · refine x_if_lt (tgt := 16) hx hb dX1_ring_1 (by decide) (fun hc => ?_) (fun hc => ?_)
    · refine x_iconst (v := 0) hx hb dX1_ring_16 (by decide) ?_
      exact hj2 (0 : Int32) _ _ _ ⟨hU, hS, _, rfl, lv_sub hl [0, 1] rfl⟩
    · refine x_iload_n hx hb dX1_ring_4 rfl (lv_at hl 1 rfl) ?_
      refine x_aload_n hx hb dX1_ring_5 rfl (lv_at hl 0 rfl) ?_
      refine gX1_71 E hU.1.1 dX1_ring_6 ?_
      refine x_icmp_gt (tgt := 16) hx hb dX1_ring_9 (by decide) (fun hc => ?_) (fun hc => ?_)
      · refine x_iconst (v := 0) hx hb dX1_ring_16 (by decide) ?_
        exact hj2 (0 : Int32) _ _ _ ⟨hU, hS, _, rfl, lv_sub hl [0, 1] rfl⟩
      · refine x_iconst (v := 1) hx hb dX1_ring_12 (by decide) ?_
        refine x_goto (tgt := 17) hx hb dX1_ring_13 (by decide) ?_
        exact hj2 (1 : Int32) _ _ _ ⟨hU, hS, _, rfl, lv_sub hl [0, 1] rfl⟩

section KW
variable {ρ : Type} {p : Program} {l : Launch} {e : Env} {R : Room} {s : State} {m : MethodId} {args : Array Value} {below : List Frame} {meth : Method} {c : Code} {H : Heap} {locs : List Loc} {Qf : ρ → State → Prop}
variable {cc : ByteArray} {pc nL L M q0 : Nat} {ls : Array Slot} {rest : List Value}
variable {D : va_G} {ct : CT} {ck : Nat → UC} {N : Nat} {ad : Nat → Nat} {P : Nat → Nat → Option Nat} {A : Nat → Prop} {S : US} {w : Int64} {G0 G : GS}
theorem kzX0_1_ring {p1 : Int32} (hst : l.stackTraces = false) (E : ME p m c cc nL s args RX0 D clW ct) (hZ : YC ct R s A G0) (hY : YW D clW ckH ct 26 ad P A S 0 G0 G H) (hS : va_S A s.heap H locs) (hR : 109 + 1 ≤ R.frames ∧ 8 + (4 + 11) + 2285 ≤ R.locals) (hsize : ls.size = nL) (hW : (rest.map fun v => v.category).sum ≤ 8) (hdg : decode cc pc = .ok (.invokevirtual 7, 3)) {kp : (Int32 × US × GS × (Nat → Nat → Option Nat) × (Nat → Nat)) → Option ρ} (kk : ∀ (o : (Int32 × US × GS × (Nat → Nat → Option Nat) × (Nat → Nat))) (H1 : Heap) (locs1 : List Loc), YW D clW ckH ct 26 o.2.2.2.2 o.2.2.2.1 A o.2.1 0 G0 o.2.2.1 H1 → va_S A s.heap H1 locs1 → X p l e R s m args below meth c H1 locs1 (o.2.2.1.2.1 - G0.2.1) (o.2.2.1.2.2 - G0.2.2) Qf (kp o) (F0 m (pc + 3) ls (.int o.1 :: rest))) : X p l e R s m args below meth c H locs (G.2.1 - G0.2.1) (G.2.2 - G0.2.2) Qf (callK (s1_ring ct ad P S G p1) kp) (F0 m pc ls (.int p1 :: .ref (ad (0)) :: rest)) := gy_mxD (val' := fun (o : (Int32 × US × GS × (Nat → Nat → Option Nat) × (Nat → Nat))) => some (.int o.1)) (len := 3) (So := fun (o : (Int32 × US × GS × (Nat → Nat → Option Nat) × (Nat → Nat))) => o.2.1) (Po := fun (o : (Int32 × US × GS × (Nat → Nat → Option Nat) × (Nat → Nat))) => o.2.2.2.1) (Do := fun (o : (Int32 × US × GS × (Nat → Nat → Option Nat) × (Nat → Nat))) => o.2.2.2.2) (Gn := fun (o : (Int32 × US × GS × (Nat → Nat → Option Nat) × (Nat → Nat))) => o.2.2.1) hZ hY hS (fun o ho => rt_L (rtVX (As := [.int p1]) (hh := [(40, 48, 51, 87)]) E hY.1.any (recvU (i := 0) E.2.1 hY.1.1.1 (by decide) rfl rfl) (by rw [hY.1.2.1]; exact mW1_ring l hst D ct ad P S G p1 o ho) (vx_cwVW 1 E.1.2.2.2.2 (lw_VW q694 q695 q696 q113 q697) rfl rfl rfl (by decide +kernel) hR) rfl hsize rfl hW hdg (hY.room hZ))) kk
end KW

section KV
variable {ρ : Type} {p : Program} {l : Launch} {e : Env} {R : Room} {s : State} {m : MethodId} {args : Array Value} {below : List Frame} {meth : Method} {c : Code} {H : Heap} {locs : List Loc} {Qf : ρ → State → Prop}
variable {cc : ByteArray} {pc nL L M q0 : Nat} {ls : Array Slot} {rest : List Value}
variable {D : va_G} {ct : CT} {ck : Nat → UC} {N : Nat} {ad : Nat → Nat} {P : Nat → Nat → Option Nat} {A : Nat → Prop} {S : US} {w : Int64} {G0 G : GS}
theorem kzX0_1_count {p1 : Int32} (E : ME p m c cc nL s args RX0 D clW ct) (hZ : YC ct R s A G0) (hY : YW D clW ckH ct 26 ad P A S 0 G0 G H) (hS : va_S A s.heap H locs) (hR : 5 + 1 ≤ R.frames ∧ 8 + (2 + 11) + 125 ≤ R.locals) (hsize : ls.size = nL) (hW : (rest.map fun v => v.category).sum ≤ 8) (hdg : decode cc pc = .ok (.invokevirtual 15, 3)) {kp : Int32 → Option ρ} (kk : ∀ (o : Int32) (H1 : Heap) (locs1 : List Loc), YW D clW ckH ct 26 ad P A S 0 G0 G H1 → va_S A s.heap H1 locs1 → X p l e R s m args below meth c H1 locs1 (G.2.1 - G0.2.1) (G.2.2 - G0.2.2) Qf (kp o) (F0 m (pc + 3) ls (.int o :: rest))) : X p l e R s m args below meth c H locs (G.2.1 - G0.2.1) (G.2.2 - G0.2.2) Qf (callK (s1_count S P G.1 p1) kp) (F0 m pc ls (.int p1 :: .ref (ad (0)) :: rest)) := gy_ro (val' := fun (o : Int32) => some (.int o)) (len := 3) hZ hY hS (fun o ho => rqV (As := [.int p1]) E (hY.1.1.to fun _ _ => trivial) (recvU (i := 0) E.2.1 hY.1.1.1 (by decide) rfl rfl) (mH1_count l D ct ad P S G.1 p1 _ o ho) (cwV 1 E.1.2.2.2.2 (lw_V q1367 q1368 q1369 q113 q1370) rfl rfl rfl (by decide +kernel) hR) rfl hsize rfl hW hdg (hY.room0 hZ)) kk
theorem kzX0_1_stretch {p1 : Int32} {p2 : Int32} (E : ME p m c cc nL s args RX0 D clW ct) (hZ : YC ct R s A G0) (hY : YW D clW ckH ct 26 ad P A S 0 G0 G H) (hS : va_S A s.heap H locs) (hR : 502 + 1 ≤ R.frames ∧ 8 + (3 + 11) + 20044 ≤ R.locals) (hsize : ls.size = nL) (hW : (rest.map fun v => v.category).sum ≤ 8) (hdg : decode cc pc = .ok (.invokevirtual 20, 3)) {kp : (Int32 × US) → Option ρ} (kk : ∀ (o : (Int32 × US)) (H1 : Heap) (locs1 : List Loc), YW D clW ckH ct 26 ad P A o.2 0 G0 G H1 → va_S A s.heap H1 locs1 → X p l e R s m args below meth c H1 locs1 (G.2.1 - G0.2.1) (G.2.2 - G0.2.2) Qf (kp o) (F0 m (pc + 3) ls (.int o.1 :: rest))) : X p l e R s m args below meth c H locs (G.2.1 - G0.2.1) (G.2.2 - G0.2.2) Qf (callK (s1_stretch S ct P G.1 p1 p2) kp) (F0 m pc ls (.int p2 :: .int p1 :: .ref (ad (0)) :: rest)) := gy_mod (val' := fun (o : (Int32 × US)) => some (.int o.1)) (len := 3) (So := fun (o : (Int32 × US)) => o.2) hZ hY hS (fun o ho => rqV (As := [.int p1, .int p2]) E (hY.1.1.to fun _ _ => trivial) (recvU (i := 0) E.2.1 hY.1.1.1 (by decide) rfl rfl) (mH1_stretch l D ct ad P S G.1 p1 p2 _ o ho) (cwV 2 E.1.2.2.2.2 (lw_V q1406 q1407 q1408 q113 q1409) rfl rfl rfl (by decide +kernel) hR) rfl hsize rfl hW hdg (hY.room0 hZ)) kk
theorem kzX0_1_woman {p1 : Int32} {p2 : Int32} (E : ME p m c cc nL s args RX0 D clW ct) (hZ : YC ct R s A G0) (hY : YW D clW ckH ct 26 ad P A S 0 G0 G H) (hS : va_S A s.heap H locs) (hR : 4 + 1 ≤ R.frames ∧ 8 + (3 + 11) + 104 ≤ R.locals) (hsize : ls.size = nL) (hW : (rest.map fun v => v.category).sum ≤ 8) (hdg : decode cc pc = .ok (.invokevirtual 24, 3)) {kp : Int32 → Option ρ} (kk : ∀ (o : Int32) (H1 : Heap) (locs1 : List Loc), YW D clW ckH ct 26 ad P A S 0 G0 G H1 → va_S A s.heap H1 locs1 → X p l e R s m args below meth c H1 locs1 (G.2.1 - G0.2.1) (G.2.2 - G0.2.2) Qf (kp o) (F0 m (pc + 3) ls (.int o :: rest))) : X p l e R s m args below meth c H locs (G.2.1 - G0.2.1) (G.2.2 - G0.2.2) Qf (callK (s1_woman S P G.1 p1 p2) kp) (F0 m pc ls (.int p2 :: .int p1 :: .ref (ad (0)) :: rest)) := gy_ro (val' := fun (o : Int32) => some (.int o)) (len := 3) hZ hY hS (fun o ho => rqV (As := [.int p1, .int p2]) E (hY.1.1.to fun _ _ => trivial) (recvU (i := 0) E.2.1 hY.1.1.1 (by decide) rfl rfl) (mH1_woman l D ct ad P S G.1 p1 p2 _ o ho) (cwV 2 E.1.2.2.2.2 (lw_V q1419 q1420 q1421 q113 q1422) rfl rfl rfl (by decide +kernel) hR) rfl hsize rfl hW hdg (hY.room0 hZ)) kk
theorem kzX0_1_mend {p1 : Int32} (E : ME p m c cc nL s args RX0 D clW ct) (hZ : YC ct R s A G0) (hY : YW D clW ckH ct 26 ad P A S 0 G0 G H) (hS : va_S A s.heap H locs) (hR : 8 + 1 ≤ R.frames ∧ 8 + (2 + 11) + 211 ≤ R.locals) (hsize : ls.size = nL) (hW : (rest.map fun v => v.category).sum ≤ 8) (hdg : decode cc pc = .ok (.invokevirtual 27, 3)) {kp : (Int32 × US × GS) → Option ρ} (kk : ∀ (o : (Int32 × US × GS)) (H1 : Heap) (locs1 : List Loc), YW D clW ckH ct 26 ad P A o.2.1 0 G0 o.2.2 H1 → va_S A s.heap H1 locs1 → X p l e R s m args below meth c H1 locs1 (o.2.2.2.1 - G0.2.1) (o.2.2.2.2 - G0.2.2) Qf (kp o) (F0 m (pc + 3) ls (.int o.1 :: rest))) : X p l e R s m args below meth c H locs (G.2.1 - G0.2.1) (G.2.2 - G0.2.2) Qf (callK (s1_mend ct ad P S G p1) kp) (F0 m pc ls (.int p1 :: .ref (ad (0)) :: rest)) := gy_mx (val' := fun (o : (Int32 × US × GS)) => some (.int o.1)) (len := 3) (So := fun (o : (Int32 × US × GS)) => o.2.1) (Po := fun (o : (Int32 × US × GS)) => P) (Gn := fun (o : (Int32 × US × GS)) => o.2.2) hZ hY hS (fun o ho => rqV (As := [.int p1]) E hY.1.any (recvU (i := 0) E.2.1 hY.1.1.1 (by decide) rfl rfl) (by rw [hY.1.2.1]; exact mY1_mend l D ct ad P S G p1 o ho) (cwV 1 E.1.2.2.2.2 (lw_V q1437 q1438 q1439 q113 q1440) rfl rfl rfl (by decide +kernel) hR) rfl hsize rfl hW hdg (hY.room hZ)) kk
theorem kzX0_1_go {p1 : Int32} {p2 : Int32} (E : ME p m c cc nL s args RX0 D clW ct) (hZ : YC ct R s A G0) (hY : YW D clW ckH ct 26 ad P A S 0 G0 G H) (hS : va_S A s.heap H locs) (hR : 8 + 1 ≤ R.frames ∧ 8 + (4 + 11) + 211 ≤ R.locals) (hsize : ls.size = nL) (hW : (rest.map fun v => v.category).sum ≤ 8) (hdg : decode cc pc = .ok (.invokevirtual 30, 3)) {kp : (Int32 × US × GS) → Option ρ} (kk : ∀ (o : (Int32 × US × GS)) (H1 : Heap) (locs1 : List Loc), YW D clW ckH ct 26 ad P A o.2.1 0 G0 o.2.2 H1 → va_S A s.heap H1 locs1 → X p l e R s m args below meth c H1 locs1 (o.2.2.2.1 - G0.2.1) (o.2.2.2.2 - G0.2.2) Qf (kp o) (F0 m (pc + 3) ls (.int o.1 :: rest))) : X p l e R s m args below meth c H locs (G.2.1 - G0.2.1) (G.2.2 - G0.2.2) Qf (callK (s1_go ct ad P S G p1 p2) kp) (F0 m pc ls (.int p2 :: .int p1 :: .ref (ad (0)) :: rest)) := gy_mx (val' := fun (o : (Int32 × US × GS)) => some (.int o.1)) (len := 3) (So := fun (o : (Int32 × US × GS)) => o.2.1) (Po := fun (o : (Int32 × US × GS)) => P) (Gn := fun (o : (Int32 × US × GS)) => o.2.2) hZ hY hS (fun o ho => rqV (As := [.int p1, .int p2]) E hY.1.any (recvU (i := 0) E.2.1 hY.1.1.1 (by decide) rfl rfl) (by rw [hY.1.2.1]; exact mY1_go l D ct ad P S G p1 p2 o ho) (cwV 2 E.1.2.2.2.2 (lw_V q1445 q1446 q1447 q113 q1448) rfl rfl rfl (by decide +kernel) hR) rfl hsize rfl hW hdg (hY.room hZ)) kk
theorem kzX0_1_stitch {p1 : Int32} {p2 : Int32} (E : ME p m c cc nL s args RX0 D clW ct) (hZ : YC ct R s A G0) (hY : YW D clW ckH ct 26 ad P A S 0 G0 G H) (hS : va_S A s.heap H locs) (hR : 8 + 1 ≤ R.frames ∧ 8 + (4 + 11) + 211 ≤ R.locals) (hsize : ls.size = nL) (hW : (rest.map fun v => v.category).sum ≤ 8) (hdg : decode cc pc = .ok (.invokevirtual 33, 3)) {kp : (Int32 × US × GS) → Option ρ} (kk : ∀ (o : (Int32 × US × GS)) (H1 : Heap) (locs1 : List Loc), YW D clW ckH ct 26 ad P A o.2.1 0 G0 o.2.2 H1 → va_S A s.heap H1 locs1 → X p l e R s m args below meth c H1 locs1 (o.2.2.2.1 - G0.2.1) (o.2.2.2.2 - G0.2.2) Qf (kp o) (F0 m (pc + 3) ls (.int o.1 :: rest))) : X p l e R s m args below meth c H locs (G.2.1 - G0.2.1) (G.2.2 - G0.2.2) Qf (callK (s1_stitch ct ad P S G p1 p2) kp) (F0 m pc ls (.int p2 :: .int p1 :: .ref (ad (0)) :: rest)) := gy_mx (val' := fun (o : (Int32 × US × GS)) => some (.int o.1)) (len := 3) (So := fun (o : (Int32 × US × GS)) => o.2.1) (Po := fun (o : (Int32 × US × GS)) => P) (Gn := fun (o : (Int32 × US × GS)) => o.2.2) hZ hY hS (fun o ho => rqV (As := [.int p1, .int p2]) E hY.1.any (recvU (i := 0) E.2.1 hY.1.1.1 (by decide) rfl rfl) (by rw [hY.1.2.1]; exact mY1_stitch l D ct ad P S G p1 p2 o ho) (cwV 2 E.1.2.2.2.2 (lw_V q1452 q1453 q1454 q113 q1455) rfl rfl rfl (by decide +kernel) hR) rfl hsize rfl hW hdg (hY.room hZ)) kk
theorem kzX0_1_thread {p1 : Int32} {p2 : Int32} (E : ME p m c cc nL s args RX0 D clW ct) (hZ : YC ct R s A G0) (hY : YW D clW ckH ct 26 ad P A S 0 G0 G H) (hS : va_S A s.heap H locs) (hR : 8 + 1 ≤ R.frames ∧ 8 + (3 + 11) + 211 ≤ R.locals) (hsize : ls.size = nL) (hW : (rest.map fun v => v.category).sum ≤ 8) (hdg : decode cc pc = .ok (.invokevirtual 36, 3)) {kp : (Int32 × US × GS) → Option ρ} (kk : ∀ (o : (Int32 × US × GS)) (H1 : Heap) (locs1 : List Loc), YW D clW ckH ct 26 ad P A o.2.1 0 G0 o.2.2 H1 → va_S A s.heap H1 locs1 → X p l e R s m args below meth c H1 locs1 (o.2.2.2.1 - G0.2.1) (o.2.2.2.2 - G0.2.2) Qf (kp o) (F0 m (pc + 3) ls (.int o.1 :: rest))) : X p l e R s m args below meth c H locs (G.2.1 - G0.2.1) (G.2.2 - G0.2.2) Qf (callK (s1_thread ct ad P S G p1 p2) kp) (F0 m pc ls (.int p2 :: .int p1 :: .ref (ad (0)) :: rest)) := gy_mx (val' := fun (o : (Int32 × US × GS)) => some (.int o.1)) (len := 3) (So := fun (o : (Int32 × US × GS)) => o.2.1) (Po := fun (o : (Int32 × US × GS)) => P) (Gn := fun (o : (Int32 × US × GS)) => o.2.2) hZ hY hS (fun o ho => rqV (As := [.int p1, .int p2]) E hY.1.any (recvU (i := 0) E.2.1 hY.1.1.1 (by decide) rfl rfl) (by rw [hY.1.2.1]; exact mY1_thread l D ct ad P S G p1 p2 o ho) (cwV 2 E.1.2.2.2.2 (lw_V q1459 q1460 q1461 q113 q1462) rfl rfl rfl (by decide +kernel) hR) rfl hsize rfl hW hdg (hY.room hZ)) kk
theorem kzX0_1_tear {p1 : Int32} {p2 : Int32} (E : ME p m c cc nL s args RX0 D clW ct) (hZ : YC ct R s A G0) (hY : YW D clW ckH ct 26 ad P A S 0 G0 G H) (hS : va_S A s.heap H locs) (hR : 8 + 1 ≤ R.frames ∧ 8 + (3 + 11) + 211 ≤ R.locals) (hsize : ls.size = nL) (hW : (rest.map fun v => v.category).sum ≤ 8) (hdg : decode cc pc = .ok (.invokevirtual 39, 3)) {kp : (Int32 × US × GS) → Option ρ} (kk : ∀ (o : (Int32 × US × GS)) (H1 : Heap) (locs1 : List Loc), YW D clW ckH ct 26 ad P A o.2.1 0 G0 o.2.2 H1 → va_S A s.heap H1 locs1 → X p l e R s m args below meth c H1 locs1 (o.2.2.2.1 - G0.2.1) (o.2.2.2.2 - G0.2.2) Qf (kp o) (F0 m (pc + 3) ls (.int o.1 :: rest))) : X p l e R s m args below meth c H locs (G.2.1 - G0.2.1) (G.2.2 - G0.2.2) Qf (callK (s1_tear ct ad P S G p1 p2) kp) (F0 m pc ls (.int p2 :: .int p1 :: .ref (ad (0)) :: rest)) := gy_mx (val' := fun (o : (Int32 × US × GS)) => some (.int o.1)) (len := 3) (So := fun (o : (Int32 × US × GS)) => o.2.1) (Po := fun (o : (Int32 × US × GS)) => P) (Gn := fun (o : (Int32 × US × GS)) => o.2.2) hZ hY hS (fun o ho => rqV (As := [.int p1, .int p2]) E hY.1.any (recvU (i := 0) E.2.1 hY.1.1.1 (by decide) rfl rfl) (by rw [hY.1.2.1]; exact mY1_tear l D ct ad P S G p1 p2 o ho) (cwV 2 E.1.2.2.2.2 (lw_V q1466 q1467 q1468 q113 q1469) rfl rfl rfl (by decide +kernel) hR) rfl hsize rfl hW hdg (hY.room hZ)) kk
theorem kzX0_1_then {p1 : Int32} {p2 : Int32} {p3 : Int32} (E : ME p m c cc nL s args RX0 D clW ct) (hZ : YC ct R s A G0) (hY : YW D clW ckH ct 26 ad P A S 0 G0 G H) (hS : va_S A s.heap H locs) (hR : 505 + 1 ≤ R.frames ∧ 8 + (4 + 11) + 20108 ≤ R.locals) (hsize : ls.size = nL) (hW : (rest.map fun v => v.category).sum ≤ 8) (hdg : decode cc pc = .ok (.invokevirtual 42, 3)) {kp : (Int32 × US) → Option ρ} (kk : ∀ (o : (Int32 × US)) (H1 : Heap) (locs1 : List Loc), YW D clW ckH ct 26 ad P A o.2 0 G0 G H1 → va_S A s.heap H1 locs1 → X p l e R s m args below meth c H1 locs1 (G.2.1 - G0.2.1) (G.2.2 - G0.2.2) Qf (kp o) (F0 m (pc + 3) ls (.int o.1 :: rest))) : X p l e R s m args below meth c H locs (G.2.1 - G0.2.1) (G.2.2 - G0.2.2) Qf (callK (s1_then S ct P G.1 p1 p2 p3) kp) (F0 m pc ls (.int p3 :: .int p2 :: .int p1 :: .ref (ad (0)) :: rest)) := gy_mod (val' := fun (o : (Int32 × US)) => some (.int o.1)) (len := 3) (So := fun (o : (Int32 × US)) => o.2) hZ hY hS (fun o ho => rqV (As := [.int p1, .int p2, .int p3]) E (hY.1.1.to fun _ _ => trivial) (recvU (i := 0) E.2.1 hY.1.1.1 (by decide) rfl rfl) (mH1_then l D ct ad P S G.1 p1 p2 p3 _ o ho) (cwV 3 E.1.2.2.2.2 (lw_V q1474 q1475 q1476 q113 q1477) rfl rfl rfl (by decide +kernel) hR) rfl hsize rfl hW hdg (hY.room0 hZ)) kk
theorem kzX0_1_later {p1 : Int32} {p2 : Int32} (E : ME p m c cc nL s args RX0 D clW ct) (hZ : YC ct R s A G0) (hY : YW D clW ckH ct 26 ad P A S 0 G0 G H) (hS : va_S A s.heap H locs) (hR : 505 + 1 ≤ R.frames ∧ 8 + (3 + 11) + 20108 ≤ R.locals) (hsize : ls.size = nL) (hW : (rest.map fun v => v.category).sum ≤ 8) (hdg : decode cc pc = .ok (.invokevirtual 46, 3)) {kp : (Int32 × US) → Option ρ} (kk : ∀ (o : (Int32 × US)) (H1 : Heap) (locs1 : List Loc), YW D clW ckH ct 26 ad P A o.2 0 G0 G H1 → va_S A s.heap H1 locs1 → X p l e R s m args below meth c H1 locs1 (G.2.1 - G0.2.1) (G.2.2 - G0.2.2) Qf (kp o) (F0 m (pc + 3) ls (.int o.1 :: rest))) : X p l e R s m args below meth c H locs (G.2.1 - G0.2.1) (G.2.2 - G0.2.2) Qf (callK (s1_later S ct P G.1 p1 p2) kp) (F0 m pc ls (.int p2 :: .int p1 :: .ref (ad (0)) :: rest)) := gy_mod (val' := fun (o : (Int32 × US)) => some (.int o.1)) (len := 3) (So := fun (o : (Int32 × US)) => o.2) hZ hY hS (fun o ho => rqV (As := [.int p1, .int p2]) E (hY.1.1.to fun _ _ => trivial) (recvU (i := 0) E.2.1 hY.1.1.1 (by decide) rfl rfl) (mH1_later l D ct ad P S G.1 p1 p2 _ o ho) (cwV 2 E.1.2.2.2.2 (lw_V q1485 q1486 q1487 q113 q1488) rfl rfl rfl (by decide +kernel) hR) rfl hsize rfl hW hdg (hY.room0 hZ)) kk
theorem kzX0_1_opens {p1 : Int32} (E : ME p m c cc nL s args RX0 D clW ct) (hZ : YC ct R s A G0) (hY : YW D clW ckH ct 26 ad P A S 0 G0 G H) (hS : va_S A s.heap H locs) (hR : 504 + 1 ≤ R.frames ∧ 8 + (2 + 11) + 20087 ≤ R.locals) (hsize : ls.size = nL) (hW : (rest.map fun v => v.category).sum ≤ 8) (hdg : decode cc pc = .ok (.invokevirtual 49, 3)) {kp : (Int32 × US) → Option ρ} (kk : ∀ (o : (Int32 × US)) (H1 : Heap) (locs1 : List Loc), YW D clW ckH ct 26 ad P A o.2 0 G0 G H1 → va_S A s.heap H1 locs1 → X p l e R s m args below meth c H1 locs1 (G.2.1 - G0.2.1) (G.2.2 - G0.2.2) Qf (kp o) (F0 m (pc + 3) ls (.int o.1 :: rest))) : X p l e R s m args below meth c H locs (G.2.1 - G0.2.1) (G.2.2 - G0.2.2) Qf (callK (s1_opens S ct P G.1 p1) kp) (F0 m pc ls (.int p1 :: .ref (ad (0)) :: rest)) := gy_mod (val' := fun (o : (Int32 × US)) => some (.int o.1)) (len := 3) (So := fun (o : (Int32 × US)) => o.2) hZ hY hS (fun o ho => rqV (As := [.int p1]) E (hY.1.1.to fun _ _ => trivial) (recvU (i := 0) E.2.1 hY.1.1.1 (by decide) rfl rfl) (mH1_opens l D ct ad P S G.1 p1 _ o ho) (cwV 1 E.1.2.2.2.2 (lw_V q1500 q1501 q1502 q113 q1503) rfl rfl rfl (by decide +kernel) hR) rfl hsize rfl hW hdg (hY.room0 hZ)) kk
theorem kzX0_1_where {p1 : Int32} {p2 : Int32} {p3 : Int32} (E : ME p m c cc nL s args RX0 D clW ct) (hZ : YC ct R s A G0) (hY : YW D clW ckH ct 26 ad P A S 0 G0 G H) (hS : va_S A s.heap H locs) (hR : 505 + 1 ≤ R.frames ∧ 8 + (4 + 11) + 20108 ≤ R.locals) (hsize : ls.size = nL) (hW : (rest.map fun v => v.category).sum ≤ 8) (hdg : decode cc pc = .ok (.invokevirtual 52, 3)) {kp : (Int32 × US) → Option ρ} (kk : ∀ (o : (Int32 × US)) (H1 : Heap) (locs1 : List Loc), YW D clW ckH ct 26 ad P A o.2 0 G0 G H1 → va_S A s.heap H1 locs1 → X p l e R s m args below meth c H1 locs1 (G.2.1 - G0.2.1) (G.2.2 - G0.2.2) Qf (kp o) (F0 m (pc + 3) ls (.int o.1 :: rest))) : X p l e R s m args below meth c H locs (G.2.1 - G0.2.1) (G.2.2 - G0.2.2) Qf (callK (s1_where S ct P G.1 p1 p2 p3) kp) (F0 m pc ls (.int p3 :: .int p2 :: .int p1 :: .ref (ad (0)) :: rest)) := gy_mod (val' := fun (o : (Int32 × US)) => some (.int o.1)) (len := 3) (So := fun (o : (Int32 × US)) => o.2) hZ hY hS (fun o ho => rqV (As := [.int p1, .int p2, .int p3]) E (hY.1.1.to fun _ _ => trivial) (recvU (i := 0) E.2.1 hY.1.1.1 (by decide) rfl rfl) (mH1_where l D ct ad P S G.1 p1 p2 p3 _ o ho) (cwV 3 E.1.2.2.2.2 (lw_V q1507 q1508 q1509 q113 q1510) rfl rfl rfl (by decide +kernel) hR) rfl hsize rfl hW hdg (hY.room0 hZ)) kk
theorem kzX0_1_toHold {p1 : Int32} {p2 : Int32} (E : ME p m c cc nL s args RX0 D clW ct) (hZ : YC ct R s A G0) (hY : YW D clW ckH ct 26 ad P A S 0 G0 G H) (hS : va_S A s.heap H locs) (hR : 504 + 1 ≤ R.frames ∧ 8 + (4 + 11) + 20088 ≤ R.locals) (hsize : ls.size = nL) (hW : (rest.map fun v => v.category).sum ≤ 8) (hdg : decode cc pc = .ok (.invokevirtual 55, 3)) {kp : (Int32 × US) → Option ρ} (kk : ∀ (o : (Int32 × US)) (H1 : Heap) (locs1 : List Loc), YW D clW ckH ct 26 ad P A o.2 0 G0 G H1 → va_S A s.heap H1 locs1 → X p l e R s m args below meth c H1 locs1 (G.2.1 - G0.2.1) (G.2.2 - G0.2.2) Qf (kp o) (F0 m (pc + 3) ls (.int o.1 :: rest))) : X p l e R s m args below meth c H locs (G.2.1 - G0.2.1) (G.2.2 - G0.2.2) Qf (callK (s1_toHold S ct P G.1 p1 p2) kp) (F0 m pc ls (.int p2 :: .int p1 :: .ref (ad (0)) :: rest)) := gy_mod (val' := fun (o : (Int32 × US)) => some (.int o.1)) (len := 3) (So := fun (o : (Int32 × US)) => o.2) hZ hY hS (fun o ho => rqV (As := [.int p1, .int p2]) E (hY.1.1.to fun _ _ => trivial) (recvU (i := 0) E.2.1 hY.1.1.1 (by decide) rfl rfl) (mH1_toHold l D ct ad P S G.1 p1 p2 _ o ho) (cwV 2 E.1.2.2.2.2 (lw_V q1514 q1515 q1516 q113 q1517) rfl rfl rfl (by decide +kernel) hR) rfl hsize rfl hW hdg (hY.room0 hZ)) kk
theorem kzX0_1_toSend {p1 : Int32} {p2 : Int32} {p3 : Int32} (E : ME p m c cc nL s args RX0 D clW ct) (hZ : YC ct R s A G0) (hY : YW D clW ckH ct 26 ad P A S 0 G0 G H) (hS : va_S A s.heap H locs) (hR : 504 + 1 ≤ R.frames ∧ 8 + (8 + 11) + 20087 ≤ R.locals) (hsize : ls.size = nL) (hW : (rest.map fun v => v.category).sum ≤ 8) (hdg : decode cc pc = .ok (.invokevirtual 58, 3)) {kp : (Int32 × US) → Option ρ} (kk : ∀ (o : (Int32 × US)) (H1 : Heap) (locs1 : List Loc), YW D clW ckH ct 26 ad P A o.2 0 G0 G H1 → va_S A s.heap H1 locs1 → X p l e R s m args below meth c H1 locs1 (G.2.1 - G0.2.1) (G.2.2 - G0.2.2) Qf (kp o) (F0 m (pc + 3) ls (.int o.1 :: rest))) : X p l e R s m args below meth c H locs (G.2.1 - G0.2.1) (G.2.2 - G0.2.2) Qf (callK (s1_toSend S ct P G.1 p1 p2 p3) kp) (F0 m pc ls (.int p3 :: .int p2 :: .int p1 :: .ref (ad (0)) :: rest)) := gy_mod (val' := fun (o : (Int32 × US)) => some (.int o.1)) (len := 3) (So := fun (o : (Int32 × US)) => o.2) hZ hY hS (fun o ho => rqV (As := [.int p1, .int p2, .int p3]) E (hY.1.1.to fun _ _ => trivial) (recvU (i := 0) E.2.1 hY.1.1.1 (by decide) rfl rfl) (mH1_toSend l D ct ad P S G.1 p1 p2 p3 _ o ho) (cwV 3 E.1.2.2.2.2 (lw_V q1525 q1526 q1527 q113 q1528) rfl rfl rfl (by decide +kernel) hR) rfl hsize rfl hW hdg (hY.room0 hZ)) kk
theorem kzX0_1_bestStitch {p1 : Int32} {p2 : Int32} (E : ME p m c cc nL s args RX0 D clW ct) (hZ : YC ct R s A G0) (hY : YW D clW ckH ct 26 ad P A S 0 G0 G H) (hS : va_S A s.heap H locs) (hR : 504 + 1 ≤ R.frames ∧ 8 + (7 + 11) + 20087 ≤ R.locals) (hsize : ls.size = nL) (hW : (rest.map fun v => v.category).sum ≤ 8) (hdg : decode cc pc = .ok (.invokevirtual 61, 3)) {kp : (Int32 × US) → Option ρ} (kk : ∀ (o : (Int32 × US)) (H1 : Heap) (locs1 : List Loc), YW D clW ckH ct 26 ad P A o.2 0 G0 G H1 → va_S A s.heap H1 locs1 → X p l e R s m args below meth c H1 locs1 (G.2.1 - G0.2.1) (G.2.2 - G0.2.2) Qf (kp o) (F0 m (pc + 3) ls (.int o.1 :: rest))) : X p l e R s m args below meth c H locs (G.2.1 - G0.2.1) (G.2.2 - G0.2.2) Qf (callK (s1_bestStitch S ct P G.1 p1 p2) kp) (F0 m pc ls (.int p2 :: .int p1 :: .ref (ad (0)) :: rest)) := gy_mod (val' := fun (o : (Int32 × US)) => some (.int o.1)) (len := 3) (So := fun (o : (Int32 × US)) => o.2) hZ hY hS (fun o ho => rqV (As := [.int p1, .int p2]) E (hY.1.1.to fun _ _ => trivial) (recvU (i := 0) E.2.1 hY.1.1.1 (by decide) rfl rfl) (mH1_bestStitch l D ct ad P S G.1 p1 p2 _ o ho) (cwV 2 E.1.2.2.2.2 (lw_V q1537 q1538 q1539 q113 q1540) rfl rfl rfl (by decide +kernel) hR) rfl hsize rfl hW hdg (hY.room0 hZ)) kk
theorem kzX0_1_sent {p1 : Int32} {p2 : Int32} (E : ME p m c cc nL s args RX0 D clW ct) (hZ : YC ct R s A G0) (hY : YW D clW ckH ct 26 ad P A S 0 G0 G H) (hS : va_S A s.heap H locs) (hR : 4 + 1 ≤ R.frames ∧ 8 + (9 + 11) + 111 ≤ R.locals) (hsize : ls.size = nL) (hW : (rest.map fun v => v.category).sum ≤ 8) (hdg : decode cc pc = .ok (.invokevirtual 64, 3)) {kp : (Int32 × GS) → Option ρ} (kk : ∀ (o : (Int32 × GS)) (H1 : Heap) (locs1 : List Loc), YW D clW ckH ct 26 ad P A S 0 G0 o.2 H1 → va_S A s.heap H1 locs1 → X p l e R s m args below meth c H1 locs1 (o.2.2.1 - G0.2.1) (o.2.2.2 - G0.2.2) Qf (kp o) (F0 m (pc + 3) ls (.int o.1 :: rest))) : X p l e R s m args below meth c H locs (G.2.1 - G0.2.1) (G.2.2 - G0.2.2) Qf (callK (s1_sent ct ad P S G p1 p2) kp) (F0 m pc ls (.int p2 :: .int p1 :: .ref (ad (0)) :: rest)) := gy_mx (val' := fun (o : (Int32 × GS)) => some (.int o.1)) (len := 3) (So := fun (o : (Int32 × GS)) => S) (Po := fun (o : (Int32 × GS)) => P) (Gn := fun (o : (Int32 × GS)) => o.2) hZ hY hS (fun o ho => rqV (As := [.int p1, .int p2]) E hY.1.any (recvU (i := 0) E.2.1 hY.1.1.1 (by decide) rfl rfl) (by rw [hY.1.2.1]; exact mY1_sent l D ct ad P S G p1 p2 o ho) (cwV 2 E.1.2.2.2.2 (lw_V q1544 q1545 q1546 q113 q1547) rfl rfl rfl (by decide +kernel) hR) rfl hsize rfl hW hdg (hY.room hZ)) kk
theorem kzX0_1_closed {p1 : Int32} (E : ME p m c cc nL s args RX0 D clW ct) (hZ : YC ct R s A G0) (hY : YW D clW ckH ct 26 ad P A S 0 G0 G H) (hS : va_S A s.heap H locs) (hR : 3 + 1 ≤ R.frames ∧ 8 + (4 + 11) + 83 ≤ R.locals) (hsize : ls.size = nL) (hW : (rest.map fun v => v.category).sum ≤ 8) (hdg : decode cc pc = .ok (.invokevirtual 67, 3)) {kp : Int32 → Option ρ} (kk : ∀ (o : Int32) (H1 : Heap) (locs1 : List Loc), YW D clW ckH ct 26 ad P A S 0 G0 G H1 → va_S A s.heap H1 locs1 → X p l e R s m args below meth c H1 locs1 (G.2.1 - G0.2.1) (G.2.2 - G0.2.2) Qf (kp o) (F0 m (pc + 3) ls (.int o :: rest))) : X p l e R s m args below meth c H locs (G.2.1 - G0.2.1) (G.2.2 - G0.2.2) Qf (callK (s1_closed S p1) kp) (F0 m pc ls (.int p1 :: .ref (ad (0)) :: rest)) := gy_ro (val' := fun (o : Int32) => some (.int o)) (len := 3) hZ hY hS (fun o ho => rqV (As := [.int p1]) E (hY.1.1.to fun _ _ => trivial) (recvU (i := 0) E.2.1 hY.1.1.1 (by decide) rfl rfl) (mH1_closed l D ct ad P S G.1 p1 _ o ho) (cwV 1 E.1.2.2.2.2 (lw_V q1575 q1576 q1577 q113 q1578) rfl rfl rfl (by decide +kernel) hR) rfl hsize rfl hW hdg (hY.room0 hZ)) kk
theorem kzX0_1_tight {p1 : Int32} {p2 : Int32} (E : ME p m c cc nL s args RX0 D clW ct) (hZ : YC ct R s A G0) (hY : YW D clW ckH ct 26 ad P A S 0 G0 G H) (hS : va_S A s.heap H locs) (hR : 3 + 1 ≤ R.frames ∧ 8 + (5 + 11) + 83 ≤ R.locals) (hsize : ls.size = nL) (hW : (rest.map fun v => v.category).sum ≤ 8) (hdg : decode cc pc = .ok (.invokevirtual 70, 3)) {kp : Int32 → Option ρ} (kk : ∀ (o : Int32) (H1 : Heap) (locs1 : List Loc), YW D clW ckH ct 26 ad P A S 0 G0 G H1 → va_S A s.heap H1 locs1 → X p l e R s m args below meth c H1 locs1 (G.2.1 - G0.2.1) (G.2.2 - G0.2.2) Qf (kp o) (F0 m (pc + 3) ls (.int o :: rest))) : X p l e R s m args below meth c H locs (G.2.1 - G0.2.1) (G.2.2 - G0.2.2) Qf (callK (s1_tight S p1 p2) kp) (F0 m pc ls (.int p2 :: .int p1 :: .ref (ad (0)) :: rest)) := gy_ro (val' := fun (o : Int32) => some (.int o)) (len := 3) hZ hY hS (fun o ho => rqV (As := [.int p1, .int p2]) E (hY.1.1.to fun _ _ => trivial) (recvU (i := 0) E.2.1 hY.1.1.1 (by decide) rfl rfl) (mH1_tight l D ct ad P S G.1 p1 p2 _ o ho) (cwV 2 E.1.2.2.2.2 (lw_V q1586 q1587 q1588 q113 q1589) rfl rfl rfl (by decide +kernel) hR) rfl hsize rfl hW hdg (hY.room0 hZ)) kk
theorem kzX0_1_readings {p1 : Int32} {p2 : Int32} (E : ME p m c cc nL s args RX0 D clW ct) (hZ : YC ct R s A G0) (hY : YW D clW ckH ct 26 ad P A S 0 G0 G H) (hS : va_S A s.heap H locs) (hR : 4 + 1 ≤ R.frames ∧ 8 + (10 + 11) + 108 ≤ R.locals) (hsize : ls.size = nL) (hW : (rest.map fun v => v.category).sum ≤ 8) (hdg : decode cc pc = .ok (.invokevirtual 73, 3)) {kp : (Int32 × GS) → Option ρ} (kk : ∀ (o : (Int32 × GS)) (H1 : Heap) (locs1 : List Loc), YW D clW ckH ct 26 ad P A S 0 G0 o.2 H1 → va_S A s.heap H1 locs1 → X p l e R s m args below meth c H1 locs1 (o.2.2.1 - G0.2.1) (o.2.2.2 - G0.2.2) Qf (kp o) (F0 m (pc + 3) ls (.int o.1 :: rest))) : X p l e R s m args below meth c H locs (G.2.1 - G0.2.1) (G.2.2 - G0.2.2) Qf (callK (s1_readings ct ad P S G p1 p2) kp) (F0 m pc ls (.int p2 :: .int p1 :: .ref (ad (0)) :: rest)) := gy_mx (val' := fun (o : (Int32 × GS)) => some (.int o.1)) (len := 3) (So := fun (o : (Int32 × GS)) => S) (Po := fun (o : (Int32 × GS)) => P) (Gn := fun (o : (Int32 × GS)) => o.2) hZ hY hS (fun o ho => rqV (As := [.int p1, .int p2]) E hY.1.any (recvU (i := 0) E.2.1 hY.1.1.1 (by decide) rfl rfl) (by rw [hY.1.2.1]; exact mY1_readings l D ct ad P S G p1 p2 o ho) (cwV 2 E.1.2.2.2.2 (lw_V q1597 q1598 q1599 q113 q1600) rfl rfl rfl (by decide +kernel) hR) rfl hsize rfl hW hdg (hY.room hZ)) kk
theorem kzX0_1_see {p1 : Int32} {p2 : Int32} {p3 : Int32} (E : ME p m c cc nL s args RX0 D clW ct) (hZ : YC ct R s A G0) (hY : YW D clW ckH ct 26 ad P A S 0 G0 G H) (hS : va_S A s.heap H locs) (hR : 7 + 1 ≤ R.frames ∧ 8 + (4 + 11) + 191 ≤ R.locals) (hsize : ls.size = nL) (hW : (rest.map fun v => v.category).sum ≤ 8) (hdg : decode cc pc = .ok (.invokevirtual 76, 3)) {kp : (Int32 × US × GS) → Option ρ} (kk : ∀ (o : (Int32 × US × GS)) (H1 : Heap) (locs1 : List Loc), YW D clW ckH ct 26 ad P A o.2.1 0 G0 o.2.2 H1 → va_S A s.heap H1 locs1 → X p l e R s m args below meth c H1 locs1 (o.2.2.2.1 - G0.2.1) (o.2.2.2.2 - G0.2.2) Qf (kp o) (F0 m (pc + 3) ls (.int o.1 :: rest))) : X p l e R s m args below meth c H locs (G.2.1 - G0.2.1) (G.2.2 - G0.2.2) Qf (callK (s1_see ct ad P S G p1 p2 p3) kp) (F0 m pc ls (.int p3 :: .int p2 :: .int p1 :: .ref (ad (0)) :: rest)) := gy_mx (val' := fun (o : (Int32 × US × GS)) => some (.int o.1)) (len := 3) (So := fun (o : (Int32 × US × GS)) => o.2.1) (Po := fun (o : (Int32 × US × GS)) => P) (Gn := fun (o : (Int32 × US × GS)) => o.2.2) hZ hY hS (fun o ho => rqV (As := [.int p1, .int p2, .int p3]) E hY.1.any (recvU (i := 0) E.2.1 hY.1.1.1 (by decide) rfl rfl) (by rw [hY.1.2.1]; exact mY1_see l D ct ad P S G p1 p2 p3 o ho) (cwV 3 E.1.2.2.2.2 (lw_V q1727 q1728 q1729 q113 q1730) rfl rfl rfl (by decide +kernel) hR) rfl hsize rfl hW hdg (hY.room hZ)) kk
theorem kzX0_1_torn {p1 : Int32} (E : ME p m c cc nL s args RX0 D clW ct) (hZ : YC ct R s A G0) (hY : YW D clW ckH ct 26 ad P A S 0 G0 G H) (hS : va_S A s.heap H locs) (hR : 505 + 1 ≤ R.frames ∧ 8 + (3 + 11) + 20112 ≤ R.locals) (hsize : ls.size = nL) (hW : (rest.map fun v => v.category).sum ≤ 8) (hdg : decode cc pc = .ok (.invokevirtual 79, 3)) {kp : (Int32 × US × GS) → Option ρ} (kk : ∀ (o : (Int32 × US × GS)) (H1 : Heap) (locs1 : List Loc), YW D clW ckH ct 26 ad P A o.2.1 0 G0 o.2.2 H1 → va_S A s.heap H1 locs1 → X p l e R s m args below meth c H1 locs1 (o.2.2.2.1 - G0.2.1) (o.2.2.2.2 - G0.2.2) Qf (kp o) (F0 m (pc + 3) ls (.int o.1 :: rest))) : X p l e R s m args below meth c H locs (G.2.1 - G0.2.1) (G.2.2 - G0.2.2) Qf (callK (s1_torn ct ad P S G p1) kp) (F0 m pc ls (.int p1 :: .ref (ad (0)) :: rest)) := gy_mx (val' := fun (o : (Int32 × US × GS)) => some (.int o.1)) (len := 3) (So := fun (o : (Int32 × US × GS)) => o.2.1) (Po := fun (o : (Int32 × US × GS)) => P) (Gn := fun (o : (Int32 × US × GS)) => o.2.2) hZ hY hS (fun o ho => rqV (As := [.int p1]) E hY.1.any (recvU (i := 0) E.2.1 hY.1.1.1 (by decide) rfl rfl) (by rw [hY.1.2.1]; exact mY1_torn l D ct ad P S G p1 o ho) (cwV 1 E.1.2.2.2.2 (lw_V q1734 q1735 q1736 q113 q1737) rfl rfl rfl (by decide +kernel) hR) rfl hsize rfl hW hdg (hY.room hZ)) kk
theorem kzX0_1_look {p1 : Int32} (E : ME p m c cc nL s args RX0 D clW ct) (hZ : YC ct R s A G0) (hY : YW D clW ckH ct 26 ad P A S 0 G0 G H) (hS : va_S A s.heap H locs) (hR : 505 + 1 ≤ R.frames ∧ 8 + (11 + 11) + 20112 ≤ R.locals) (hsize : ls.size = nL) (hW : (rest.map fun v => v.category).sum ≤ 8) (hdg : decode cc pc = .ok (.invokevirtual 82, 3)) {kp : (Int32 × US × GS) → Option ρ} (kk : ∀ (o : (Int32 × US × GS)) (H1 : Heap) (locs1 : List Loc), YW D clW ckH ct 26 ad P A o.2.1 0 G0 o.2.2 H1 → va_S A s.heap H1 locs1 → X p l e R s m args below meth c H1 locs1 (o.2.2.2.1 - G0.2.1) (o.2.2.2.2 - G0.2.2) Qf (kp o) (F0 m (pc + 3) ls (.int o.1 :: rest))) : X p l e R s m args below meth c H locs (G.2.1 - G0.2.1) (G.2.2 - G0.2.2) Qf (callK (s1_look ct ad P S G p1) kp) (F0 m pc ls (.int p1 :: .ref (ad (0)) :: rest)) := gy_mx (val' := fun (o : (Int32 × US × GS)) => some (.int o.1)) (len := 3) (So := fun (o : (Int32 × US × GS)) => o.2.1) (Po := fun (o : (Int32 × US × GS)) => P) (Gn := fun (o : (Int32 × US × GS)) => o.2.2) hZ hY hS (fun o ho => rqV (As := [.int p1]) E hY.1.any (recvU (i := 0) E.2.1 hY.1.1.1 (by decide) rfl rfl) (by rw [hY.1.2.1]; exact mY1_look l D ct ad P S G p1 o ho) (cwV 1 E.1.2.2.2.2 (lw_V q1751 q1752 q1753 q113 q1754) rfl rfl rfl (by decide +kernel) hR) rfl hsize rfl hW hdg (hY.room hZ)) kk
theorem kzX0_1_gales {p1 : Int32} {p2 : Int32} (E : ME p m c cc nL s args RX0 D clW ct) (hZ : YC ct R s A G0) (hY : YW D clW ckH ct 26 ad P A S 0 G0 G H) (hS : va_S A s.heap H locs) (hR : 503 + 1 ≤ R.frames ∧ 8 + (8 + 11) + 20065 ≤ R.locals) (hsize : ls.size = nL) (hW : (rest.map fun v => v.category).sum ≤ 8) (hdg : decode cc pc = .ok (.invokevirtual 85, 3)) {kp : (Int32 × US) → Option ρ} (kk : ∀ (o : (Int32 × US)) (H1 : Heap) (locs1 : List Loc), YW D clW ckH ct 26 ad P A o.2 0 G0 G H1 → va_S A s.heap H1 locs1 → X p l e R s m args below meth c H1 locs1 (G.2.1 - G0.2.1) (G.2.2 - G0.2.2) Qf (kp o) (F0 m (pc + 3) ls (.int o.1 :: rest))) : X p l e R s m args below meth c H locs (G.2.1 - G0.2.1) (G.2.2 - G0.2.2) Qf (callK (s1_gales S ct P G.1 p1 p2) kp) (F0 m pc ls (.int p2 :: .int p1 :: .ref (ad (0)) :: rest)) := gy_mod (val' := fun (o : (Int32 × US)) => some (.int o.1)) (len := 3) (So := fun (o : (Int32 × US)) => o.2) hZ hY hS (fun o ho => rqV (As := [.int p1, .int p2]) E (hY.1.1.to fun _ _ => trivial) (recvU (i := 0) E.2.1 hY.1.1.1 (by decide) rfl rfl) (mH1_gales l D ct ad P S G.1 p1 p2 _ o ho) (cwV 2 E.1.2.2.2.2 (lw_V q1758 q1759 q1760 q113 q1761) rfl rfl rfl (by decide +kernel) hR) rfl hsize rfl hW hdg (hY.room0 hZ)) kk
theorem kzX0_1_game {p1 : Int32} {p2 : Int32} {p3 : Int32} (E : ME p m c cc nL s args RX0 D clW ct) (hZ : YC ct R s A G0) (hY : YW D clW ckH ct 26 ad P A S 0 G0 G H) (hS : va_S A s.heap H locs) (hR : 505 + 1 ≤ R.frames ∧ 8 + (9 + 11) + 20111 ≤ R.locals) (hsize : ls.size = nL) (hW : (rest.map fun v => v.category).sum ≤ 8) (hdg : decode cc pc = .ok (.invokevirtual 88, 3)) {kp : (Int32 × US × GS) → Option ρ} (kk : ∀ (o : (Int32 × US × GS)) (H1 : Heap) (locs1 : List Loc), YW D clW ckH ct 26 ad P A o.2.1 0 G0 o.2.2 H1 → va_S A s.heap H1 locs1 → X p l e R s m args below meth c H1 locs1 (o.2.2.2.1 - G0.2.1) (o.2.2.2.2 - G0.2.2) Qf (kp o) (F0 m (pc + 3) ls (.int o.1 :: rest))) : X p l e R s m args below meth c H locs (G.2.1 - G0.2.1) (G.2.2 - G0.2.2) Qf (callK (s1_game ct ad P S G p1 p2 p3) kp) (F0 m pc ls (.int p3 :: .int p2 :: .int p1 :: .ref (ad (0)) :: rest)) := gy_mx (val' := fun (o : (Int32 × US × GS)) => some (.int o.1)) (len := 3) (So := fun (o : (Int32 × US × GS)) => o.2.1) (Po := fun (o : (Int32 × US × GS)) => P) (Gn := fun (o : (Int32 × US × GS)) => o.2.2) hZ hY hS (fun o ho => rqV (As := [.int p1, .int p2, .int p3]) E hY.1.any (recvU (i := 0) E.2.1 hY.1.1.1 (by decide) rfl rfl) (by rw [hY.1.2.1]; exact mY1_game l D ct ad P S G p1 p2 p3 o ho) (cwV 3 E.1.2.2.2.2 (lw_V q1766 q1767 q1768 q113 q1769) rfl rfl rfl (by decide +kernel) hR) rfl hsize rfl hW hdg (hY.room hZ)) kk
theorem kzX0_1_years {p1 : Int32} {p2 : Int32} {p3 : Int32} (E : ME p m c cc nL s args RX0 D clW ct) (hZ : YC ct R s A G0) (hY : YW D clW ckH ct 26 ad P A S 0 G0 G H) (hS : va_S A s.heap H locs) (hR : 503 + 1 ≤ R.frames ∧ 8 + (5 + 11) + 20065 ≤ R.locals) (hsize : ls.size = nL) (hW : (rest.map fun v => v.category).sum ≤ 8) (hdg : decode cc pc = .ok (.invokevirtual 91, 3)) {kp : (Int32 × US) → Option ρ} (kk : ∀ (o : (Int32 × US)) (H1 : Heap) (locs1 : List Loc), YW D clW ckH ct 26 ad P A o.2 0 G0 G H1 → va_S A s.heap H1 locs1 → X p l e R s m args below meth c H1 locs1 (G.2.1 - G0.2.1) (G.2.2 - G0.2.2) Qf (kp o) (F0 m (pc + 3) ls (.int o.1 :: rest))) : X p l e R s m args below meth c H locs (G.2.1 - G0.2.1) (G.2.2 - G0.2.2) Qf (callK (s1_years S ct P G.1 p1 p2 p3) kp) (F0 m pc ls (.int p3 :: .int p2 :: .int p1 :: .ref (ad (0)) :: rest)) := gy_mod (val' := fun (o : (Int32 × US)) => some (.int o.1)) (len := 3) (So := fun (o : (Int32 × US)) => o.2) hZ hY hS (fun o ho => rqV (As := [.int p1, .int p2, .int p3]) E (hY.1.1.to fun _ _ => trivial) (recvU (i := 0) E.2.1 hY.1.1.1 (by decide) rfl rfl) (mH1_years l D ct ad P S G.1 p1 p2 p3 _ o ho) (cwV 3 E.1.2.2.2.2 (lw_V q1782 q1783 q1784 q113 q1785) rfl rfl rfl (by decide +kernel) hR) rfl hsize rfl hW hdg (hY.room0 hZ)) kk
theorem kzX0_1_nearest {p1 : Int32} (E : ME p m c cc nL s args RX0 D clW ct) (hZ : YC ct R s A G0) (hY : YW D clW ckH ct 26 ad P A S 0 G0 G H) (hS : va_S A s.heap H locs) (hR : 3 + 1 ≤ R.frames ∧ 8 + (4 + 11) + 85 ≤ R.locals) (hsize : ls.size = nL) (hW : (rest.map fun v => v.category).sum ≤ 8) (hdg : decode cc pc = .ok (.invokevirtual 94, 3)) {kp : Int32 → Option ρ} (kk : ∀ (o : Int32) (H1 : Heap) (locs1 : List Loc), YW D clW ckH ct 26 ad P A S 0 G0 G H1 → va_S A s.heap H1 locs1 → X p l e R s m args below meth c H1 locs1 (G.2.1 - G0.2.1) (G.2.2 - G0.2.2) Qf (kp o) (F0 m (pc + 3) ls (.int o :: rest))) : X p l e R s m args below meth c H locs (G.2.1 - G0.2.1) (G.2.2 - G0.2.2) Qf (callK (s1_nearest S P G.1 p1) kp) (F0 m pc ls (.int p1 :: .ref (ad (0)) :: rest)) := gy_ro (val' := fun (o : Int32) => some (.int o)) (len := 3) hZ hY hS (fun o ho => rqV (As := [.int p1]) E (hY.1.1.to fun _ _ => trivial) (recvU (i := 0) E.2.1 hY.1.1.1 (by decide) rfl rfl) (mH1_nearest l D ct ad P S G.1 p1 _ o ho) (cwV 1 E.1.2.2.2.2 (lw_V q1798 q1799 q1800 q113 q1801) rfl rfl rfl (by decide +kernel) hR) rfl hsize rfl hW hdg (hY.room0 hZ)) kk
theorem kzX0_1_far {p1 : Int32} {p2 : Int32} (E : ME p m c cc nL s args RX0 D clW ct) (hZ : YC ct R s A G0) (hY : YW D clW ckH ct 26 ad P A S 0 G0 G H) (hS : va_S A s.heap H locs) (hR : 3 + 1 ≤ R.frames ∧ 8 + (3 + 11) + 83 ≤ R.locals) (hsize : ls.size = nL) (hW : (rest.map fun v => v.category).sum ≤ 8) (hdg : decode cc pc = .ok (.invokevirtual 97, 3)) {kp : Int32 → Option ρ} (kk : ∀ (o : Int32) (H1 : Heap) (locs1 : List Loc), YW D clW ckH ct 26 ad P A S 0 G0 G H1 → va_S A s.heap H1 locs1 → X p l e R s m args below meth c H1 locs1 (G.2.1 - G0.2.1) (G.2.2 - G0.2.2) Qf (kp o) (F0 m (pc + 3) ls (.int o :: rest))) : X p l e R s m args below meth c H locs (G.2.1 - G0.2.1) (G.2.2 - G0.2.2) Qf (callK (s1_far S p1 p2) kp) (F0 m pc ls (.int p2 :: .int p1 :: .ref (ad (0)) :: rest)) := gy_ro (val' := fun (o : Int32) => some (.int o)) (len := 3) hZ hY hS (fun o ho => rqV (As := [.int p1, .int p2]) E (hY.1.1.to fun _ _ => trivial) (recvU (i := 0) E.2.1 hY.1.1.1 (by decide) rfl rfl) (mH1_far l D ct ad P S G.1 p1 p2 _ o ho) (cwV 2 E.1.2.2.2.2 (lw_V q1805 q1806 q1807 q113 q1808) rfl rfl rfl (by decide +kernel) hR) rfl hsize rfl hW hdg (hY.room0 hZ)) kk
theorem kzX0_1_worst {p1 : Int32} (E : ME p m c cc nL s args RX0 D clW ct) (hZ : YC ct R s A G0) (hY : YW D clW ckH ct 26 ad P A S 0 G0 G H) (hS : va_S A s.heap H locs) (hR : 504 + 1 ≤ R.frames ∧ 8 + (6 + 11) + 20087 ≤ R.locals) (hsize : ls.size = nL) (hW : (rest.map fun v => v.category).sum ≤ 8) (hdg : decode cc pc = .ok (.invokevirtual 100, 3)) {kp : (Int32 × US) → Option ρ} (kk : ∀ (o : (Int32 × US)) (H1 : Heap) (locs1 : List Loc), YW D clW ckH ct 26 ad P A o.2 0 G0 G H1 → va_S A s.heap H1 locs1 → X p l e R s m args below meth c H1 locs1 (G.2.1 - G0.2.1) (G.2.2 - G0.2.2) Qf (kp o) (F0 m (pc + 3) ls (.int o.1 :: rest))) : X p l e R s m args below meth c H locs (G.2.1 - G0.2.1) (G.2.2 - G0.2.2) Qf (callK (s1_worst S ct P G.1 p1) kp) (F0 m pc ls (.int p1 :: .ref (ad (0)) :: rest)) := gy_mod (val' := fun (o : (Int32 × US)) => some (.int o.1)) (len := 3) (So := fun (o : (Int32 × US)) => o.2) hZ hY hS (fun o ho => rqV (As := [.int p1]) E (hY.1.1.to fun _ _ => trivial) (recvU (i := 0) E.2.1 hY.1.1.1 (by decide) rfl rfl) (mH1_worst l D ct ad P S G.1 p1 _ o ho) (cwV 1 E.1.2.2.2.2 (lw_V q1812 q1813 q1814 q113 q1815) rfl rfl rfl (by decide +kernel) hR) rfl hsize rfl hW hdg (hY.room0 hZ)) kk
theorem kzX0_1_meet {p1 : Int32} {p2 : Int32} (E : ME p m c cc nL s args RX0 D clW ct) (hZ : YC ct R s A G0) (hY : YW D clW ckH ct 26 ad P A S 0 G0 G H) (hS : va_S A s.heap H locs) (hR : 503 + 1 ≤ R.frames ∧ 8 + (4 + 11) + 20065 ≤ R.locals) (hsize : ls.size = nL) (hW : (rest.map fun v => v.category).sum ≤ 8) (hdg : decode cc pc = .ok (.invokevirtual 103, 3)) {kp : (Int32 × US) → Option ρ} (kk : ∀ (o : (Int32 × US)) (H1 : Heap) (locs1 : List Loc), YW D clW ckH ct 26 ad P A o.2 0 G0 G H1 → va_S A s.heap H1 locs1 → X p l e R s m args below meth c H1 locs1 (G.2.1 - G0.2.1) (G.2.2 - G0.2.2) Qf (kp o) (F0 m (pc + 3) ls (.int o.1 :: rest))) : X p l e R s m args below meth c H locs (G.2.1 - G0.2.1) (G.2.2 - G0.2.2) Qf (callK (s1_meet S ct P G.1 p1 p2) kp) (F0 m pc ls (.int p2 :: .int p1 :: .ref (ad (0)) :: rest)) := gy_mod (val' := fun (o : (Int32 × US)) => some (.int o.1)) (len := 3) (So := fun (o : (Int32 × US)) => o.2) hZ hY hS (fun o ho => rqV (As := [.int p1, .int p2]) E (hY.1.1.to fun _ _ => trivial) (recvU (i := 0) E.2.1 hY.1.1.1 (by decide) rfl rfl) (mH1_meet l D ct ad P S G.1 p1 p2 _ o ho) (cwV 2 E.1.2.2.2.2 (lw_V q1819 q1820 q1821 q113 q1822) rfl rfl rfl (by decide +kernel) hR) rfl hsize rfl hW hdg (hY.room0 hZ)) kk
theorem kzX0_1_bare {p1 : Int32} (E : ME p m c cc nL s args RX0 D clW ct) (hZ : YC ct R s A G0) (hY : YW D clW ckH ct 26 ad P A S 0 G0 G H) (hS : va_S A s.heap H locs) (hR : 505 + 1 ≤ R.frames ∧ 8 + (4 + 11) + 20108 ≤ R.locals) (hsize : ls.size = nL) (hW : (rest.map fun v => v.category).sum ≤ 8) (hdg : decode cc pc = .ok (.invokevirtual 106, 3)) {kp : (Int32 × US) → Option ρ} (kk : ∀ (o : (Int32 × US)) (H1 : Heap) (locs1 : List Loc), YW D clW ckH ct 26 ad P A o.2 0 G0 G H1 → va_S A s.heap H1 locs1 → X p l e R s m args below meth c H1 locs1 (G.2.1 - G0.2.1) (G.2.2 - G0.2.2) Qf (kp o) (F0 m (pc + 3) ls (.int o.1 :: rest))) : X p l e R s m args below meth c H locs (G.2.1 - G0.2.1) (G.2.2 - G0.2.2) Qf (callK (s1_bare S ct P G.1 p1) kp) (F0 m pc ls (.int p1 :: .ref (ad (0)) :: rest)) := gy_mod (val' := fun (o : (Int32 × US)) => some (.int o.1)) (len := 3) (So := fun (o : (Int32 × US)) => o.2) hZ hY hS (fun o ho => rqV (As := [.int p1]) E (hY.1.1.to fun _ _ => trivial) (recvU (i := 0) E.2.1 hY.1.1.1 (by decide) rfl rfl) (mH1_bare l D ct ad P S G.1 p1 _ o ho) (cwV 1 E.1.2.2.2.2 (lw_V q1826 q1827 q1828 q113 q1829) rfl rfl rfl (by decide +kernel) hR) rfl hsize rfl hW hdg (hY.room0 hZ)) kk
theorem kzX0_1_load {p1 : Int32} (E : ME p m c cc nL s args RX0 D clW ct) (hZ : YC ct R s A G0) (hY : YW D clW ckH ct 26 ad P A S 0 G0 G H) (hS : va_S A s.heap H locs) (hR : 2 + 1 ≤ R.frames ∧ 8 + (4 + 11) + 62 ≤ R.locals) (hsize : ls.size = nL) (hW : (rest.map fun v => v.category).sum ≤ 8) (hdg : decode cc pc = .ok (.invokevirtual 109, 3)) {kp : Int32 → Option ρ} (kk : ∀ (o : Int32) (H1 : Heap) (locs1 : List Loc), YW D clW ckH ct 26 ad P A S 0 G0 G H1 → va_S A s.heap H1 locs1 → X p l e R s m args below meth c H1 locs1 (G.2.1 - G0.2.1) (G.2.2 - G0.2.2) Qf (kp o) (F0 m (pc + 3) ls (.int o :: rest))) : X p l e R s m args below meth c H locs (G.2.1 - G0.2.1) (G.2.2 - G0.2.2) Qf (callK (s1_load S p1) kp) (F0 m pc ls (.int p1 :: .ref (ad (0)) :: rest)) := gy_ro (val' := fun (o : Int32) => some (.int o)) (len := 3) hZ hY hS (fun o ho => rqV (As := [.int p1]) E (hY.1.1.to fun _ _ => trivial) (recvU (i := 0) E.2.1 hY.1.1.1 (by decide) rfl rfl) (mH1_load l D ct ad P S G.1 p1 _ o ho) (cwV 1 E.1.2.2.2.2 (lw_V q1833 q1834 q1835 q113 q1836) rfl rfl rfl (by decide +kernel) hR) rfl hsize rfl hW hdg (hY.room0 hZ)) kk
end KV

set_option maxHeartbeats 4000000 in
theorem mW0_ring (l : Launch) (hst : l.stackTraces = false) (D : va_G) (ct : CT) (ad : Nat → Nat) (P : Nat → Nat → Option Nat) (S : US) (G0 : GS) (p1 : Int32) (q0 : Nat) (o : (Int32 × US × GS × (Nat → Nat → Option Nat) × (Nat → Nat))) (ho : sW_ring ct ad P S G0 p1 q0 = some o) : vx_Met l yX0_ring (wsW_ yX0_ring cX0_ring 4 (some .int) [(0, 9, 12, 13)]) { frames := 110, cells := nmax ct - G0.2.1, slots := zmax ct - G0.2.2, locals := 2308 } (mP D clW ct [.ref (ad (0)), .int p1, .ref q0] G0.2.1 (MW D clW ckH ct 26 ad P (fun _ => True) S 0 G0)) (yC (some (.int o.1)) (MW D clW ckH ct 26 o.2.2.2.2 o.2.2.2.1 (mA 26 ad G0) o.2.1 0 o.2.2.1) G0 o.2.2.1 (mA 26 ad G0)) nX (nmax ct - G0.2.1) (zmax ct - G0.2.2) (mA 26 ad G0) := by
  refine YH.start (val := fun (o : (Int32 × US × GS × (Nat → Nat → Option Nat) × (Nat → Nat))) => some (.int o.1)) (Bt := fun (o : (Int32 × US × GS × (Nat → Nat → Option Nat) × (Nat → Nat))) => MW D clW ckH ct 26 o.2.2.2.2 o.2.2.2.1 (mA 26 ad G0) o.2.1 0 o.2.2.1) (Go := fun (o : (Int32 × US × GS × (Nat → Nat → Option Nat) × (Nat → Nat))) => o.2.2.1) ho (by decide) (Nat.le_of_ble_eq_true rfl) (lv := [(0, .ref (ad (0))), (1, .int p1), (2, .ref q0)]) rfl ?_
  intro p e s m args below meth c E hr hlk hnm htab hZ hU hS ls hl
  obtain ⟨⟨hx, hb, hml, hown, hts⟩, hK, hJ⟩ := id E
  unfold sW_ring
  refine x_aload_n hx hb dX0_ring_0 rfl (lv_at hl 2 rfl) ?_
  refine x_iconst (v := 0) hx hb dX0_ring_1 (by decide) ?_
  refine x_aload_n hx hb dX0_ring_2 rfl (lv_at hl 0 rfl) ?_
  refine x_iload_n hx hb dX0_ring_3 rfl (lv_at hl 1 rfl) ?_
  refine X.tB (tw_catch E hZ hU hS (fun k hk hf => rtVX (As := [.int p1]) (hh := [(40, 48, 51, 87)]) E (hU.1.1.to fun _ _ => trivial) (recvU (i := 0) E.2.1 hU.1.1.1 (by decide) rfl rfl) (mT1_ring l hst D ct ad P S G0.1 p1 _ k hk) (vx_cwVW 1 E.1.2.2.2.2 (lw_VW q694 q695 q696 q113 q697) rfl rfl rfl (by decide +kernel) ⟨Nat.le_of_ble_eq_true rfl, Nat.le_of_ble_eq_true rfl⟩) rfl hl.1 rfl (Nat.le_of_ble_eq_true rfl) dX0_ring_4 hf) (fun k o ho => ?_)) ?_
  · by_cases hk : k = 1
    · rw [if_pos hk] at ho
      cases ho
    · rw [if_neg hk] at ho
      rw [if_neg hk]
      have hE : exN k = "java/lang/IllegalArgumentException" := if_neg hk
      rw [hE]
      refine ⟨[], [], ⟨0, 9, 12, 13⟩, "java/lang/IllegalArgumentException", htab, (fun z hz => nomatch hz), rfl, by decide, hts _ q693, hJ.at q704 rfl, fun q H locs hU hS => ?_⟩
      refine X.cs (cells2 := (G0.1, G0.2.1 + 1, G0.2.2 + 6).2.1 - G0.2.1) (slots2 := (G0.1, G0.2.1 + 1, G0.2.2 + 6).2.2 - G0.2.2) rfl rfl ?_
      refine x_astore_n (lv' := [(3, .ref q), (0, .ref (ad (0))), (1, .int p1), (2, .ref q0)]) hx hb dX0_ring_12 rfl hl (by decide) rfl (fun ls hl => ?_)
      refine x_iconst (v := 1) hx hb dX0_ring_13 (by decide) ?_
      exact y_iret hx hb hr hlk hZ hU hS rfl rfl hU.1 dX0_ring_14
  refine kzX0_1_ring hst E hZ hU hS ⟨Nat.le_of_ble_eq_true rfl, Nat.le_of_ble_eq_true rfl⟩ hl.1 (Nat.le_of_ble_eq_true rfl) dX0_ring_4 (fun o1 H locs hU hS => ?_)
  refine x_i2l hx hb dX0_ring_7 rfl ?_
  refine gy_last E hU hS dX0_ring_8 (fun G2 H locs hU hS => ?_)
  refine x_goto (tgt := 15) hx hb dX0_ring_9 (by decide) ?_
  refine x_iconst (v := 0) hx hb dX0_ring_15 (by decide) ?_
  exact y_iret hx hb hr hlk hZ hU hS rfl rfl hU.1 dX0_ring_16

set_option maxHeartbeats 4000000 in
theorem mW0_count (l : Launch) (hst : l.stackTraces = false) (D : va_G) (ct : CT) (ad : Nat → Nat) (P : Nat → Nat → Option Nat) (S : US) (G0 : GS) (p1 : Int32) (q0 : Nat) (o : (Int32 × GS)) (ho : sW_count ct ad P S G0 p1 q0 = some o) : vx_Met l yX0_count (wsW_ yX0_count cX0_count 4 (some .int) [(0, 9, 12, 18)]) { frames := 8, cells := nmax ct - G0.2.1, slots := zmax ct - G0.2.2, locals := 146 } (mP D clW ct [.ref (ad (0)), .int p1, .ref q0] G0.2.1 (MW D clW ckH ct 26 ad P (fun _ => True) S 0 G0)) (yC (some (.int o.1)) (MW D clW ckH ct 26 ad P (mA 26 ad G0) S 0 o.2) G0 o.2 (mA 26 ad G0)) nX (nmax ct - G0.2.1) (zmax ct - G0.2.2) (mA 26 ad G0) := by
  refine YH.start (val := fun (o : (Int32 × GS)) => some (.int o.1)) (Bt := fun (o : (Int32 × GS)) => MW D clW ckH ct 26 ad P (mA 26 ad G0) S 0 o.2) (Go := fun (o : (Int32 × GS)) => o.2) ho (by decide) (Nat.le_of_ble_eq_true rfl) (lv := [(0, .ref (ad (0))), (1, .int p1), (2, .ref q0)]) rfl ?_
  intro p e s m args below meth c E hr hlk hnm htab hZ hU hS ls hl
  obtain ⟨⟨hx, hb, hml, hown, hts⟩, hK, hJ⟩ := id E
  unfold sW_count
  refine x_aload_n hx hb dX0_count_0 rfl (lv_at hl 2 rfl) ?_
  refine x_iconst (v := 0) hx hb dX0_count_1 (by decide) ?_
  refine x_aload_n hx hb dX0_count_2 rfl (lv_at hl 0 rfl) ?_
  refine x_iload_n hx hb dX0_count_3 rfl (lv_at hl 1 rfl) ?_
  refine X.tB (tw_catch E hZ hU hS (fun k hk hf => rtV (As := [.int p1]) E (hU.1.1.to fun _ _ => trivial) (recvU (i := 0) E.2.1 hU.1.1.1 (by decide) rfl rfl) (mT1_count l hst D ct ad P S G0.1 p1 _ k hk) (cwV 1 E.1.2.2.2.2 (lw_V q1367 q1368 q1369 q113 q1370) rfl rfl rfl (by decide +kernel) ⟨Nat.le_of_ble_eq_true rfl, Nat.le_of_ble_eq_true rfl⟩) rfl hl.1 rfl (Nat.le_of_ble_eq_true rfl) dX0_count_4 hf) (fun k o ho => ?_)) ?_
  · by_cases hk : k = 1
    · rw [if_pos hk] at ho
      rw [if_pos hk]
      have hE : exN k = "java/util/NoSuchElementException" := if_pos hk
      rw [hE]
      refine ⟨[], [], ⟨0, 9, 12, 18⟩, "java/util/NoSuchElementException", htab, (fun z hz => nomatch hz), rfl, by decide, hts _ q1366, hJ.at q1390 rfl, fun q H locs hU hS => ?_⟩
      refine X.cs (cells2 := (G0.1, G0.2.1 + 1, G0.2.2 + 6).2.1 - G0.2.1) (slots2 := (G0.1, G0.2.1 + 1, G0.2.2 + 6).2.2 - G0.2.2) rfl rfl ?_
      refine x_astore_n (lv' := [(3, .ref q), (0, .ref (ad (0))), (1, .int p1), (2, .ref q0)]) hx hb dX0_count_12 rfl hl (by decide) rfl (fun ls hl => ?_)
      refine x_iconst (v := 1) hx hb dX0_count_13 (by decide) ?_
      exact y_iret hx hb hr hlk hZ hU hS rfl rfl hU.1 dX0_count_14
    · rw [if_neg hk] at ho
      cases ho
  refine kzX0_1_count E hZ hU hS ⟨Nat.le_of_ble_eq_true rfl, Nat.le_of_ble_eq_true rfl⟩ hl.1 (Nat.le_of_ble_eq_true rfl) dX0_count_4 (fun o1 H locs hU hS => ?_)
  refine x_i2l hx hb dX0_count_7 rfl ?_
  refine gy_last E hU hS dX0_count_8 (fun G2 H locs hU hS => ?_)
  refine x_goto (tgt := 15) hx hb dX0_count_9 (by decide) ?_
  refine x_iconst (v := 0) hx hb dX0_count_15 (by decide) ?_
  exact y_iret hx hb hr hlk hZ hU hS rfl rfl hU.1 dX0_count_16

set_option maxHeartbeats 4000000 in
theorem mW0_stretch (l : Launch) (hst : l.stackTraces = false) (D : va_G) (ct : CT) (ad : Nat → Nat) (P : Nat → Nat → Option Nat) (S : US) (G0 : GS) (p1 : Int32) (p2 : Int32) (q0 : Nat) (o : (Int32 × US × GS)) (ho : sW_stretch ct ad P S G0 p1 p2 q0 = some o) : vx_Met l yX0_stretch (wsW_ yX0_stretch cX0_stretch 5 (some .int) [(0, 10, 13, 18)]) { frames := 503, cells := nmax ct - G0.2.1, slots := zmax ct - G0.2.2, locals := 20066 } (mP D clW ct [.ref (ad (0)), .int p1, .int p2, .ref q0] G0.2.1 (MW D clW ckH ct 26 ad P (fun _ => True) S 0 G0)) (yC (some (.int o.1)) (MW D clW ckH ct 26 ad P (mA 26 ad G0) o.2.1 0 o.2.2) G0 o.2.2 (mA 26 ad G0)) nX (nmax ct - G0.2.1) (zmax ct - G0.2.2) (mA 26 ad G0) := by
  refine YH.start (val := fun (o : (Int32 × US × GS)) => some (.int o.1)) (Bt := fun (o : (Int32 × US × GS)) => MW D clW ckH ct 26 ad P (mA 26 ad G0) o.2.1 0 o.2.2) (Go := fun (o : (Int32 × US × GS)) => o.2.2) ho (by decide) (Nat.le_of_ble_eq_true rfl) (lv := [(0, .ref (ad (0))), (1, .int p1), (2, .int p2), (3, .ref q0)]) rfl ?_
  intro p e s m args below meth c E hr hlk hnm htab hZ hU hS ls hl
  obtain ⟨⟨hx, hb, hml, hown, hts⟩, hK, hJ⟩ := id E
  unfold sW_stretch
  refine x_aload_n hx hb dX0_stretch_0 rfl (lv_at hl 3 rfl) ?_
  refine x_iconst (v := 0) hx hb dX0_stretch_1 (by decide) ?_
  refine x_aload_n hx hb dX0_stretch_2 rfl (lv_at hl 0 rfl) ?_
  refine x_iload_n hx hb dX0_stretch_3 rfl (lv_at hl 1 rfl) ?_
  refine x_iload_n hx hb dX0_stretch_4 rfl (lv_at hl 2 rfl) ?_
  refine X.tB (tw_catch E hZ hU hS (fun k hk hf => rtV (As := [.int p1, .int p2]) E (hU.1.1.to fun _ _ => trivial) (recvU (i := 0) E.2.1 hU.1.1.1 (by decide) rfl rfl) (mT1_stretch l hst D ct ad P S G0.1 p1 p2 _ k hk) (cwV 2 E.1.2.2.2.2 (lw_V q1406 q1407 q1408 q113 q1409) rfl rfl rfl (by decide +kernel) ⟨Nat.le_of_ble_eq_true rfl, Nat.le_of_ble_eq_true rfl⟩) rfl hl.1 rfl (Nat.le_of_ble_eq_true rfl) dX0_stretch_5 hf) (fun k o ho => ?_)) ?_
  · by_cases hk : k = 1
    · rw [if_pos hk] at ho
      rw [if_pos hk]
      have hE : exN k = "java/util/NoSuchElementException" := if_pos hk
      rw [hE]
      refine ⟨[], [], ⟨0, 10, 13, 18⟩, "java/util/NoSuchElementException", htab, (fun z hz => nomatch hz), rfl, by decide, hts _ q1366, hJ.at q1390 rfl, fun q H locs hU hS => ?_⟩
      refine X.cs (cells2 := (G0.1, G0.2.1 + 1, G0.2.2 + 6).2.1 - G0.2.1) (slots2 := (G0.1, G0.2.1 + 1, G0.2.2 + 6).2.2 - G0.2.2) rfl rfl ?_
      refine x_astore (lv' := [(4, .ref q), (0, .ref (ad (0))), (1, .int p1), (2, .int p2), (3, .ref q0)]) hx hb dX0_stretch_13 hl (by decide) rfl (fun ls hl => ?_)
      refine x_iconst (v := 1) hx hb dX0_stretch_15 (by decide) ?_
      exact y_iret hx hb hr hlk hZ hU hS rfl rfl hU.1 dX0_stretch_16
    · rw [if_neg hk] at ho
      cases ho
  refine kzX0_1_stretch E hZ hU hS ⟨Nat.le_of_ble_eq_true rfl, Nat.le_of_ble_eq_true rfl⟩ hl.1 (Nat.le_of_ble_eq_true rfl) dX0_stretch_5 (fun o1 H locs hU hS => ?_)
  refine x_i2l hx hb dX0_stretch_8 rfl ?_
  refine gy_last E hU hS dX0_stretch_9 (fun G2 H locs hU hS => ?_)
  refine x_goto (tgt := 17) hx hb dX0_stretch_10 (by decide) ?_
  refine x_iconst (v := 0) hx hb dX0_stretch_17 (by decide) ?_
  exact y_iret hx hb hr hlk hZ hU hS rfl rfl hU.1 dX0_stretch_18

set_option maxHeartbeats 4000000 in
theorem mW0_woman (l : Launch) (hst : l.stackTraces = false) (D : va_G) (ct : CT) (ad : Nat → Nat) (P : Nat → Nat → Option Nat) (S : US) (G0 : GS) (p1 : Int32) (p2 : Int32) (q0 : Nat) (o : (Int32 × GS)) (ho : sW_woman ct ad P S G0 p1 p2 q0 = some o) : vx_Met l yX0_woman (wsW_ yX0_woman cX0_woman 5 (some .int) [(0, 10, 13, 18)]) { frames := 9, cells := nmax ct - G0.2.1, slots := zmax ct - G0.2.2, locals := 163 } (mP D clW ct [.ref (ad (0)), .int p1, .int p2, .ref q0] G0.2.1 (MW D clW ckH ct 26 ad P (fun _ => True) S 0 G0)) (yC (some (.int o.1)) (MW D clW ckH ct 26 ad P (mA 26 ad G0) S 0 o.2) G0 o.2 (mA 26 ad G0)) nX (nmax ct - G0.2.1) (zmax ct - G0.2.2) (mA 26 ad G0) := by
  refine YH.start (val := fun (o : (Int32 × GS)) => some (.int o.1)) (Bt := fun (o : (Int32 × GS)) => MW D clW ckH ct 26 ad P (mA 26 ad G0) S 0 o.2) (Go := fun (o : (Int32 × GS)) => o.2) ho (by decide) (Nat.le_of_ble_eq_true rfl) (lv := [(0, .ref (ad (0))), (1, .int p1), (2, .int p2), (3, .ref q0)]) rfl ?_
  intro p e s m args below meth c E hr hlk hnm htab hZ hU hS ls hl
  obtain ⟨⟨hx, hb, hml, hown, hts⟩, hK, hJ⟩ := id E
  unfold sW_woman
  refine x_aload_n hx hb dX0_woman_0 rfl (lv_at hl 3 rfl) ?_
  refine x_iconst (v := 0) hx hb dX0_woman_1 (by decide) ?_
  refine x_aload_n hx hb dX0_woman_2 rfl (lv_at hl 0 rfl) ?_
  refine x_iload_n hx hb dX0_woman_3 rfl (lv_at hl 1 rfl) ?_
  refine x_iload_n hx hb dX0_woman_4 rfl (lv_at hl 2 rfl) ?_
  refine X.tB (tw_catch E hZ hU hS (fun k hk hf => rtV (As := [.int p1, .int p2]) E (hU.1.1.to fun _ _ => trivial) (recvU (i := 0) E.2.1 hU.1.1.1 (by decide) rfl rfl) (mT1_woman l hst D ct ad P S G0.1 p1 p2 _ k hk) (cwV 2 E.1.2.2.2.2 (lw_V q1419 q1420 q1421 q113 q1422) rfl rfl rfl (by decide +kernel) ⟨Nat.le_of_ble_eq_true rfl, Nat.le_of_ble_eq_true rfl⟩) rfl hl.1 rfl (Nat.le_of_ble_eq_true rfl) dX0_woman_5 hf) (fun k o ho => ?_)) ?_
  · by_cases hk : k = 1
    · rw [if_pos hk] at ho
      rw [if_pos hk]
      have hE : exN k = "java/util/NoSuchElementException" := if_pos hk
      rw [hE]
      refine ⟨[], [], ⟨0, 10, 13, 18⟩, "java/util/NoSuchElementException", htab, (fun z hz => nomatch hz), rfl, by decide, hts _ q1366, hJ.at q1390 rfl, fun q H locs hU hS => ?_⟩
      refine X.cs (cells2 := (G0.1, G0.2.1 + 1, G0.2.2 + 6).2.1 - G0.2.1) (slots2 := (G0.1, G0.2.1 + 1, G0.2.2 + 6).2.2 - G0.2.2) rfl rfl ?_
      refine x_astore (lv' := [(4, .ref q), (0, .ref (ad (0))), (1, .int p1), (2, .int p2), (3, .ref q0)]) hx hb dX0_woman_13 hl (by decide) rfl (fun ls hl => ?_)
      refine x_iconst (v := 1) hx hb dX0_woman_15 (by decide) ?_
      exact y_iret hx hb hr hlk hZ hU hS rfl rfl hU.1 dX0_woman_16
    · rw [if_neg hk] at ho
      cases ho
  refine kzX0_1_woman E hZ hU hS ⟨Nat.le_of_ble_eq_true rfl, Nat.le_of_ble_eq_true rfl⟩ hl.1 (Nat.le_of_ble_eq_true rfl) dX0_woman_5 (fun o1 H locs hU hS => ?_)
  refine x_i2l hx hb dX0_woman_8 rfl ?_
  refine gy_last E hU hS dX0_woman_9 (fun G2 H locs hU hS => ?_)
  refine x_goto (tgt := 17) hx hb dX0_woman_10 (by decide) ?_
  refine x_iconst (v := 0) hx hb dX0_woman_17 (by decide) ?_
  exact y_iret hx hb hr hlk hZ hU hS rfl rfl hU.1 dX0_woman_18

set_option maxHeartbeats 4000000 in
theorem mW0_mend (l : Launch) (hst : l.stackTraces = false) (D : va_G) (ct : CT) (ad : Nat → Nat) (P : Nat → Nat → Option Nat) (S : US) (G0 : GS) (p1 : Int32) (q0 : Nat) (o : (Int32 × US × GS)) (ho : sW_mend ct ad P S G0 p1 q0 = some o) : vx_Met l yX0_mend (wsW_ yX0_mend cX0_mend 4 (some .int) [(0, 9, 12, 18)]) { frames := 9, cells := nmax ct - G0.2.1, slots := zmax ct - G0.2.2, locals := 232 } (mP D clW ct [.ref (ad (0)), .int p1, .ref q0] G0.2.1 (MW D clW ckH ct 26 ad P (fun _ => True) S 0 G0)) (yC (some (.int o.1)) (MW D clW ckH ct 26 ad P (mA 26 ad G0) o.2.1 0 o.2.2) G0 o.2.2 (mA 26 ad G0)) nX (nmax ct - G0.2.1) (zmax ct - G0.2.2) (mA 26 ad G0) := by
  refine YH.start (val := fun (o : (Int32 × US × GS)) => some (.int o.1)) (Bt := fun (o : (Int32 × US × GS)) => MW D clW ckH ct 26 ad P (mA 26 ad G0) o.2.1 0 o.2.2) (Go := fun (o : (Int32 × US × GS)) => o.2.2) ho (by decide) (Nat.le_of_ble_eq_true rfl) (lv := [(0, .ref (ad (0))), (1, .int p1), (2, .ref q0)]) rfl ?_
  intro p e s m args below meth c E hr hlk hnm htab hZ hU hS ls hl
  obtain ⟨⟨hx, hb, hml, hown, hts⟩, hK, hJ⟩ := id E
  unfold sW_mend
  refine x_aload_n hx hb dX0_mend_0 rfl (lv_at hl 2 rfl) ?_
  refine x_iconst (v := 0) hx hb dX0_mend_1 (by decide) ?_
  refine x_aload_n hx hb dX0_mend_2 rfl (lv_at hl 0 rfl) ?_
  refine x_iload_n hx hb dX0_mend_3 rfl (lv_at hl 1 rfl) ?_
  refine X.tB (tw_catch E hZ hU hS (fun k hk hf => rtV (As := [.int p1]) E (hU.1.1.to fun _ _ => trivial) (recvU (i := 0) E.2.1 hU.1.1.1 (by decide) rfl rfl) (mT1_mend l hst D ct ad P S G0.1 p1 _ k hk) (cwV 1 E.1.2.2.2.2 (lw_V q1437 q1438 q1439 q113 q1440) rfl rfl rfl (by decide +kernel) ⟨Nat.le_of_ble_eq_true rfl, Nat.le_of_ble_eq_true rfl⟩) rfl hl.1 rfl (Nat.le_of_ble_eq_true rfl) dX0_mend_4 hf) (fun k o ho => ?_)) ?_
  · by_cases hk : k = 1
    · rw [if_pos hk] at ho
      rw [if_pos hk]
      have hE : exN k = "java/util/NoSuchElementException" := if_pos hk
      rw [hE]
      refine ⟨[], [], ⟨0, 9, 12, 18⟩, "java/util/NoSuchElementException", htab, (fun z hz => nomatch hz), rfl, by decide, hts _ q1366, hJ.at q1390 rfl, fun q H locs hU hS => ?_⟩
      refine X.cs (cells2 := (G0.1, G0.2.1 + 1, G0.2.2 + 6).2.1 - G0.2.1) (slots2 := (G0.1, G0.2.1 + 1, G0.2.2 + 6).2.2 - G0.2.2) rfl rfl ?_
      refine x_astore_n (lv' := [(3, .ref q), (0, .ref (ad (0))), (1, .int p1), (2, .ref q0)]) hx hb dX0_mend_12 rfl hl (by decide) rfl (fun ls hl => ?_)
      refine x_iconst (v := 1) hx hb dX0_mend_13 (by decide) ?_
      exact y_iret hx hb hr hlk hZ hU hS rfl rfl hU.1 dX0_mend_14
    · rw [if_neg hk] at ho
      cases ho
  refine kzX0_1_mend E hZ hU hS ⟨Nat.le_of_ble_eq_true rfl, Nat.le_of_ble_eq_true rfl⟩ hl.1 (Nat.le_of_ble_eq_true rfl) dX0_mend_4 (fun o1 H locs hU hS => ?_)
  refine x_i2l hx hb dX0_mend_7 rfl ?_
  refine gy_last E hU hS dX0_mend_8 (fun G2 H locs hU hS => ?_)
  refine x_goto (tgt := 15) hx hb dX0_mend_9 (by decide) ?_
  refine x_iconst (v := 0) hx hb dX0_mend_15 (by decide) ?_
  exact y_iret hx hb hr hlk hZ hU hS rfl rfl hU.1 dX0_mend_16

set_option maxHeartbeats 4000000 in
theorem mW0_go (l : Launch) (hst : l.stackTraces = false) (D : va_G) (ct : CT) (ad : Nat → Nat) (P : Nat → Nat → Option Nat) (S : US) (G0 : GS) (p1 : Int32) (p2 : Int32) (q0 : Nat) (o : (Int32 × US × GS)) (ho : sW_go ct ad P S G0 p1 p2 q0 = some o) : vx_Met l yX0_go (wsW_ yX0_go cX0_go 5 (some .int) [(0, 10, 13, 18)]) { frames := 9, cells := nmax ct - G0.2.1, slots := zmax ct - G0.2.2, locals := 234 } (mP D clW ct [.ref (ad (0)), .int p1, .int p2, .ref q0] G0.2.1 (MW D clW ckH ct 26 ad P (fun _ => True) S 0 G0)) (yC (some (.int o.1)) (MW D clW ckH ct 26 ad P (mA 26 ad G0) o.2.1 0 o.2.2) G0 o.2.2 (mA 26 ad G0)) nX (nmax ct - G0.2.1) (zmax ct - G0.2.2) (mA 26 ad G0) := by
  refine YH.start (val := fun (o : (Int32 × US × GS)) => some (.int o.1)) (Bt := fun (o : (Int32 × US × GS)) => MW D clW ckH ct 26 ad P (mA 26 ad G0) o.2.1 0 o.2.2) (Go := fun (o : (Int32 × US × GS)) => o.2.2) ho (by decide) (Nat.le_of_ble_eq_true rfl) (lv := [(0, .ref (ad (0))), (1, .int p1), (2, .int p2), (3, .ref q0)]) rfl ?_
  intro p e s m args below meth c E hr hlk hnm htab hZ hU hS ls hl
  obtain ⟨⟨hx, hb, hml, hown, hts⟩, hK, hJ⟩ := id E
  unfold sW_go
  refine x_aload_n hx hb dX0_go_0 rfl (lv_at hl 3 rfl) ?_
  refine x_iconst (v := 0) hx hb dX0_go_1 (by decide) ?_
  refine x_aload_n hx hb dX0_go_2 rfl (lv_at hl 0 rfl) ?_
  refine x_iload_n hx hb dX0_go_3 rfl (lv_at hl 1 rfl) ?_
  refine x_iload_n hx hb dX0_go_4 rfl (lv_at hl 2 rfl) ?_
  refine X.tB (tw_catch E hZ hU hS (fun k hk hf => rtV (As := [.int p1, .int p2]) E (hU.1.1.to fun _ _ => trivial) (recvU (i := 0) E.2.1 hU.1.1.1 (by decide) rfl rfl) (mT1_go l hst D ct ad P S G0.1 p1 p2 _ k hk) (cwV 2 E.1.2.2.2.2 (lw_V q1445 q1446 q1447 q113 q1448) rfl rfl rfl (by decide +kernel) ⟨Nat.le_of_ble_eq_true rfl, Nat.le_of_ble_eq_true rfl⟩) rfl hl.1 rfl (Nat.le_of_ble_eq_true rfl) dX0_go_5 hf) (fun k o ho => ?_)) ?_
  · by_cases hk : k = 1
    · rw [if_pos hk] at ho
      rw [if_pos hk]
      have hE : exN k = "java/util/NoSuchElementException" := if_pos hk
      rw [hE]
      refine ⟨[], [], ⟨0, 10, 13, 18⟩, "java/util/NoSuchElementException", htab, (fun z hz => nomatch hz), rfl, by decide, hts _ q1366, hJ.at q1390 rfl, fun q H locs hU hS => ?_⟩
      refine X.cs (cells2 := (G0.1, G0.2.1 + 1, G0.2.2 + 6).2.1 - G0.2.1) (slots2 := (G0.1, G0.2.1 + 1, G0.2.2 + 6).2.2 - G0.2.2) rfl rfl ?_
      refine x_astore (lv' := [(4, .ref q), (0, .ref (ad (0))), (1, .int p1), (2, .int p2), (3, .ref q0)]) hx hb dX0_go_13 hl (by decide) rfl (fun ls hl => ?_)
      refine x_iconst (v := 1) hx hb dX0_go_15 (by decide) ?_
      exact y_iret hx hb hr hlk hZ hU hS rfl rfl hU.1 dX0_go_16
    · rw [if_neg hk] at ho
      cases ho
  refine kzX0_1_go E hZ hU hS ⟨Nat.le_of_ble_eq_true rfl, Nat.le_of_ble_eq_true rfl⟩ hl.1 (Nat.le_of_ble_eq_true rfl) dX0_go_5 (fun o1 H locs hU hS => ?_)
  refine x_i2l hx hb dX0_go_8 rfl ?_
  refine gy_last E hU hS dX0_go_9 (fun G2 H locs hU hS => ?_)
  refine x_goto (tgt := 17) hx hb dX0_go_10 (by decide) ?_
  refine x_iconst (v := 0) hx hb dX0_go_17 (by decide) ?_
  exact y_iret hx hb hr hlk hZ hU hS rfl rfl hU.1 dX0_go_18

set_option maxHeartbeats 4000000 in
theorem mW0_stitch (l : Launch) (hst : l.stackTraces = false) (D : va_G) (ct : CT) (ad : Nat → Nat) (P : Nat → Nat → Option Nat) (S : US) (G0 : GS) (p1 : Int32) (p2 : Int32) (q0 : Nat) (o : (Int32 × US × GS)) (ho : sW_stitch ct ad P S G0 p1 p2 q0 = some o) : vx_Met l yX0_stitch (wsW_ yX0_stitch cX0_stitch 5 (some .int) [(0, 10, 13, 18)]) { frames := 9, cells := nmax ct - G0.2.1, slots := zmax ct - G0.2.2, locals := 234 } (mP D clW ct [.ref (ad (0)), .int p1, .int p2, .ref q0] G0.2.1 (MW D clW ckH ct 26 ad P (fun _ => True) S 0 G0)) (yC (some (.int o.1)) (MW D clW ckH ct 26 ad P (mA 26 ad G0) o.2.1 0 o.2.2) G0 o.2.2 (mA 26 ad G0)) nX (nmax ct - G0.2.1) (zmax ct - G0.2.2) (mA 26 ad G0) := by
  refine YH.start (val := fun (o : (Int32 × US × GS)) => some (.int o.1)) (Bt := fun (o : (Int32 × US × GS)) => MW D clW ckH ct 26 ad P (mA 26 ad G0) o.2.1 0 o.2.2) (Go := fun (o : (Int32 × US × GS)) => o.2.2) ho (by decide) (Nat.le_of_ble_eq_true rfl) (lv := [(0, .ref (ad (0))), (1, .int p1), (2, .int p2), (3, .ref q0)]) rfl ?_
  intro p e s m args below meth c E hr hlk hnm htab hZ hU hS ls hl
  obtain ⟨⟨hx, hb, hml, hown, hts⟩, hK, hJ⟩ := id E
  unfold sW_stitch
  refine x_aload_n hx hb dX0_stitch_0 rfl (lv_at hl 3 rfl) ?_
  refine x_iconst (v := 0) hx hb dX0_stitch_1 (by decide) ?_
  refine x_aload_n hx hb dX0_stitch_2 rfl (lv_at hl 0 rfl) ?_
  refine x_iload_n hx hb dX0_stitch_3 rfl (lv_at hl 1 rfl) ?_
  refine x_iload_n hx hb dX0_stitch_4 rfl (lv_at hl 2 rfl) ?_
  refine X.tB (tw_catch E hZ hU hS (fun k hk hf => rtV (As := [.int p1, .int p2]) E (hU.1.1.to fun _ _ => trivial) (recvU (i := 0) E.2.1 hU.1.1.1 (by decide) rfl rfl) (mT1_stitch l hst D ct ad P S G0.1 p1 p2 _ k hk) (cwV 2 E.1.2.2.2.2 (lw_V q1452 q1453 q1454 q113 q1455) rfl rfl rfl (by decide +kernel) ⟨Nat.le_of_ble_eq_true rfl, Nat.le_of_ble_eq_true rfl⟩) rfl hl.1 rfl (Nat.le_of_ble_eq_true rfl) dX0_stitch_5 hf) (fun k o ho => ?_)) ?_
  · by_cases hk : k = 1
    · rw [if_pos hk] at ho
      rw [if_pos hk]
      have hE : exN k = "java/util/NoSuchElementException" := if_pos hk
      rw [hE]
      refine ⟨[], [], ⟨0, 10, 13, 18⟩, "java/util/NoSuchElementException", htab, (fun z hz => nomatch hz), rfl, by decide, hts _ q1366, hJ.at q1390 rfl, fun q H locs hU hS => ?_⟩
      refine X.cs (cells2 := (G0.1, G0.2.1 + 1, G0.2.2 + 6).2.1 - G0.2.1) (slots2 := (G0.1, G0.2.1 + 1, G0.2.2 + 6).2.2 - G0.2.2) rfl rfl ?_
      refine x_astore (lv' := [(4, .ref q), (0, .ref (ad (0))), (1, .int p1), (2, .int p2), (3, .ref q0)]) hx hb dX0_stitch_13 hl (by decide) rfl (fun ls hl => ?_)
      refine x_iconst (v := 1) hx hb dX0_stitch_15 (by decide) ?_
      exact y_iret hx hb hr hlk hZ hU hS rfl rfl hU.1 dX0_stitch_16
    · rw [if_neg hk] at ho
      cases ho
  refine kzX0_1_stitch E hZ hU hS ⟨Nat.le_of_ble_eq_true rfl, Nat.le_of_ble_eq_true rfl⟩ hl.1 (Nat.le_of_ble_eq_true rfl) dX0_stitch_5 (fun o1 H locs hU hS => ?_)
  refine x_i2l hx hb dX0_stitch_8 rfl ?_
  refine gy_last E hU hS dX0_stitch_9 (fun G2 H locs hU hS => ?_)
  refine x_goto (tgt := 17) hx hb dX0_stitch_10 (by decide) ?_
  refine x_iconst (v := 0) hx hb dX0_stitch_17 (by decide) ?_
  exact y_iret hx hb hr hlk hZ hU hS rfl rfl hU.1 dX0_stitch_18

set_option maxHeartbeats 4000000 in
theorem mW0_thread (l : Launch) (hst : l.stackTraces = false) (D : va_G) (ct : CT) (ad : Nat → Nat) (P : Nat → Nat → Option Nat) (S : US) (G0 : GS) (p1 : Int32) (p2 : Int32) (q0 : Nat) (o : (Int32 × US × GS)) (ho : sW_thread ct ad P S G0 p1 p2 q0 = some o) : vx_Met l yX0_thread (wsW_ yX0_thread cX0_thread 5 (some .int) [(0, 10, 13, 18)]) { frames := 9, cells := nmax ct - G0.2.1, slots := zmax ct - G0.2.2, locals := 233 } (mP D clW ct [.ref (ad (0)), .int p1, .int p2, .ref q0] G0.2.1 (MW D clW ckH ct 26 ad P (fun _ => True) S 0 G0)) (yC (some (.int o.1)) (MW D clW ckH ct 26 ad P (mA 26 ad G0) o.2.1 0 o.2.2) G0 o.2.2 (mA 26 ad G0)) nX (nmax ct - G0.2.1) (zmax ct - G0.2.2) (mA 26 ad G0) := by
  refine YH.start (val := fun (o : (Int32 × US × GS)) => some (.int o.1)) (Bt := fun (o : (Int32 × US × GS)) => MW D clW ckH ct 26 ad P (mA 26 ad G0) o.2.1 0 o.2.2) (Go := fun (o : (Int32 × US × GS)) => o.2.2) ho (by decide) (Nat.le_of_ble_eq_true rfl) (lv := [(0, .ref (ad (0))), (1, .int p1), (2, .int p2), (3, .ref q0)]) rfl ?_
  intro p e s m args below meth c E hr hlk hnm htab hZ hU hS ls hl
  obtain ⟨⟨hx, hb, hml, hown, hts⟩, hK, hJ⟩ := id E
  unfold sW_thread
  refine x_aload_n hx hb dX0_thread_0 rfl (lv_at hl 3 rfl) ?_
  refine x_iconst (v := 0) hx hb dX0_thread_1 (by decide) ?_
  refine x_aload_n hx hb dX0_thread_2 rfl (lv_at hl 0 rfl) ?_
  refine x_iload_n hx hb dX0_thread_3 rfl (lv_at hl 1 rfl) ?_
  refine x_iload_n hx hb dX0_thread_4 rfl (lv_at hl 2 rfl) ?_
  refine X.tB (tw_catch E hZ hU hS (fun k hk hf => rtV (As := [.int p1, .int p2]) E (hU.1.1.to fun _ _ => trivial) (recvU (i := 0) E.2.1 hU.1.1.1 (by decide) rfl rfl) (mT1_thread l hst D ct ad P S G0.1 p1 p2 _ k hk) (cwV 2 E.1.2.2.2.2 (lw_V q1459 q1460 q1461 q113 q1462) rfl rfl rfl (by decide +kernel) ⟨Nat.le_of_ble_eq_true rfl, Nat.le_of_ble_eq_true rfl⟩) rfl hl.1 rfl (Nat.le_of_ble_eq_true rfl) dX0_thread_5 hf) (fun k o ho => ?_)) ?_
  · by_cases hk : k = 1
    · rw [if_pos hk] at ho
      rw [if_pos hk]
      have hE : exN k = "java/util/NoSuchElementException" := if_pos hk
      rw [hE]
      refine ⟨[], [], ⟨0, 10, 13, 18⟩, "java/util/NoSuchElementException", htab, (fun z hz => nomatch hz), rfl, by decide, hts _ q1366, hJ.at q1390 rfl, fun q H locs hU hS => ?_⟩
      refine X.cs (cells2 := (G0.1, G0.2.1 + 1, G0.2.2 + 6).2.1 - G0.2.1) (slots2 := (G0.1, G0.2.1 + 1, G0.2.2 + 6).2.2 - G0.2.2) rfl rfl ?_
      refine x_astore (lv' := [(4, .ref q), (0, .ref (ad (0))), (1, .int p1), (2, .int p2), (3, .ref q0)]) hx hb dX0_thread_13 hl (by decide) rfl (fun ls hl => ?_)
      refine x_iconst (v := 1) hx hb dX0_thread_15 (by decide) ?_
      exact y_iret hx hb hr hlk hZ hU hS rfl rfl hU.1 dX0_thread_16
    · rw [if_neg hk] at ho
      cases ho
  refine kzX0_1_thread E hZ hU hS ⟨Nat.le_of_ble_eq_true rfl, Nat.le_of_ble_eq_true rfl⟩ hl.1 (Nat.le_of_ble_eq_true rfl) dX0_thread_5 (fun o1 H locs hU hS => ?_)
  refine x_i2l hx hb dX0_thread_8 rfl ?_
  refine gy_last E hU hS dX0_thread_9 (fun G2 H locs hU hS => ?_)
  refine x_goto (tgt := 17) hx hb dX0_thread_10 (by decide) ?_
  refine x_iconst (v := 0) hx hb dX0_thread_17 (by decide) ?_
  exact y_iret hx hb hr hlk hZ hU hS rfl rfl hU.1 dX0_thread_18

set_option maxHeartbeats 4000000 in
theorem mW0_tear (l : Launch) (hst : l.stackTraces = false) (D : va_G) (ct : CT) (ad : Nat → Nat) (P : Nat → Nat → Option Nat) (S : US) (G0 : GS) (p1 : Int32) (p2 : Int32) (q0 : Nat) (o : (Int32 × US × GS)) (ho : sW_tear ct ad P S G0 p1 p2 q0 = some o) : vx_Met l yX0_tear (wsW_ yX0_tear cX0_tear 5 (some .int) [(0, 10, 13, 18)]) { frames := 9, cells := nmax ct - G0.2.1, slots := zmax ct - G0.2.2, locals := 233 } (mP D clW ct [.ref (ad (0)), .int p1, .int p2, .ref q0] G0.2.1 (MW D clW ckH ct 26 ad P (fun _ => True) S 0 G0)) (yC (some (.int o.1)) (MW D clW ckH ct 26 ad P (mA 26 ad G0) o.2.1 0 o.2.2) G0 o.2.2 (mA 26 ad G0)) nX (nmax ct - G0.2.1) (zmax ct - G0.2.2) (mA 26 ad G0) := by
  refine YH.start (val := fun (o : (Int32 × US × GS)) => some (.int o.1)) (Bt := fun (o : (Int32 × US × GS)) => MW D clW ckH ct 26 ad P (mA 26 ad G0) o.2.1 0 o.2.2) (Go := fun (o : (Int32 × US × GS)) => o.2.2) ho (by decide) (Nat.le_of_ble_eq_true rfl) (lv := [(0, .ref (ad (0))), (1, .int p1), (2, .int p2), (3, .ref q0)]) rfl ?_
  intro p e s m args below meth c E hr hlk hnm htab hZ hU hS ls hl
  obtain ⟨⟨hx, hb, hml, hown, hts⟩, hK, hJ⟩ := id E
  unfold sW_tear
  refine x_aload_n hx hb dX0_tear_0 rfl (lv_at hl 3 rfl) ?_
  refine x_iconst (v := 0) hx hb dX0_tear_1 (by decide) ?_
  refine x_aload_n hx hb dX0_tear_2 rfl (lv_at hl 0 rfl) ?_
  refine x_iload_n hx hb dX0_tear_3 rfl (lv_at hl 1 rfl) ?_
  refine x_iload_n hx hb dX0_tear_4 rfl (lv_at hl 2 rfl) ?_
  refine X.tB (tw_catch E hZ hU hS (fun k hk hf => rtV (As := [.int p1, .int p2]) E (hU.1.1.to fun _ _ => trivial) (recvU (i := 0) E.2.1 hU.1.1.1 (by decide) rfl rfl) (mT1_tear l hst D ct ad P S G0.1 p1 p2 _ k hk) (cwV 2 E.1.2.2.2.2 (lw_V q1466 q1467 q1468 q113 q1469) rfl rfl rfl (by decide +kernel) ⟨Nat.le_of_ble_eq_true rfl, Nat.le_of_ble_eq_true rfl⟩) rfl hl.1 rfl (Nat.le_of_ble_eq_true rfl) dX0_tear_5 hf) (fun k o ho => ?_)) ?_
  · by_cases hk : k = 1
    · rw [if_pos hk] at ho
      rw [if_pos hk]
      have hE : exN k = "java/util/NoSuchElementException" := if_pos hk
      rw [hE]
      refine ⟨[], [], ⟨0, 10, 13, 18⟩, "java/util/NoSuchElementException", htab, (fun z hz => nomatch hz), rfl, by decide, hts _ q1366, hJ.at q1390 rfl, fun q H locs hU hS => ?_⟩
      refine X.cs (cells2 := (G0.1, G0.2.1 + 1, G0.2.2 + 6).2.1 - G0.2.1) (slots2 := (G0.1, G0.2.1 + 1, G0.2.2 + 6).2.2 - G0.2.2) rfl rfl ?_
      refine x_astore (lv' := [(4, .ref q), (0, .ref (ad (0))), (1, .int p1), (2, .int p2), (3, .ref q0)]) hx hb dX0_tear_13 hl (by decide) rfl (fun ls hl => ?_)
      refine x_iconst (v := 1) hx hb dX0_tear_15 (by decide) ?_
      exact y_iret hx hb hr hlk hZ hU hS rfl rfl hU.1 dX0_tear_16
    · rw [if_neg hk] at ho
      cases ho
  refine kzX0_1_tear E hZ hU hS ⟨Nat.le_of_ble_eq_true rfl, Nat.le_of_ble_eq_true rfl⟩ hl.1 (Nat.le_of_ble_eq_true rfl) dX0_tear_5 (fun o1 H locs hU hS => ?_)
  refine x_i2l hx hb dX0_tear_8 rfl ?_
  refine gy_last E hU hS dX0_tear_9 (fun G2 H locs hU hS => ?_)
  refine x_goto (tgt := 17) hx hb dX0_tear_10 (by decide) ?_
  refine x_iconst (v := 0) hx hb dX0_tear_17 (by decide) ?_
  exact y_iret hx hb hr hlk hZ hU hS rfl rfl hU.1 dX0_tear_18

set_option maxHeartbeats 4000000 in
theorem mW0_then (l : Launch) (hst : l.stackTraces = false) (D : va_G) (ct : CT) (ad : Nat → Nat) (P : Nat → Nat → Option Nat) (S : US) (G0 : GS) (p1 : Int32) (p2 : Int32) (p3 : Int32) (q0 : Nat) (o : (Int32 × US × GS)) (ho : sW_then ct ad P S G0 p1 p2 p3 q0 = some o) : vx_Met l yX0_then (wsW_ yX0_then cX0_then 6 (some .int) [(0, 12, 15, 18), (0, 12, 19, 13)]) { frames := 506, cells := nmax ct - G0.2.1, slots := zmax ct - G0.2.2, locals := 20131 } (mP D clW ct [.ref (ad (0)), .int p1, .int p2, .int p3, .ref q0] G0.2.1 (MW D clW ckH ct 26 ad P (fun _ => True) S 0 G0)) (yC (some (.int o.1)) (MW D clW ckH ct 26 ad P (mA 26 ad G0) o.2.1 0 o.2.2) G0 o.2.2 (mA 26 ad G0)) nX (nmax ct - G0.2.1) (zmax ct - G0.2.2) (mA 26 ad G0) := by
  refine YH.start (val := fun (o : (Int32 × US × GS)) => some (.int o.1)) (Bt := fun (o : (Int32 × US × GS)) => MW D clW ckH ct 26 ad P (mA 26 ad G0) o.2.1 0 o.2.2) (Go := fun (o : (Int32 × US × GS)) => o.2.2) ho (by decide) (Nat.le_of_ble_eq_true rfl) (lv := [(0, .ref (ad (0))), (1, .int p1), (2, .int p2), (3, .int p3), (4, .ref q0)]) rfl ?_
  intro p e s m args below meth c E hr hlk hnm htab hZ hU hS ls hl
  obtain ⟨⟨hx, hb, hml, hown, hts⟩, hK, hJ⟩ := id E
  unfold sW_then
  refine x_aload hx hb dX0_then_0 (lv_at hl 4 rfl) ?_
  refine x_iconst (v := 0) hx hb dX0_then_2 (by decide) ?_
  refine x_aload_n hx hb dX0_then_3 rfl (lv_at hl 0 rfl) ?_
  refine x_iload_n hx hb dX0_then_4 rfl (lv_at hl 1 rfl) ?_
  refine x_iload_n hx hb dX0_then_5 rfl (lv_at hl 2 rfl) ?_
  refine x_iload_n hx hb dX0_then_6 rfl (lv_at hl 3 rfl) ?_
  refine X.tB (tw_catch E hZ hU hS (fun k hk hf => rtV (As := [.int p1, .int p2, .int p3]) E (hU.1.1.to fun _ _ => trivial) (recvU (i := 0) E.2.1 hU.1.1.1 (by decide) rfl rfl) (mT1_then l hst D ct ad P S G0.1 p1 p2 p3 _ k hk) (cwV 3 E.1.2.2.2.2 (lw_V q1474 q1475 q1476 q113 q1477) rfl rfl rfl (by decide +kernel) ⟨Nat.le_of_ble_eq_true rfl, Nat.le_of_ble_eq_true rfl⟩) rfl hl.1 rfl (Nat.le_of_ble_eq_true rfl) dX0_then_7 hf) (fun k o ho => ?_)) ?_
  · by_cases hk : k = 1
    · rw [if_pos hk] at ho
      rw [if_pos hk]
      have hE : exN k = "java/util/NoSuchElementException" := if_pos hk
      rw [hE]
      refine ⟨[], [⟨0, 12, 19, 13⟩], ⟨0, 12, 15, 18⟩, "java/util/NoSuchElementException", htab, (fun z hz => nomatch hz), rfl, by decide, hts _ q1366, hJ.at q1390 rfl, fun q H locs hU hS => ?_⟩
      refine X.cs (cells2 := (G0.1, G0.2.1 + 1, G0.2.2 + 6).2.1 - G0.2.1) (slots2 := (G0.1, G0.2.1 + 1, G0.2.2 + 6).2.2 - G0.2.2) rfl rfl ?_
      refine x_astore (lv' := [(5, .ref q), (0, .ref (ad (0))), (1, .int p1), (2, .int p2), (3, .int p3), (4, .ref q0)]) hx hb dX0_then_15 hl (by decide) rfl (fun ls hl => ?_)
      refine x_iconst (v := 1) hx hb dX0_then_17 (by decide) ?_
      exact y_iret hx hb hr hlk hZ hU hS rfl rfl hU.1 dX0_then_18
    · rw [if_neg hk] at ho
      rw [if_neg hk]
      have hE : exN k = "java/lang/IllegalArgumentException" := if_neg hk
      rw [hE]
      refine ⟨[⟨0, 12, 15, 18⟩], [], ⟨0, 12, 19, 13⟩, "java/lang/IllegalArgumentException", htab, (fun z hz => by cases List.mem_singleton.mp hz; exact Or.inr ⟨by decide, _, hts _ q1366, hJ.nc _ (List.mem_of_getElem? (i := 0) rfl)⟩), rfl, by decide, hts _ q693, hJ.at q704 rfl, fun q H locs hU hS => ?_⟩
      refine X.cs (cells2 := (G0.1, G0.2.1 + 1, G0.2.2 + 6).2.1 - G0.2.1) (slots2 := (G0.1, G0.2.1 + 1, G0.2.2 + 6).2.2 - G0.2.2) rfl rfl ?_
      refine x_astore (lv' := [(5, .ref q), (0, .ref (ad (0))), (1, .int p1), (2, .int p2), (3, .int p3), (4, .ref q0)]) hx hb dX0_then_19 hl (by decide) rfl (fun ls hl => ?_)
      refine x_iconst (v := 2) hx hb dX0_then_21 (by decide) ?_
      exact y_iret hx hb hr hlk hZ hU hS rfl rfl hU.1 dX0_then_22
  refine kzX0_1_then E hZ hU hS ⟨Nat.le_of_ble_eq_true rfl, Nat.le_of_ble_eq_true rfl⟩ hl.1 (Nat.le_of_ble_eq_true rfl) dX0_then_7 (fun o1 H locs hU hS => ?_)
  refine x_i2l hx hb dX0_then_10 rfl ?_
  refine gy_last E hU hS dX0_then_11 (fun G2 H locs hU hS => ?_)
  refine x_goto (tgt := 23) hx hb dX0_then_12 (by decide) ?_
  refine x_iconst (v := 0) hx hb dX0_then_23 (by decide) ?_
  exact y_iret hx hb hr hlk hZ hU hS rfl rfl hU.1 dX0_then_24

set_option maxHeartbeats 4000000 in
theorem mW0_later (l : Launch) (hst : l.stackTraces = false) (D : va_G) (ct : CT) (ad : Nat → Nat) (P : Nat → Nat → Option Nat) (S : US) (G0 : GS) (p1 : Int32) (p2 : Int32) (q0 : Nat) (o : (Int32 × US × GS)) (ho : sW_later ct ad P S G0 p1 p2 q0 = some o) : vx_Met l yX0_later (wsW_ yX0_later cX0_later 5 (some .int) [(0, 10, 13, 18), (0, 10, 17, 13)]) { frames := 506, cells := nmax ct - G0.2.1, slots := zmax ct - G0.2.2, locals := 20130 } (mP D clW ct [.ref (ad (0)), .int p1, .int p2, .ref q0] G0.2.1 (MW D clW ckH ct 26 ad P (fun _ => True) S 0 G0)) (yC (some (.int o.1)) (MW D clW ckH ct 26 ad P (mA 26 ad G0) o.2.1 0 o.2.2) G0 o.2.2 (mA 26 ad G0)) nX (nmax ct - G0.2.1) (zmax ct - G0.2.2) (mA 26 ad G0) := by
  refine YH.start (val := fun (o : (Int32 × US × GS)) => some (.int o.1)) (Bt := fun (o : (Int32 × US × GS)) => MW D clW ckH ct 26 ad P (mA 26 ad G0) o.2.1 0 o.2.2) (Go := fun (o : (Int32 × US × GS)) => o.2.2) ho (by decide) (Nat.le_of_ble_eq_true rfl) (lv := [(0, .ref (ad (0))), (1, .int p1), (2, .int p2), (3, .ref q0)]) rfl ?_
  intro p e s m args below meth c E hr hlk hnm htab hZ hU hS ls hl
  obtain ⟨⟨hx, hb, hml, hown, hts⟩, hK, hJ⟩ := id E
  unfold sW_later
  refine x_aload_n hx hb dX0_later_0 rfl (lv_at hl 3 rfl) ?_
  refine x_iconst (v := 0) hx hb dX0_later_1 (by decide) ?_
  refine x_aload_n hx hb dX0_later_2 rfl (lv_at hl 0 rfl) ?_
  refine x_iload_n hx hb dX0_later_3 rfl (lv_at hl 1 rfl) ?_
  refine x_iload_n hx hb dX0_later_4 rfl (lv_at hl 2 rfl) ?_
  refine X.tB (tw_catch E hZ hU hS (fun k hk hf => rtV (As := [.int p1, .int p2]) E (hU.1.1.to fun _ _ => trivial) (recvU (i := 0) E.2.1 hU.1.1.1 (by decide) rfl rfl) (mT1_later l hst D ct ad P S G0.1 p1 p2 _ k hk) (cwV 2 E.1.2.2.2.2 (lw_V q1485 q1486 q1487 q113 q1488) rfl rfl rfl (by decide +kernel) ⟨Nat.le_of_ble_eq_true rfl, Nat.le_of_ble_eq_true rfl⟩) rfl hl.1 rfl (Nat.le_of_ble_eq_true rfl) dX0_later_5 hf) (fun k o ho => ?_)) ?_
  · by_cases hk : k = 1
    · rw [if_pos hk] at ho
      rw [if_pos hk]
      have hE : exN k = "java/util/NoSuchElementException" := if_pos hk
      rw [hE]
      refine ⟨[], [⟨0, 10, 17, 13⟩], ⟨0, 10, 13, 18⟩, "java/util/NoSuchElementException", htab, (fun z hz => nomatch hz), rfl, by decide, hts _ q1366, hJ.at q1390 rfl, fun q H locs hU hS => ?_⟩
      refine X.cs (cells2 := (G0.1, G0.2.1 + 1, G0.2.2 + 6).2.1 - G0.2.1) (slots2 := (G0.1, G0.2.1 + 1, G0.2.2 + 6).2.2 - G0.2.2) rfl rfl ?_
      refine x_astore (lv' := [(4, .ref q), (0, .ref (ad (0))), (1, .int p1), (2, .int p2), (3, .ref q0)]) hx hb dX0_later_13 hl (by decide) rfl (fun ls hl => ?_)
      refine x_iconst (v := 1) hx hb dX0_later_15 (by decide) ?_
      exact y_iret hx hb hr hlk hZ hU hS rfl rfl hU.1 dX0_later_16
    · rw [if_neg hk] at ho
      rw [if_neg hk]
      have hE : exN k = "java/lang/IllegalArgumentException" := if_neg hk
      rw [hE]
      refine ⟨[⟨0, 10, 13, 18⟩], [], ⟨0, 10, 17, 13⟩, "java/lang/IllegalArgumentException", htab, (fun z hz => by cases List.mem_singleton.mp hz; exact Or.inr ⟨by decide, _, hts _ q1366, hJ.nc _ (List.mem_of_getElem? (i := 0) rfl)⟩), rfl, by decide, hts _ q693, hJ.at q704 rfl, fun q H locs hU hS => ?_⟩
      refine X.cs (cells2 := (G0.1, G0.2.1 + 1, G0.2.2 + 6).2.1 - G0.2.1) (slots2 := (G0.1, G0.2.1 + 1, G0.2.2 + 6).2.2 - G0.2.2) rfl rfl ?_
      refine x_astore (lv' := [(4, .ref q), (0, .ref (ad (0))), (1, .int p1), (2, .int p2), (3, .ref q0)]) hx hb dX0_later_17 hl (by decide) rfl (fun ls hl => ?_)
      refine x_iconst (v := 2) hx hb dX0_later_19 (by decide) ?_
      exact y_iret hx hb hr hlk hZ hU hS rfl rfl hU.1 dX0_later_20
  refine kzX0_1_later E hZ hU hS ⟨Nat.le_of_ble_eq_true rfl, Nat.le_of_ble_eq_true rfl⟩ hl.1 (Nat.le_of_ble_eq_true rfl) dX0_later_5 (fun o1 H locs hU hS => ?_)
  refine x_i2l hx hb dX0_later_8 rfl ?_
  refine gy_last E hU hS dX0_later_9 (fun G2 H locs hU hS => ?_)
  refine x_goto (tgt := 21) hx hb dX0_later_10 (by decide) ?_
  refine x_iconst (v := 0) hx hb dX0_later_21 (by decide) ?_
  exact y_iret hx hb hr hlk hZ hU hS rfl rfl hU.1 dX0_later_22

set_option maxHeartbeats 4000000 in
theorem mW0_opens (l : Launch) (hst : l.stackTraces = false) (D : va_G) (ct : CT) (ad : Nat → Nat) (P : Nat → Nat → Option Nat) (S : US) (G0 : GS) (p1 : Int32) (q0 : Nat) (o : (Int32 × US × GS)) (ho : sW_opens ct ad P S G0 p1 q0 = some o) : vx_Met l yX0_opens (wsW_ yX0_opens cX0_opens 4 (some .int) [(0, 9, 12, 18)]) { frames := 505, cells := nmax ct - G0.2.1, slots := zmax ct - G0.2.2, locals := 20108 } (mP D clW ct [.ref (ad (0)), .int p1, .ref q0] G0.2.1 (MW D clW ckH ct 26 ad P (fun _ => True) S 0 G0)) (yC (some (.int o.1)) (MW D clW ckH ct 26 ad P (mA 26 ad G0) o.2.1 0 o.2.2) G0 o.2.2 (mA 26 ad G0)) nX (nmax ct - G0.2.1) (zmax ct - G0.2.2) (mA 26 ad G0) := by
  refine YH.start (val := fun (o : (Int32 × US × GS)) => some (.int o.1)) (Bt := fun (o : (Int32 × US × GS)) => MW D clW ckH ct 26 ad P (mA 26 ad G0) o.2.1 0 o.2.2) (Go := fun (o : (Int32 × US × GS)) => o.2.2) ho (by decide) (Nat.le_of_ble_eq_true rfl) (lv := [(0, .ref (ad (0))), (1, .int p1), (2, .ref q0)]) rfl ?_
  intro p e s m args below meth c E hr hlk hnm htab hZ hU hS ls hl
  obtain ⟨⟨hx, hb, hml, hown, hts⟩, hK, hJ⟩ := id E
  unfold sW_opens
  refine x_aload_n hx hb dX0_opens_0 rfl (lv_at hl 2 rfl) ?_
  refine x_iconst (v := 0) hx hb dX0_opens_1 (by decide) ?_
  refine x_aload_n hx hb dX0_opens_2 rfl (lv_at hl 0 rfl) ?_
  refine x_iload_n hx hb dX0_opens_3 rfl (lv_at hl 1 rfl) ?_
  refine X.tB (tw_catch E hZ hU hS (fun k hk hf => rtV (As := [.int p1]) E (hU.1.1.to fun _ _ => trivial) (recvU (i := 0) E.2.1 hU.1.1.1 (by decide) rfl rfl) (mT1_opens l hst D ct ad P S G0.1 p1 _ k hk) (cwV 1 E.1.2.2.2.2 (lw_V q1500 q1501 q1502 q113 q1503) rfl rfl rfl (by decide +kernel) ⟨Nat.le_of_ble_eq_true rfl, Nat.le_of_ble_eq_true rfl⟩) rfl hl.1 rfl (Nat.le_of_ble_eq_true rfl) dX0_opens_4 hf) (fun k o ho => ?_)) ?_
  · by_cases hk : k = 1
    · rw [if_pos hk] at ho
      rw [if_pos hk]
      have hE : exN k = "java/util/NoSuchElementException" := if_pos hk
      rw [hE]
      refine ⟨[], [], ⟨0, 9, 12, 18⟩, "java/util/NoSuchElementException", htab, (fun z hz => nomatch hz), rfl, by decide, hts _ q1366, hJ.at q1390 rfl, fun q H locs hU hS => ?_⟩
      refine X.cs (cells2 := (G0.1, G0.2.1 + 1, G0.2.2 + 6).2.1 - G0.2.1) (slots2 := (G0.1, G0.2.1 + 1, G0.2.2 + 6).2.2 - G0.2.2) rfl rfl ?_
      refine x_astore_n (lv' := [(3, .ref q), (0, .ref (ad (0))), (1, .int p1), (2, .ref q0)]) hx hb dX0_opens_12 rfl hl (by decide) rfl (fun ls hl => ?_)
      refine x_iconst (v := 1) hx hb dX0_opens_13 (by decide) ?_
      exact y_iret hx hb hr hlk hZ hU hS rfl rfl hU.1 dX0_opens_14
    · rw [if_neg hk] at ho
      cases ho
  refine kzX0_1_opens E hZ hU hS ⟨Nat.le_of_ble_eq_true rfl, Nat.le_of_ble_eq_true rfl⟩ hl.1 (Nat.le_of_ble_eq_true rfl) dX0_opens_4 (fun o1 H locs hU hS => ?_)
  refine x_i2l hx hb dX0_opens_7 rfl ?_
  refine gy_last E hU hS dX0_opens_8 (fun G2 H locs hU hS => ?_)
  refine x_goto (tgt := 15) hx hb dX0_opens_9 (by decide) ?_
  refine x_iconst (v := 0) hx hb dX0_opens_15 (by decide) ?_
  exact y_iret hx hb hr hlk hZ hU hS rfl rfl hU.1 dX0_opens_16

set_option maxHeartbeats 4000000 in
theorem mW0_where (l : Launch) (hst : l.stackTraces = false) (D : va_G) (ct : CT) (ad : Nat → Nat) (P : Nat → Nat → Option Nat) (S : US) (G0 : GS) (p1 : Int32) (p2 : Int32) (p3 : Int32) (q0 : Nat) (o : (Int32 × US × GS)) (ho : sW_where ct ad P S G0 p1 p2 p3 q0 = some o) : vx_Met l yX0_where (wsW_ yX0_where cX0_where 6 (some .int) [(0, 12, 15, 18), (0, 12, 19, 13)]) { frames := 506, cells := nmax ct - G0.2.1, slots := zmax ct - G0.2.2, locals := 20131 } (mP D clW ct [.ref (ad (0)), .int p1, .int p2, .int p3, .ref q0] G0.2.1 (MW D clW ckH ct 26 ad P (fun _ => True) S 0 G0)) (yC (some (.int o.1)) (MW D clW ckH ct 26 ad P (mA 26 ad G0) o.2.1 0 o.2.2) G0 o.2.2 (mA 26 ad G0)) nX (nmax ct - G0.2.1) (zmax ct - G0.2.2) (mA 26 ad G0) := by
  refine YH.start (val := fun (o : (Int32 × US × GS)) => some (.int o.1)) (Bt := fun (o : (Int32 × US × GS)) => MW D clW ckH ct 26 ad P (mA 26 ad G0) o.2.1 0 o.2.2) (Go := fun (o : (Int32 × US × GS)) => o.2.2) ho (by decide) (Nat.le_of_ble_eq_true rfl) (lv := [(0, .ref (ad (0))), (1, .int p1), (2, .int p2), (3, .int p3), (4, .ref q0)]) rfl ?_
  intro p e s m args below meth c E hr hlk hnm htab hZ hU hS ls hl
  obtain ⟨⟨hx, hb, hml, hown, hts⟩, hK, hJ⟩ := id E
  unfold sW_where
  refine x_aload hx hb dX0_where_0 (lv_at hl 4 rfl) ?_
  refine x_iconst (v := 0) hx hb dX0_where_2 (by decide) ?_
  refine x_aload_n hx hb dX0_where_3 rfl (lv_at hl 0 rfl) ?_
  refine x_iload_n hx hb dX0_where_4 rfl (lv_at hl 1 rfl) ?_
  refine x_iload_n hx hb dX0_where_5 rfl (lv_at hl 2 rfl) ?_
  refine x_iload_n hx hb dX0_where_6 rfl (lv_at hl 3 rfl) ?_
  refine X.tB (tw_catch E hZ hU hS (fun k hk hf => rtV (As := [.int p1, .int p2, .int p3]) E (hU.1.1.to fun _ _ => trivial) (recvU (i := 0) E.2.1 hU.1.1.1 (by decide) rfl rfl) (mT1_where l hst D ct ad P S G0.1 p1 p2 p3 _ k hk) (cwV 3 E.1.2.2.2.2 (lw_V q1507 q1508 q1509 q113 q1510) rfl rfl rfl (by decide +kernel) ⟨Nat.le_of_ble_eq_true rfl, Nat.le_of_ble_eq_true rfl⟩) rfl hl.1 rfl (Nat.le_of_ble_eq_true rfl) dX0_where_7 hf) (fun k o ho => ?_)) ?_
  · by_cases hk : k = 1
    · rw [if_pos hk] at ho
      rw [if_pos hk]
      have hE : exN k = "java/util/NoSuchElementException" := if_pos hk
      rw [hE]
      refine ⟨[], [⟨0, 12, 19, 13⟩], ⟨0, 12, 15, 18⟩, "java/util/NoSuchElementException", htab, (fun z hz => nomatch hz), rfl, by decide, hts _ q1366, hJ.at q1390 rfl, fun q H locs hU hS => ?_⟩
      refine X.cs (cells2 := (G0.1, G0.2.1 + 1, G0.2.2 + 6).2.1 - G0.2.1) (slots2 := (G0.1, G0.2.1 + 1, G0.2.2 + 6).2.2 - G0.2.2) rfl rfl ?_
      refine x_astore (lv' := [(5, .ref q), (0, .ref (ad (0))), (1, .int p1), (2, .int p2), (3, .int p3), (4, .ref q0)]) hx hb dX0_where_15 hl (by decide) rfl (fun ls hl => ?_)
      refine x_iconst (v := 1) hx hb dX0_where_17 (by decide) ?_
      exact y_iret hx hb hr hlk hZ hU hS rfl rfl hU.1 dX0_where_18
    · rw [if_neg hk] at ho
      rw [if_neg hk]
      have hE : exN k = "java/lang/IllegalArgumentException" := if_neg hk
      rw [hE]
      refine ⟨[⟨0, 12, 15, 18⟩], [], ⟨0, 12, 19, 13⟩, "java/lang/IllegalArgumentException", htab, (fun z hz => by cases List.mem_singleton.mp hz; exact Or.inr ⟨by decide, _, hts _ q1366, hJ.nc _ (List.mem_of_getElem? (i := 0) rfl)⟩), rfl, by decide, hts _ q693, hJ.at q704 rfl, fun q H locs hU hS => ?_⟩
      refine X.cs (cells2 := (G0.1, G0.2.1 + 1, G0.2.2 + 6).2.1 - G0.2.1) (slots2 := (G0.1, G0.2.1 + 1, G0.2.2 + 6).2.2 - G0.2.2) rfl rfl ?_
      refine x_astore (lv' := [(5, .ref q), (0, .ref (ad (0))), (1, .int p1), (2, .int p2), (3, .int p3), (4, .ref q0)]) hx hb dX0_where_19 hl (by decide) rfl (fun ls hl => ?_)
      refine x_iconst (v := 2) hx hb dX0_where_21 (by decide) ?_
      exact y_iret hx hb hr hlk hZ hU hS rfl rfl hU.1 dX0_where_22
  refine kzX0_1_where E hZ hU hS ⟨Nat.le_of_ble_eq_true rfl, Nat.le_of_ble_eq_true rfl⟩ hl.1 (Nat.le_of_ble_eq_true rfl) dX0_where_7 (fun o1 H locs hU hS => ?_)
  refine x_i2l hx hb dX0_where_10 rfl ?_
  refine gy_last E hU hS dX0_where_11 (fun G2 H locs hU hS => ?_)
  refine x_goto (tgt := 23) hx hb dX0_where_12 (by decide) ?_
  refine x_iconst (v := 0) hx hb dX0_where_23 (by decide) ?_
  exact y_iret hx hb hr hlk hZ hU hS rfl rfl hU.1 dX0_where_24

set_option maxHeartbeats 4000000 in
theorem mW0_toHold (l : Launch) (hst : l.stackTraces = false) (D : va_G) (ct : CT) (ad : Nat → Nat) (P : Nat → Nat → Option Nat) (S : US) (G0 : GS) (p1 : Int32) (p2 : Int32) (q0 : Nat) (o : (Int32 × US × GS)) (ho : sW_toHold ct ad P S G0 p1 p2 q0 = some o) : vx_Met l yX0_toHold (wsW_ yX0_toHold cX0_toHold 5 (some .int) [(0, 10, 13, 18), (0, 10, 17, 13)]) { frames := 505, cells := nmax ct - G0.2.1, slots := zmax ct - G0.2.2, locals := 20111 } (mP D clW ct [.ref (ad (0)), .int p1, .int p2, .ref q0] G0.2.1 (MW D clW ckH ct 26 ad P (fun _ => True) S 0 G0)) (yC (some (.int o.1)) (MW D clW ckH ct 26 ad P (mA 26 ad G0) o.2.1 0 o.2.2) G0 o.2.2 (mA 26 ad G0)) nX (nmax ct - G0.2.1) (zmax ct - G0.2.2) (mA 26 ad G0) := by
  refine YH.start (val := fun (o : (Int32 × US × GS)) => some (.int o.1)) (Bt := fun (o : (Int32 × US × GS)) => MW D clW ckH ct 26 ad P (mA 26 ad G0) o.2.1 0 o.2.2) (Go := fun (o : (Int32 × US × GS)) => o.2.2) ho (by decide) (Nat.le_of_ble_eq_true rfl) (lv := [(0, .ref (ad (0))), (1, .int p1), (2, .int p2), (3, .ref q0)]) rfl ?_
  intro p e s m args below meth c E hr hlk hnm htab hZ hU hS ls hl
  obtain ⟨⟨hx, hb, hml, hown, hts⟩, hK, hJ⟩ := id E
  unfold sW_toHold
  refine x_aload_n hx hb dX0_toHold_0 rfl (lv_at hl 3 rfl) ?_
  refine x_iconst (v := 0) hx hb dX0_toHold_1 (by decide) ?_
  refine x_aload_n hx hb dX0_toHold_2 rfl (lv_at hl 0 rfl) ?_
  refine x_iload_n hx hb dX0_toHold_3 rfl (lv_at hl 1 rfl) ?_
  refine x_iload_n hx hb dX0_toHold_4 rfl (lv_at hl 2 rfl) ?_
  refine X.tB (tw_catch E hZ hU hS (fun k hk hf => rtV (As := [.int p1, .int p2]) E (hU.1.1.to fun _ _ => trivial) (recvU (i := 0) E.2.1 hU.1.1.1 (by decide) rfl rfl) (mT1_toHold l hst D ct ad P S G0.1 p1 p2 _ k hk) (cwV 2 E.1.2.2.2.2 (lw_V q1514 q1515 q1516 q113 q1517) rfl rfl rfl (by decide +kernel) ⟨Nat.le_of_ble_eq_true rfl, Nat.le_of_ble_eq_true rfl⟩) rfl hl.1 rfl (Nat.le_of_ble_eq_true rfl) dX0_toHold_5 hf) (fun k o ho => ?_)) ?_
  · by_cases hk : k = 1
    · rw [if_pos hk] at ho
      rw [if_pos hk]
      have hE : exN k = "java/util/NoSuchElementException" := if_pos hk
      rw [hE]
      refine ⟨[], [⟨0, 10, 17, 13⟩], ⟨0, 10, 13, 18⟩, "java/util/NoSuchElementException", htab, (fun z hz => nomatch hz), rfl, by decide, hts _ q1366, hJ.at q1390 rfl, fun q H locs hU hS => ?_⟩
      refine X.cs (cells2 := (G0.1, G0.2.1 + 1, G0.2.2 + 6).2.1 - G0.2.1) (slots2 := (G0.1, G0.2.1 + 1, G0.2.2 + 6).2.2 - G0.2.2) rfl rfl ?_
      refine x_astore (lv' := [(4, .ref q), (0, .ref (ad (0))), (1, .int p1), (2, .int p2), (3, .ref q0)]) hx hb dX0_toHold_13 hl (by decide) rfl (fun ls hl => ?_)
      refine x_iconst (v := 1) hx hb dX0_toHold_15 (by decide) ?_
      exact y_iret hx hb hr hlk hZ hU hS rfl rfl hU.1 dX0_toHold_16
    · rw [if_neg hk] at ho
      rw [if_neg hk]
      have hE : exN k = "java/lang/IllegalArgumentException" := if_neg hk
      rw [hE]
      refine ⟨[⟨0, 10, 13, 18⟩], [], ⟨0, 10, 17, 13⟩, "java/lang/IllegalArgumentException", htab, (fun z hz => by cases List.mem_singleton.mp hz; exact Or.inr ⟨by decide, _, hts _ q1366, hJ.nc _ (List.mem_of_getElem? (i := 0) rfl)⟩), rfl, by decide, hts _ q693, hJ.at q704 rfl, fun q H locs hU hS => ?_⟩
      refine X.cs (cells2 := (G0.1, G0.2.1 + 1, G0.2.2 + 6).2.1 - G0.2.1) (slots2 := (G0.1, G0.2.1 + 1, G0.2.2 + 6).2.2 - G0.2.2) rfl rfl ?_
      refine x_astore (lv' := [(4, .ref q), (0, .ref (ad (0))), (1, .int p1), (2, .int p2), (3, .ref q0)]) hx hb dX0_toHold_17 hl (by decide) rfl (fun ls hl => ?_)
      refine x_iconst (v := 2) hx hb dX0_toHold_19 (by decide) ?_
      exact y_iret hx hb hr hlk hZ hU hS rfl rfl hU.1 dX0_toHold_20
  refine kzX0_1_toHold E hZ hU hS ⟨Nat.le_of_ble_eq_true rfl, Nat.le_of_ble_eq_true rfl⟩ hl.1 (Nat.le_of_ble_eq_true rfl) dX0_toHold_5 (fun o1 H locs hU hS => ?_)
  refine x_i2l hx hb dX0_toHold_8 rfl ?_
  refine gy_last E hU hS dX0_toHold_9 (fun G2 H locs hU hS => ?_)
  refine x_goto (tgt := 21) hx hb dX0_toHold_10 (by decide) ?_
  refine x_iconst (v := 0) hx hb dX0_toHold_21 (by decide) ?_
  exact y_iret hx hb hr hlk hZ hU hS rfl rfl hU.1 dX0_toHold_22

set_option maxHeartbeats 4000000 in
theorem mW0_toSend (l : Launch) (hst : l.stackTraces = false) (D : va_G) (ct : CT) (ad : Nat → Nat) (P : Nat → Nat → Option Nat) (S : US) (G0 : GS) (p1 : Int32) (p2 : Int32) (p3 : Int32) (q0 : Nat) (o : (Int32 × US × GS)) (ho : sW_toSend ct ad P S G0 p1 p2 p3 q0 = some o) : vx_Met l yX0_toSend (wsW_ yX0_toSend cX0_toSend 6 (some .int) [(0, 12, 15, 18), (0, 12, 19, 13)]) { frames := 505, cells := nmax ct - G0.2.1, slots := zmax ct - G0.2.2, locals := 20114 } (mP D clW ct [.ref (ad (0)), .int p1, .int p2, .int p3, .ref q0] G0.2.1 (MW D clW ckH ct 26 ad P (fun _ => True) S 0 G0)) (yC (some (.int o.1)) (MW D clW ckH ct 26 ad P (mA 26 ad G0) o.2.1 0 o.2.2) G0 o.2.2 (mA 26 ad G0)) nX (nmax ct - G0.2.1) (zmax ct - G0.2.2) (mA 26 ad G0) := by
  refine YH.start (val := fun (o : (Int32 × US × GS)) => some (.int o.1)) (Bt := fun (o : (Int32 × US × GS)) => MW D clW ckH ct 26 ad P (mA 26 ad G0) o.2.1 0 o.2.2) (Go := fun (o : (Int32 × US × GS)) => o.2.2) ho (by decide) (Nat.le_of_ble_eq_true rfl) (lv := [(0, .ref (ad (0))), (1, .int p1), (2, .int p2), (3, .int p3), (4, .ref q0)]) rfl ?_
  intro p e s m args below meth c E hr hlk hnm htab hZ hU hS ls hl
  obtain ⟨⟨hx, hb, hml, hown, hts⟩, hK, hJ⟩ := id E
  unfold sW_toSend
  refine x_aload hx hb dX0_toSend_0 (lv_at hl 4 rfl) ?_
  refine x_iconst (v := 0) hx hb dX0_toSend_2 (by decide) ?_
  refine x_aload_n hx hb dX0_toSend_3 rfl (lv_at hl 0 rfl) ?_
  refine x_iload_n hx hb dX0_toSend_4 rfl (lv_at hl 1 rfl) ?_
  refine x_iload_n hx hb dX0_toSend_5 rfl (lv_at hl 2 rfl) ?_
  refine x_iload_n hx hb dX0_toSend_6 rfl (lv_at hl 3 rfl) ?_
  refine X.tB (tw_catch E hZ hU hS (fun k hk hf => rtV (As := [.int p1, .int p2, .int p3]) E (hU.1.1.to fun _ _ => trivial) (recvU (i := 0) E.2.1 hU.1.1.1 (by decide) rfl rfl) (mT1_toSend l hst D ct ad P S G0.1 p1 p2 p3 _ k hk) (cwV 3 E.1.2.2.2.2 (lw_V q1525 q1526 q1527 q113 q1528) rfl rfl rfl (by decide +kernel) ⟨Nat.le_of_ble_eq_true rfl, Nat.le_of_ble_eq_true rfl⟩) rfl hl.1 rfl (Nat.le_of_ble_eq_true rfl) dX0_toSend_7 hf) (fun k o ho => ?_)) ?_
  · by_cases hk : k = 1
    · rw [if_pos hk] at ho
      rw [if_pos hk]
      have hE : exN k = "java/util/NoSuchElementException" := if_pos hk
      rw [hE]
      refine ⟨[], [⟨0, 12, 19, 13⟩], ⟨0, 12, 15, 18⟩, "java/util/NoSuchElementException", htab, (fun z hz => nomatch hz), rfl, by decide, hts _ q1366, hJ.at q1390 rfl, fun q H locs hU hS => ?_⟩
      refine X.cs (cells2 := (G0.1, G0.2.1 + 1, G0.2.2 + 6).2.1 - G0.2.1) (slots2 := (G0.1, G0.2.1 + 1, G0.2.2 + 6).2.2 - G0.2.2) rfl rfl ?_
      refine x_astore (lv' := [(5, .ref q), (0, .ref (ad (0))), (1, .int p1), (2, .int p2), (3, .int p3), (4, .ref q0)]) hx hb dX0_toSend_15 hl (by decide) rfl (fun ls hl => ?_)
      refine x_iconst (v := 1) hx hb dX0_toSend_17 (by decide) ?_
      exact y_iret hx hb hr hlk hZ hU hS rfl rfl hU.1 dX0_toSend_18
    · rw [if_neg hk] at ho
      rw [if_neg hk]
      have hE : exN k = "java/lang/IllegalArgumentException" := if_neg hk
      rw [hE]
      refine ⟨[⟨0, 12, 15, 18⟩], [], ⟨0, 12, 19, 13⟩, "java/lang/IllegalArgumentException", htab, (fun z hz => by cases List.mem_singleton.mp hz; exact Or.inr ⟨by decide, _, hts _ q1366, hJ.nc _ (List.mem_of_getElem? (i := 0) rfl)⟩), rfl, by decide, hts _ q693, hJ.at q704 rfl, fun q H locs hU hS => ?_⟩
      refine X.cs (cells2 := (G0.1, G0.2.1 + 1, G0.2.2 + 6).2.1 - G0.2.1) (slots2 := (G0.1, G0.2.1 + 1, G0.2.2 + 6).2.2 - G0.2.2) rfl rfl ?_
      refine x_astore (lv' := [(5, .ref q), (0, .ref (ad (0))), (1, .int p1), (2, .int p2), (3, .int p3), (4, .ref q0)]) hx hb dX0_toSend_19 hl (by decide) rfl (fun ls hl => ?_)
      refine x_iconst (v := 2) hx hb dX0_toSend_21 (by decide) ?_
      exact y_iret hx hb hr hlk hZ hU hS rfl rfl hU.1 dX0_toSend_22
  refine kzX0_1_toSend E hZ hU hS ⟨Nat.le_of_ble_eq_true rfl, Nat.le_of_ble_eq_true rfl⟩ hl.1 (Nat.le_of_ble_eq_true rfl) dX0_toSend_7 (fun o1 H locs hU hS => ?_)
  refine x_i2l hx hb dX0_toSend_10 rfl ?_
  refine gy_last E hU hS dX0_toSend_11 (fun G2 H locs hU hS => ?_)
  refine x_goto (tgt := 23) hx hb dX0_toSend_12 (by decide) ?_
  refine x_iconst (v := 0) hx hb dX0_toSend_23 (by decide) ?_
  exact y_iret hx hb hr hlk hZ hU hS rfl rfl hU.1 dX0_toSend_24

set_option maxHeartbeats 4000000 in
theorem mW0_bestStitch (l : Launch) (hst : l.stackTraces = false) (D : va_G) (ct : CT) (ad : Nat → Nat) (P : Nat → Nat → Option Nat) (S : US) (G0 : GS) (p1 : Int32) (p2 : Int32) (q0 : Nat) (o : (Int32 × US × GS)) (ho : sW_bestStitch ct ad P S G0 p1 p2 q0 = some o) : vx_Met l yX0_bestStitch (wsW_ yX0_bestStitch cX0_bestStitch 5 (some .int) [(0, 10, 13, 18), (0, 10, 17, 13)]) { frames := 505, cells := nmax ct - G0.2.1, slots := zmax ct - G0.2.2, locals := 20113 } (mP D clW ct [.ref (ad (0)), .int p1, .int p2, .ref q0] G0.2.1 (MW D clW ckH ct 26 ad P (fun _ => True) S 0 G0)) (yC (some (.int o.1)) (MW D clW ckH ct 26 ad P (mA 26 ad G0) o.2.1 0 o.2.2) G0 o.2.2 (mA 26 ad G0)) nX (nmax ct - G0.2.1) (zmax ct - G0.2.2) (mA 26 ad G0) := by
  refine YH.start (val := fun (o : (Int32 × US × GS)) => some (.int o.1)) (Bt := fun (o : (Int32 × US × GS)) => MW D clW ckH ct 26 ad P (mA 26 ad G0) o.2.1 0 o.2.2) (Go := fun (o : (Int32 × US × GS)) => o.2.2) ho (by decide) (Nat.le_of_ble_eq_true rfl) (lv := [(0, .ref (ad (0))), (1, .int p1), (2, .int p2), (3, .ref q0)]) rfl ?_
  intro p e s m args below meth c E hr hlk hnm htab hZ hU hS ls hl
  obtain ⟨⟨hx, hb, hml, hown, hts⟩, hK, hJ⟩ := id E
  unfold sW_bestStitch
  refine x_aload_n hx hb dX0_bestStitch_0 rfl (lv_at hl 3 rfl) ?_
  refine x_iconst (v := 0) hx hb dX0_bestStitch_1 (by decide) ?_
  refine x_aload_n hx hb dX0_bestStitch_2 rfl (lv_at hl 0 rfl) ?_
  refine x_iload_n hx hb dX0_bestStitch_3 rfl (lv_at hl 1 rfl) ?_
  refine x_iload_n hx hb dX0_bestStitch_4 rfl (lv_at hl 2 rfl) ?_
  refine X.tB (tw_catch E hZ hU hS (fun k hk hf => rtV (As := [.int p1, .int p2]) E (hU.1.1.to fun _ _ => trivial) (recvU (i := 0) E.2.1 hU.1.1.1 (by decide) rfl rfl) (mT1_bestStitch l hst D ct ad P S G0.1 p1 p2 _ k hk) (cwV 2 E.1.2.2.2.2 (lw_V q1537 q1538 q1539 q113 q1540) rfl rfl rfl (by decide +kernel) ⟨Nat.le_of_ble_eq_true rfl, Nat.le_of_ble_eq_true rfl⟩) rfl hl.1 rfl (Nat.le_of_ble_eq_true rfl) dX0_bestStitch_5 hf) (fun k o ho => ?_)) ?_
  · by_cases hk : k = 1
    · rw [if_pos hk] at ho
      rw [if_pos hk]
      have hE : exN k = "java/util/NoSuchElementException" := if_pos hk
      rw [hE]
      refine ⟨[], [⟨0, 10, 17, 13⟩], ⟨0, 10, 13, 18⟩, "java/util/NoSuchElementException", htab, (fun z hz => nomatch hz), rfl, by decide, hts _ q1366, hJ.at q1390 rfl, fun q H locs hU hS => ?_⟩
      refine X.cs (cells2 := (G0.1, G0.2.1 + 1, G0.2.2 + 6).2.1 - G0.2.1) (slots2 := (G0.1, G0.2.1 + 1, G0.2.2 + 6).2.2 - G0.2.2) rfl rfl ?_
      refine x_astore (lv' := [(4, .ref q), (0, .ref (ad (0))), (1, .int p1), (2, .int p2), (3, .ref q0)]) hx hb dX0_bestStitch_13 hl (by decide) rfl (fun ls hl => ?_)
      refine x_iconst (v := 1) hx hb dX0_bestStitch_15 (by decide) ?_
      exact y_iret hx hb hr hlk hZ hU hS rfl rfl hU.1 dX0_bestStitch_16
    · rw [if_neg hk] at ho
      rw [if_neg hk]
      have hE : exN k = "java/lang/IllegalArgumentException" := if_neg hk
      rw [hE]
      refine ⟨[⟨0, 10, 13, 18⟩], [], ⟨0, 10, 17, 13⟩, "java/lang/IllegalArgumentException", htab, (fun z hz => by cases List.mem_singleton.mp hz; exact Or.inr ⟨by decide, _, hts _ q1366, hJ.nc _ (List.mem_of_getElem? (i := 0) rfl)⟩), rfl, by decide, hts _ q693, hJ.at q704 rfl, fun q H locs hU hS => ?_⟩
      refine X.cs (cells2 := (G0.1, G0.2.1 + 1, G0.2.2 + 6).2.1 - G0.2.1) (slots2 := (G0.1, G0.2.1 + 1, G0.2.2 + 6).2.2 - G0.2.2) rfl rfl ?_
      refine x_astore (lv' := [(4, .ref q), (0, .ref (ad (0))), (1, .int p1), (2, .int p2), (3, .ref q0)]) hx hb dX0_bestStitch_17 hl (by decide) rfl (fun ls hl => ?_)
      refine x_iconst (v := 2) hx hb dX0_bestStitch_19 (by decide) ?_
      exact y_iret hx hb hr hlk hZ hU hS rfl rfl hU.1 dX0_bestStitch_20
  refine kzX0_1_bestStitch E hZ hU hS ⟨Nat.le_of_ble_eq_true rfl, Nat.le_of_ble_eq_true rfl⟩ hl.1 (Nat.le_of_ble_eq_true rfl) dX0_bestStitch_5 (fun o1 H locs hU hS => ?_)
  refine x_i2l hx hb dX0_bestStitch_8 rfl ?_
  refine gy_last E hU hS dX0_bestStitch_9 (fun G2 H locs hU hS => ?_)
  refine x_goto (tgt := 21) hx hb dX0_bestStitch_10 (by decide) ?_
  refine x_iconst (v := 0) hx hb dX0_bestStitch_21 (by decide) ?_
  exact y_iret hx hb hr hlk hZ hU hS rfl rfl hU.1 dX0_bestStitch_22

set_option maxHeartbeats 4000000 in
theorem mW0_sent (l : Launch) (hst : l.stackTraces = false) (D : va_G) (ct : CT) (ad : Nat → Nat) (P : Nat → Nat → Option Nat) (S : US) (G0 : GS) (p1 : Int32) (p2 : Int32) (q0 : Nat) (o : (Int32 × GS)) (ho : sW_sent ct ad P S G0 p1 p2 q0 = some o) : vx_Met l yX0_sent (wsW_ yX0_sent cX0_sent 5 (some .int) [(0, 10, 13, 18), (0, 10, 17, 13)]) { frames := 8, cells := nmax ct - G0.2.1, slots := zmax ct - G0.2.2, locals := 148 } (mP D clW ct [.ref (ad (0)), .int p1, .int p2, .ref q0] G0.2.1 (MW D clW ckH ct 26 ad P (fun _ => True) S 0 G0)) (yC (some (.int o.1)) (MW D clW ckH ct 26 ad P (mA 26 ad G0) S 0 o.2) G0 o.2 (mA 26 ad G0)) nX (nmax ct - G0.2.1) (zmax ct - G0.2.2) (mA 26 ad G0) := by
  refine YH.start (val := fun (o : (Int32 × GS)) => some (.int o.1)) (Bt := fun (o : (Int32 × GS)) => MW D clW ckH ct 26 ad P (mA 26 ad G0) S 0 o.2) (Go := fun (o : (Int32 × GS)) => o.2) ho (by decide) (Nat.le_of_ble_eq_true rfl) (lv := [(0, .ref (ad (0))), (1, .int p1), (2, .int p2), (3, .ref q0)]) rfl ?_
  intro p e s m args below meth c E hr hlk hnm htab hZ hU hS ls hl
  obtain ⟨⟨hx, hb, hml, hown, hts⟩, hK, hJ⟩ := id E
  unfold sW_sent
  refine x_aload_n hx hb dX0_sent_0 rfl (lv_at hl 3 rfl) ?_
  refine x_iconst (v := 0) hx hb dX0_sent_1 (by decide) ?_
  refine x_aload_n hx hb dX0_sent_2 rfl (lv_at hl 0 rfl) ?_
  refine x_iload_n hx hb dX0_sent_3 rfl (lv_at hl 1 rfl) ?_
  refine x_iload_n hx hb dX0_sent_4 rfl (lv_at hl 2 rfl) ?_
  refine X.tB (tw_catch E hZ hU hS (fun k hk hf => rtV (As := [.int p1, .int p2]) E (hU.1.1.to fun _ _ => trivial) (recvU (i := 0) E.2.1 hU.1.1.1 (by decide) rfl rfl) (mT1_sent l hst D ct ad P S G0.1 p1 p2 _ k hk) (cwV 2 E.1.2.2.2.2 (lw_V q1544 q1545 q1546 q113 q1547) rfl rfl rfl (by decide +kernel) ⟨Nat.le_of_ble_eq_true rfl, Nat.le_of_ble_eq_true rfl⟩) rfl hl.1 rfl (Nat.le_of_ble_eq_true rfl) dX0_sent_5 hf) (fun k o ho => ?_)) ?_
  · by_cases hk : k = 1
    · rw [if_pos hk] at ho
      rw [if_pos hk]
      have hE : exN k = "java/util/NoSuchElementException" := if_pos hk
      rw [hE]
      refine ⟨[], [⟨0, 10, 17, 13⟩], ⟨0, 10, 13, 18⟩, "java/util/NoSuchElementException", htab, (fun z hz => nomatch hz), rfl, by decide, hts _ q1366, hJ.at q1390 rfl, fun q H locs hU hS => ?_⟩
      refine X.cs (cells2 := (G0.1, G0.2.1 + 1, G0.2.2 + 6).2.1 - G0.2.1) (slots2 := (G0.1, G0.2.1 + 1, G0.2.2 + 6).2.2 - G0.2.2) rfl rfl ?_
      refine x_astore (lv' := [(4, .ref q), (0, .ref (ad (0))), (1, .int p1), (2, .int p2), (3, .ref q0)]) hx hb dX0_sent_13 hl (by decide) rfl (fun ls hl => ?_)
      refine x_iconst (v := 1) hx hb dX0_sent_15 (by decide) ?_
      exact y_iret hx hb hr hlk hZ hU hS rfl rfl hU.1 dX0_sent_16
    · rw [if_neg hk] at ho
      rw [if_neg hk]
      have hE : exN k = "java/lang/IllegalArgumentException" := if_neg hk
      rw [hE]
      refine ⟨[⟨0, 10, 13, 18⟩], [], ⟨0, 10, 17, 13⟩, "java/lang/IllegalArgumentException", htab, (fun z hz => by cases List.mem_singleton.mp hz; exact Or.inr ⟨by decide, _, hts _ q1366, hJ.nc _ (List.mem_of_getElem? (i := 0) rfl)⟩), rfl, by decide, hts _ q693, hJ.at q704 rfl, fun q H locs hU hS => ?_⟩
      refine X.cs (cells2 := (G0.1, G0.2.1 + 1, G0.2.2 + 6).2.1 - G0.2.1) (slots2 := (G0.1, G0.2.1 + 1, G0.2.2 + 6).2.2 - G0.2.2) rfl rfl ?_
      refine x_astore (lv' := [(4, .ref q), (0, .ref (ad (0))), (1, .int p1), (2, .int p2), (3, .ref q0)]) hx hb dX0_sent_17 hl (by decide) rfl (fun ls hl => ?_)
      refine x_iconst (v := 2) hx hb dX0_sent_19 (by decide) ?_
      exact y_iret hx hb hr hlk hZ hU hS rfl rfl hU.1 dX0_sent_20
  refine kzX0_1_sent E hZ hU hS ⟨Nat.le_of_ble_eq_true rfl, Nat.le_of_ble_eq_true rfl⟩ hl.1 (Nat.le_of_ble_eq_true rfl) dX0_sent_5 (fun o1 H locs hU hS => ?_)
  refine x_i2l hx hb dX0_sent_8 rfl ?_
  refine gy_last E hU hS dX0_sent_9 (fun G2 H locs hU hS => ?_)
  refine x_goto (tgt := 21) hx hb dX0_sent_10 (by decide) ?_
  refine x_iconst (v := 0) hx hb dX0_sent_21 (by decide) ?_
  exact y_iret hx hb hr hlk hZ hU hS rfl rfl hU.1 dX0_sent_22

set_option maxHeartbeats 4000000 in
theorem mW0_closed (l : Launch) (hst : l.stackTraces = false) (D : va_G) (ct : CT) (ad : Nat → Nat) (P : Nat → Nat → Option Nat) (S : US) (G0 : GS) (p1 : Int32) (q0 : Nat) (o : (Int32 × GS)) (ho : sW_closed ct ad P S G0 p1 q0 = some o) : vx_Met l yX0_closed (wsW_ yX0_closed cX0_closed 4 (some .int) [(0, 9, 12, 18)]) { frames := 9, cells := nmax ct - G0.2.1, slots := zmax ct - G0.2.2, locals := 164 } (mP D clW ct [.ref (ad (0)), .int p1, .ref q0] G0.2.1 (MW D clW ckH ct 26 ad P (fun _ => True) S 0 G0)) (yC (some (.int o.1)) (MW D clW ckH ct 26 ad P (mA 26 ad G0) S 0 o.2) G0 o.2 (mA 26 ad G0)) nX (nmax ct - G0.2.1) (zmax ct - G0.2.2) (mA 26 ad G0) := by
  refine YH.start (val := fun (o : (Int32 × GS)) => some (.int o.1)) (Bt := fun (o : (Int32 × GS)) => MW D clW ckH ct 26 ad P (mA 26 ad G0) S 0 o.2) (Go := fun (o : (Int32 × GS)) => o.2) ho (by decide) (Nat.le_of_ble_eq_true rfl) (lv := [(0, .ref (ad (0))), (1, .int p1), (2, .ref q0)]) rfl ?_
  intro p e s m args below meth c E hr hlk hnm htab hZ hU hS ls hl
  obtain ⟨⟨hx, hb, hml, hown, hts⟩, hK, hJ⟩ := id E
  unfold sW_closed
  refine x_aload_n hx hb dX0_closed_0 rfl (lv_at hl 2 rfl) ?_
  refine x_iconst (v := 0) hx hb dX0_closed_1 (by decide) ?_
  refine x_aload_n hx hb dX0_closed_2 rfl (lv_at hl 0 rfl) ?_
  refine x_iload_n hx hb dX0_closed_3 rfl (lv_at hl 1 rfl) ?_
  refine X.tB (tw_catch E hZ hU hS (fun k hk hf => rtV (As := [.int p1]) E (hU.1.1.to fun _ _ => trivial) (recvU (i := 0) E.2.1 hU.1.1.1 (by decide) rfl rfl) (mT1_closed l hst D ct ad P S G0.1 p1 _ k hk) (cwV 1 E.1.2.2.2.2 (lw_V q1575 q1576 q1577 q113 q1578) rfl rfl rfl (by decide +kernel) ⟨Nat.le_of_ble_eq_true rfl, Nat.le_of_ble_eq_true rfl⟩) rfl hl.1 rfl (Nat.le_of_ble_eq_true rfl) dX0_closed_4 hf) (fun k o ho => ?_)) ?_
  · by_cases hk : k = 1
    · rw [if_pos hk] at ho
      rw [if_pos hk]
      have hE : exN k = "java/util/NoSuchElementException" := if_pos hk
      rw [hE]
      refine ⟨[], [], ⟨0, 9, 12, 18⟩, "java/util/NoSuchElementException", htab, (fun z hz => nomatch hz), rfl, by decide, hts _ q1366, hJ.at q1390 rfl, fun q H locs hU hS => ?_⟩
      refine X.cs (cells2 := (G0.1, G0.2.1 + 1, G0.2.2 + 6).2.1 - G0.2.1) (slots2 := (G0.1, G0.2.1 + 1, G0.2.2 + 6).2.2 - G0.2.2) rfl rfl ?_
      refine x_astore_n (lv' := [(3, .ref q), (0, .ref (ad (0))), (1, .int p1), (2, .ref q0)]) hx hb dX0_closed_12 rfl hl (by decide) rfl (fun ls hl => ?_)
      refine x_iconst (v := 1) hx hb dX0_closed_13 (by decide) ?_
      exact y_iret hx hb hr hlk hZ hU hS rfl rfl hU.1 dX0_closed_14
    · rw [if_neg hk] at ho
      cases ho
  refine kzX0_1_closed E hZ hU hS ⟨Nat.le_of_ble_eq_true rfl, Nat.le_of_ble_eq_true rfl⟩ hl.1 (Nat.le_of_ble_eq_true rfl) dX0_closed_4 (fun o1 H locs hU hS => ?_)
  refine x_i2l hx hb dX0_closed_7 rfl ?_
  refine gy_last E hU hS dX0_closed_8 (fun G2 H locs hU hS => ?_)
  refine x_goto (tgt := 15) hx hb dX0_closed_9 (by decide) ?_
  refine x_iconst (v := 0) hx hb dX0_closed_15 (by decide) ?_
  exact y_iret hx hb hr hlk hZ hU hS rfl rfl hU.1 dX0_closed_16

set_option maxHeartbeats 4000000 in
theorem mW0_tight (l : Launch) (hst : l.stackTraces = false) (D : va_G) (ct : CT) (ad : Nat → Nat) (P : Nat → Nat → Option Nat) (S : US) (G0 : GS) (p1 : Int32) (p2 : Int32) (q0 : Nat) (o : (Int32 × GS)) (ho : sW_tight ct ad P S G0 p1 p2 q0 = some o) : vx_Met l yX0_tight (wsW_ yX0_tight cX0_tight 5 (some .int) [(0, 10, 13, 18), (0, 10, 17, 13)]) { frames := 9, cells := nmax ct - G0.2.1, slots := zmax ct - G0.2.2, locals := 165 } (mP D clW ct [.ref (ad (0)), .int p1, .int p2, .ref q0] G0.2.1 (MW D clW ckH ct 26 ad P (fun _ => True) S 0 G0)) (yC (some (.int o.1)) (MW D clW ckH ct 26 ad P (mA 26 ad G0) S 0 o.2) G0 o.2 (mA 26 ad G0)) nX (nmax ct - G0.2.1) (zmax ct - G0.2.2) (mA 26 ad G0) := by
  refine YH.start (val := fun (o : (Int32 × GS)) => some (.int o.1)) (Bt := fun (o : (Int32 × GS)) => MW D clW ckH ct 26 ad P (mA 26 ad G0) S 0 o.2) (Go := fun (o : (Int32 × GS)) => o.2) ho (by decide) (Nat.le_of_ble_eq_true rfl) (lv := [(0, .ref (ad (0))), (1, .int p1), (2, .int p2), (3, .ref q0)]) rfl ?_
  intro p e s m args below meth c E hr hlk hnm htab hZ hU hS ls hl
  obtain ⟨⟨hx, hb, hml, hown, hts⟩, hK, hJ⟩ := id E
  unfold sW_tight
  refine x_aload_n hx hb dX0_tight_0 rfl (lv_at hl 3 rfl) ?_
  refine x_iconst (v := 0) hx hb dX0_tight_1 (by decide) ?_
  refine x_aload_n hx hb dX0_tight_2 rfl (lv_at hl 0 rfl) ?_
  refine x_iload_n hx hb dX0_tight_3 rfl (lv_at hl 1 rfl) ?_
  refine x_iload_n hx hb dX0_tight_4 rfl (lv_at hl 2 rfl) ?_
  refine X.tB (tw_catch E hZ hU hS (fun k hk hf => rtV (As := [.int p1, .int p2]) E (hU.1.1.to fun _ _ => trivial) (recvU (i := 0) E.2.1 hU.1.1.1 (by decide) rfl rfl) (mT1_tight l hst D ct ad P S G0.1 p1 p2 _ k hk) (cwV 2 E.1.2.2.2.2 (lw_V q1586 q1587 q1588 q113 q1589) rfl rfl rfl (by decide +kernel) ⟨Nat.le_of_ble_eq_true rfl, Nat.le_of_ble_eq_true rfl⟩) rfl hl.1 rfl (Nat.le_of_ble_eq_true rfl) dX0_tight_5 hf) (fun k o ho => ?_)) ?_
  · by_cases hk : k = 1
    · rw [if_pos hk] at ho
      rw [if_pos hk]
      have hE : exN k = "java/util/NoSuchElementException" := if_pos hk
      rw [hE]
      refine ⟨[], [⟨0, 10, 17, 13⟩], ⟨0, 10, 13, 18⟩, "java/util/NoSuchElementException", htab, (fun z hz => nomatch hz), rfl, by decide, hts _ q1366, hJ.at q1390 rfl, fun q H locs hU hS => ?_⟩
      refine X.cs (cells2 := (G0.1, G0.2.1 + 1, G0.2.2 + 6).2.1 - G0.2.1) (slots2 := (G0.1, G0.2.1 + 1, G0.2.2 + 6).2.2 - G0.2.2) rfl rfl ?_
      refine x_astore (lv' := [(4, .ref q), (0, .ref (ad (0))), (1, .int p1), (2, .int p2), (3, .ref q0)]) hx hb dX0_tight_13 hl (by decide) rfl (fun ls hl => ?_)
      refine x_iconst (v := 1) hx hb dX0_tight_15 (by decide) ?_
      exact y_iret hx hb hr hlk hZ hU hS rfl rfl hU.1 dX0_tight_16
    · rw [if_neg hk] at ho
      rw [if_neg hk]
      have hE : exN k = "java/lang/IllegalArgumentException" := if_neg hk
      rw [hE]
      refine ⟨[⟨0, 10, 13, 18⟩], [], ⟨0, 10, 17, 13⟩, "java/lang/IllegalArgumentException", htab, (fun z hz => by cases List.mem_singleton.mp hz; exact Or.inr ⟨by decide, _, hts _ q1366, hJ.nc _ (List.mem_of_getElem? (i := 0) rfl)⟩), rfl, by decide, hts _ q693, hJ.at q704 rfl, fun q H locs hU hS => ?_⟩
      refine X.cs (cells2 := (G0.1, G0.2.1 + 1, G0.2.2 + 6).2.1 - G0.2.1) (slots2 := (G0.1, G0.2.1 + 1, G0.2.2 + 6).2.2 - G0.2.2) rfl rfl ?_
      refine x_astore (lv' := [(4, .ref q), (0, .ref (ad (0))), (1, .int p1), (2, .int p2), (3, .ref q0)]) hx hb dX0_tight_17 hl (by decide) rfl (fun ls hl => ?_)
      refine x_iconst (v := 2) hx hb dX0_tight_19 (by decide) ?_
      exact y_iret hx hb hr hlk hZ hU hS rfl rfl hU.1 dX0_tight_20
  refine kzX0_1_tight E hZ hU hS ⟨Nat.le_of_ble_eq_true rfl, Nat.le_of_ble_eq_true rfl⟩ hl.1 (Nat.le_of_ble_eq_true rfl) dX0_tight_5 (fun o1 H locs hU hS => ?_)
  refine x_i2l hx hb dX0_tight_8 rfl ?_
  refine gy_last E hU hS dX0_tight_9 (fun G2 H locs hU hS => ?_)
  refine x_goto (tgt := 21) hx hb dX0_tight_10 (by decide) ?_
  refine x_iconst (v := 0) hx hb dX0_tight_21 (by decide) ?_
  exact y_iret hx hb hr hlk hZ hU hS rfl rfl hU.1 dX0_tight_22

set_option maxHeartbeats 4000000 in
theorem mW0_readings (l : Launch) (hst : l.stackTraces = false) (D : va_G) (ct : CT) (ad : Nat → Nat) (P : Nat → Nat → Option Nat) (S : US) (G0 : GS) (p1 : Int32) (p2 : Int32) (q0 : Nat) (o : (Int32 × GS)) (ho : sW_readings ct ad P S G0 p1 p2 q0 = some o) : vx_Met l yX0_readings (wsW_ yX0_readings cX0_readings 5 (some .int) [(0, 10, 13, 18), (0, 10, 17, 13)]) { frames := 9, cells := nmax ct - G0.2.1, slots := zmax ct - G0.2.2, locals := 170 } (mP D clW ct [.ref (ad (0)), .int p1, .int p2, .ref q0] G0.2.1 (MW D clW ckH ct 26 ad P (fun _ => True) S 0 G0)) (yC (some (.int o.1)) (MW D clW ckH ct 26 ad P (mA 26 ad G0) S 0 o.2) G0 o.2 (mA 26 ad G0)) nX (nmax ct - G0.2.1) (zmax ct - G0.2.2) (mA 26 ad G0) := by
  refine YH.start (val := fun (o : (Int32 × GS)) => some (.int o.1)) (Bt := fun (o : (Int32 × GS)) => MW D clW ckH ct 26 ad P (mA 26 ad G0) S 0 o.2) (Go := fun (o : (Int32 × GS)) => o.2) ho (by decide) (Nat.le_of_ble_eq_true rfl) (lv := [(0, .ref (ad (0))), (1, .int p1), (2, .int p2), (3, .ref q0)]) rfl ?_
  intro p e s m args below meth c E hr hlk hnm htab hZ hU hS ls hl
  obtain ⟨⟨hx, hb, hml, hown, hts⟩, hK, hJ⟩ := id E
  unfold sW_readings
  refine x_aload_n hx hb dX0_readings_0 rfl (lv_at hl 3 rfl) ?_
  refine x_iconst (v := 0) hx hb dX0_readings_1 (by decide) ?_
  refine x_aload_n hx hb dX0_readings_2 rfl (lv_at hl 0 rfl) ?_
  refine x_iload_n hx hb dX0_readings_3 rfl (lv_at hl 1 rfl) ?_
  refine x_iload_n hx hb dX0_readings_4 rfl (lv_at hl 2 rfl) ?_
  refine X.tB (tw_catch E hZ hU hS (fun k hk hf => rtV (As := [.int p1, .int p2]) E (hU.1.1.to fun _ _ => trivial) (recvU (i := 0) E.2.1 hU.1.1.1 (by decide) rfl rfl) (mT1_readings l hst D ct ad P S G0.1 p1 p2 _ k hk) (cwV 2 E.1.2.2.2.2 (lw_V q1597 q1598 q1599 q113 q1600) rfl rfl rfl (by decide +kernel) ⟨Nat.le_of_ble_eq_true rfl, Nat.le_of_ble_eq_true rfl⟩) rfl hl.1 rfl (Nat.le_of_ble_eq_true rfl) dX0_readings_5 hf) (fun k o ho => ?_)) ?_
  · by_cases hk : k = 1
    · rw [if_pos hk] at ho
      rw [if_pos hk]
      have hE : exN k = "java/util/NoSuchElementException" := if_pos hk
      rw [hE]
      refine ⟨[], [⟨0, 10, 17, 13⟩], ⟨0, 10, 13, 18⟩, "java/util/NoSuchElementException", htab, (fun z hz => nomatch hz), rfl, by decide, hts _ q1366, hJ.at q1390 rfl, fun q H locs hU hS => ?_⟩
      refine X.cs (cells2 := (G0.1, G0.2.1 + 1, G0.2.2 + 6).2.1 - G0.2.1) (slots2 := (G0.1, G0.2.1 + 1, G0.2.2 + 6).2.2 - G0.2.2) rfl rfl ?_
      refine x_astore (lv' := [(4, .ref q), (0, .ref (ad (0))), (1, .int p1), (2, .int p2), (3, .ref q0)]) hx hb dX0_readings_13 hl (by decide) rfl (fun ls hl => ?_)
      refine x_iconst (v := 1) hx hb dX0_readings_15 (by decide) ?_
      exact y_iret hx hb hr hlk hZ hU hS rfl rfl hU.1 dX0_readings_16
    · rw [if_neg hk] at ho
      rw [if_neg hk]
      have hE : exN k = "java/lang/IllegalArgumentException" := if_neg hk
      rw [hE]
      refine ⟨[⟨0, 10, 13, 18⟩], [], ⟨0, 10, 17, 13⟩, "java/lang/IllegalArgumentException", htab, (fun z hz => by cases List.mem_singleton.mp hz; exact Or.inr ⟨by decide, _, hts _ q1366, hJ.nc _ (List.mem_of_getElem? (i := 0) rfl)⟩), rfl, by decide, hts _ q693, hJ.at q704 rfl, fun q H locs hU hS => ?_⟩
      refine X.cs (cells2 := (G0.1, G0.2.1 + 1, G0.2.2 + 6).2.1 - G0.2.1) (slots2 := (G0.1, G0.2.1 + 1, G0.2.2 + 6).2.2 - G0.2.2) rfl rfl ?_
      refine x_astore (lv' := [(4, .ref q), (0, .ref (ad (0))), (1, .int p1), (2, .int p2), (3, .ref q0)]) hx hb dX0_readings_17 hl (by decide) rfl (fun ls hl => ?_)
      refine x_iconst (v := 2) hx hb dX0_readings_19 (by decide) ?_
      exact y_iret hx hb hr hlk hZ hU hS rfl rfl hU.1 dX0_readings_20
  refine kzX0_1_readings E hZ hU hS ⟨Nat.le_of_ble_eq_true rfl, Nat.le_of_ble_eq_true rfl⟩ hl.1 (Nat.le_of_ble_eq_true rfl) dX0_readings_5 (fun o1 H locs hU hS => ?_)
  refine x_i2l hx hb dX0_readings_8 rfl ?_
  refine gy_last E hU hS dX0_readings_9 (fun G2 H locs hU hS => ?_)
  refine x_goto (tgt := 21) hx hb dX0_readings_10 (by decide) ?_
  refine x_iconst (v := 0) hx hb dX0_readings_21 (by decide) ?_
  exact y_iret hx hb hr hlk hZ hU hS rfl rfl hU.1 dX0_readings_22

set_option maxHeartbeats 4000000 in
theorem mW0_see (l : Launch) (hst : l.stackTraces = false) (D : va_G) (ct : CT) (ad : Nat → Nat) (P : Nat → Nat → Option Nat) (S : US) (G0 : GS) (p1 : Int32) (p2 : Int32) (p3 : Int32) (q0 : Nat) (o : (Int32 × US × GS)) (ho : sW_see ct ad P S G0 p1 p2 p3 q0 = some o) : vx_Met l yX0_see (wsW_ yX0_see cX0_see 6 (some .int) [(0, 12, 15, 18)]) { frames := 9, cells := nmax ct - G0.2.1, slots := zmax ct - G0.2.2, locals := 214 } (mP D clW ct [.ref (ad (0)), .int p1, .int p2, .int p3, .ref q0] G0.2.1 (MW D clW ckH ct 26 ad P (fun _ => True) S 0 G0)) (yC (some (.int o.1)) (MW D clW ckH ct 26 ad P (mA 26 ad G0) o.2.1 0 o.2.2) G0 o.2.2 (mA 26 ad G0)) nX (nmax ct - G0.2.1) (zmax ct - G0.2.2) (mA 26 ad G0) := by
  refine YH.start (val := fun (o : (Int32 × US × GS)) => some (.int o.1)) (Bt := fun (o : (Int32 × US × GS)) => MW D clW ckH ct 26 ad P (mA 26 ad G0) o.2.1 0 o.2.2) (Go := fun (o : (Int32 × US × GS)) => o.2.2) ho (by decide) (Nat.le_of_ble_eq_true rfl) (lv := [(0, .ref (ad (0))), (1, .int p1), (2, .int p2), (3, .int p3), (4, .ref q0)]) rfl ?_
  intro p e s m args below meth c E hr hlk hnm htab hZ hU hS ls hl
  obtain ⟨⟨hx, hb, hml, hown, hts⟩, hK, hJ⟩ := id E
  unfold sW_see
  refine x_aload hx hb dX0_see_0 (lv_at hl 4 rfl) ?_
  refine x_iconst (v := 0) hx hb dX0_see_2 (by decide) ?_
  refine x_aload_n hx hb dX0_see_3 rfl (lv_at hl 0 rfl) ?_
  refine x_iload_n hx hb dX0_see_4 rfl (lv_at hl 1 rfl) ?_
  refine x_iload_n hx hb dX0_see_5 rfl (lv_at hl 2 rfl) ?_
  refine x_iload_n hx hb dX0_see_6 rfl (lv_at hl 3 rfl) ?_
  refine X.tB (tw_catch E hZ hU hS (fun k hk hf => rtV (As := [.int p1, .int p2, .int p3]) E (hU.1.1.to fun _ _ => trivial) (recvU (i := 0) E.2.1 hU.1.1.1 (by decide) rfl rfl) (mT1_see l hst D ct ad P S G0.1 p1 p2 p3 _ k hk) (cwV 3 E.1.2.2.2.2 (lw_V q1727 q1728 q1729 q113 q1730) rfl rfl rfl (by decide +kernel) ⟨Nat.le_of_ble_eq_true rfl, Nat.le_of_ble_eq_true rfl⟩) rfl hl.1 rfl (Nat.le_of_ble_eq_true rfl) dX0_see_7 hf) (fun k o ho => ?_)) ?_
  · by_cases hk : k = 1
    · rw [if_pos hk] at ho
      rw [if_pos hk]
      have hE : exN k = "java/util/NoSuchElementException" := if_pos hk
      rw [hE]
      refine ⟨[], [], ⟨0, 12, 15, 18⟩, "java/util/NoSuchElementException", htab, (fun z hz => nomatch hz), rfl, by decide, hts _ q1366, hJ.at q1390 rfl, fun q H locs hU hS => ?_⟩
      refine X.cs (cells2 := (G0.1, G0.2.1 + 1, G0.2.2 + 6).2.1 - G0.2.1) (slots2 := (G0.1, G0.2.1 + 1, G0.2.2 + 6).2.2 - G0.2.2) rfl rfl ?_
      refine x_astore (lv' := [(5, .ref q), (0, .ref (ad (0))), (1, .int p1), (2, .int p2), (3, .int p3), (4, .ref q0)]) hx hb dX0_see_15 hl (by decide) rfl (fun ls hl => ?_)
      refine x_iconst (v := 1) hx hb dX0_see_17 (by decide) ?_
      exact y_iret hx hb hr hlk hZ hU hS rfl rfl hU.1 dX0_see_18
    · rw [if_neg hk] at ho
      cases ho
  refine kzX0_1_see E hZ hU hS ⟨Nat.le_of_ble_eq_true rfl, Nat.le_of_ble_eq_true rfl⟩ hl.1 (Nat.le_of_ble_eq_true rfl) dX0_see_7 (fun o1 H locs hU hS => ?_)
  refine x_i2l hx hb dX0_see_10 rfl ?_
  refine gy_last E hU hS dX0_see_11 (fun G2 H locs hU hS => ?_)
  refine x_goto (tgt := 19) hx hb dX0_see_12 (by decide) ?_
  refine x_iconst (v := 0) hx hb dX0_see_19 (by decide) ?_
  exact y_iret hx hb hr hlk hZ hU hS rfl rfl hU.1 dX0_see_20

set_option maxHeartbeats 4000000 in
theorem mW0_torn (l : Launch) (hst : l.stackTraces = false) (D : va_G) (ct : CT) (ad : Nat → Nat) (P : Nat → Nat → Option Nat) (S : US) (G0 : GS) (p1 : Int32) (q0 : Nat) (o : (Int32 × US × GS)) (ho : sW_torn ct ad P S G0 p1 q0 = some o) : vx_Met l yX0_torn (wsW_ yX0_torn cX0_torn 4 (some .int) [(0, 9, 12, 18)]) { frames := 506, cells := nmax ct - G0.2.1, slots := zmax ct - G0.2.2, locals := 20134 } (mP D clW ct [.ref (ad (0)), .int p1, .ref q0] G0.2.1 (MW D clW ckH ct 26 ad P (fun _ => True) S 0 G0)) (yC (some (.int o.1)) (MW D clW ckH ct 26 ad P (mA 26 ad G0) o.2.1 0 o.2.2) G0 o.2.2 (mA 26 ad G0)) nX (nmax ct - G0.2.1) (zmax ct - G0.2.2) (mA 26 ad G0) := by
  refine YH.start (val := fun (o : (Int32 × US × GS)) => some (.int o.1)) (Bt := fun (o : (Int32 × US × GS)) => MW D clW ckH ct 26 ad P (mA 26 ad G0) o.2.1 0 o.2.2) (Go := fun (o : (Int32 × US × GS)) => o.2.2) ho (by decide) (Nat.le_of_ble_eq_true rfl) (lv := [(0, .ref (ad (0))), (1, .int p1), (2, .ref q0)]) rfl ?_
  intro p e s m args below meth c E hr hlk hnm htab hZ hU hS ls hl
  obtain ⟨⟨hx, hb, hml, hown, hts⟩, hK, hJ⟩ := id E
  unfold sW_torn
  refine x_aload_n hx hb dX0_torn_0 rfl (lv_at hl 2 rfl) ?_
  refine x_iconst (v := 0) hx hb dX0_torn_1 (by decide) ?_
  refine x_aload_n hx hb dX0_torn_2 rfl (lv_at hl 0 rfl) ?_
  refine x_iload_n hx hb dX0_torn_3 rfl (lv_at hl 1 rfl) ?_
  refine X.tB (tw_catch E hZ hU hS (fun k hk hf => rtV (As := [.int p1]) E (hU.1.1.to fun _ _ => trivial) (recvU (i := 0) E.2.1 hU.1.1.1 (by decide) rfl rfl) (mT1_torn l hst D ct ad P S G0.1 p1 _ k hk) (cwV 1 E.1.2.2.2.2 (lw_V q1734 q1735 q1736 q113 q1737) rfl rfl rfl (by decide +kernel) ⟨Nat.le_of_ble_eq_true rfl, Nat.le_of_ble_eq_true rfl⟩) rfl hl.1 rfl (Nat.le_of_ble_eq_true rfl) dX0_torn_4 hf) (fun k o ho => ?_)) ?_
  · by_cases hk : k = 1
    · rw [if_pos hk] at ho
      rw [if_pos hk]
      have hE : exN k = "java/util/NoSuchElementException" := if_pos hk
      rw [hE]
      refine ⟨[], [], ⟨0, 9, 12, 18⟩, "java/util/NoSuchElementException", htab, (fun z hz => nomatch hz), rfl, by decide, hts _ q1366, hJ.at q1390 rfl, fun q H locs hU hS => ?_⟩
      refine X.cs (cells2 := (G0.1, G0.2.1 + 1, G0.2.2 + 6).2.1 - G0.2.1) (slots2 := (G0.1, G0.2.1 + 1, G0.2.2 + 6).2.2 - G0.2.2) rfl rfl ?_
      refine x_astore_n (lv' := [(3, .ref q), (0, .ref (ad (0))), (1, .int p1), (2, .ref q0)]) hx hb dX0_torn_12 rfl hl (by decide) rfl (fun ls hl => ?_)
      refine x_iconst (v := 1) hx hb dX0_torn_13 (by decide) ?_
      exact y_iret hx hb hr hlk hZ hU hS rfl rfl hU.1 dX0_torn_14
    · rw [if_neg hk] at ho
      cases ho
  refine kzX0_1_torn E hZ hU hS ⟨Nat.le_of_ble_eq_true rfl, Nat.le_of_ble_eq_true rfl⟩ hl.1 (Nat.le_of_ble_eq_true rfl) dX0_torn_4 (fun o1 H locs hU hS => ?_)
  refine x_i2l hx hb dX0_torn_7 rfl ?_
  refine gy_last E hU hS dX0_torn_8 (fun G2 H locs hU hS => ?_)
  refine x_goto (tgt := 15) hx hb dX0_torn_9 (by decide) ?_
  refine x_iconst (v := 0) hx hb dX0_torn_15 (by decide) ?_
  exact y_iret hx hb hr hlk hZ hU hS rfl rfl hU.1 dX0_torn_16

set_option maxHeartbeats 4000000 in
theorem mW0_look (l : Launch) (hst : l.stackTraces = false) (D : va_G) (ct : CT) (ad : Nat → Nat) (P : Nat → Nat → Option Nat) (S : US) (G0 : GS) (p1 : Int32) (q0 : Nat) (o : (Int32 × US × GS)) (ho : sW_look ct ad P S G0 p1 q0 = some o) : vx_Met l yX0_look (wsW_ yX0_look cX0_look 4 (some .int) [(0, 9, 12, 18)]) { frames := 506, cells := nmax ct - G0.2.1, slots := zmax ct - G0.2.2, locals := 20142 } (mP D clW ct [.ref (ad (0)), .int p1, .ref q0] G0.2.1 (MW D clW ckH ct 26 ad P (fun _ => True) S 0 G0)) (yC (some (.int o.1)) (MW D clW ckH ct 26 ad P (mA 26 ad G0) o.2.1 0 o.2.2) G0 o.2.2 (mA 26 ad G0)) nX (nmax ct - G0.2.1) (zmax ct - G0.2.2) (mA 26 ad G0) := by
  refine YH.start (val := fun (o : (Int32 × US × GS)) => some (.int o.1)) (Bt := fun (o : (Int32 × US × GS)) => MW D clW ckH ct 26 ad P (mA 26 ad G0) o.2.1 0 o.2.2) (Go := fun (o : (Int32 × US × GS)) => o.2.2) ho (by decide) (Nat.le_of_ble_eq_true rfl) (lv := [(0, .ref (ad (0))), (1, .int p1), (2, .ref q0)]) rfl ?_
  intro p e s m args below meth c E hr hlk hnm htab hZ hU hS ls hl
  obtain ⟨⟨hx, hb, hml, hown, hts⟩, hK, hJ⟩ := id E
  unfold sW_look
  refine x_aload_n hx hb dX0_look_0 rfl (lv_at hl 2 rfl) ?_
  refine x_iconst (v := 0) hx hb dX0_look_1 (by decide) ?_
  refine x_aload_n hx hb dX0_look_2 rfl (lv_at hl 0 rfl) ?_
  refine x_iload_n hx hb dX0_look_3 rfl (lv_at hl 1 rfl) ?_
  refine X.tB (tw_catch E hZ hU hS (fun k hk hf => rtV (As := [.int p1]) E (hU.1.1.to fun _ _ => trivial) (recvU (i := 0) E.2.1 hU.1.1.1 (by decide) rfl rfl) (mT1_look l hst D ct ad P S G0.1 p1 _ k hk) (cwV 1 E.1.2.2.2.2 (lw_V q1751 q1752 q1753 q113 q1754) rfl rfl rfl (by decide +kernel) ⟨Nat.le_of_ble_eq_true rfl, Nat.le_of_ble_eq_true rfl⟩) rfl hl.1 rfl (Nat.le_of_ble_eq_true rfl) dX0_look_4 hf) (fun k o ho => ?_)) ?_
  · by_cases hk : k = 1
    · rw [if_pos hk] at ho
      rw [if_pos hk]
      have hE : exN k = "java/util/NoSuchElementException" := if_pos hk
      rw [hE]
      refine ⟨[], [], ⟨0, 9, 12, 18⟩, "java/util/NoSuchElementException", htab, (fun z hz => nomatch hz), rfl, by decide, hts _ q1366, hJ.at q1390 rfl, fun q H locs hU hS => ?_⟩
      refine X.cs (cells2 := (G0.1, G0.2.1 + 1, G0.2.2 + 6).2.1 - G0.2.1) (slots2 := (G0.1, G0.2.1 + 1, G0.2.2 + 6).2.2 - G0.2.2) rfl rfl ?_
      refine x_astore_n (lv' := [(3, .ref q), (0, .ref (ad (0))), (1, .int p1), (2, .ref q0)]) hx hb dX0_look_12 rfl hl (by decide) rfl (fun ls hl => ?_)
      refine x_iconst (v := 1) hx hb dX0_look_13 (by decide) ?_
      exact y_iret hx hb hr hlk hZ hU hS rfl rfl hU.1 dX0_look_14
    · rw [if_neg hk] at ho
      cases ho
  refine kzX0_1_look E hZ hU hS ⟨Nat.le_of_ble_eq_true rfl, Nat.le_of_ble_eq_true rfl⟩ hl.1 (Nat.le_of_ble_eq_true rfl) dX0_look_4 (fun o1 H locs hU hS => ?_)
  refine x_i2l hx hb dX0_look_7 rfl ?_
  refine gy_last E hU hS dX0_look_8 (fun G2 H locs hU hS => ?_)
  refine x_goto (tgt := 15) hx hb dX0_look_9 (by decide) ?_
  refine x_iconst (v := 0) hx hb dX0_look_15 (by decide) ?_
  exact y_iret hx hb hr hlk hZ hU hS rfl rfl hU.1 dX0_look_16

set_option maxHeartbeats 4000000 in
theorem mW0_gales (l : Launch) (hst : l.stackTraces = false) (D : va_G) (ct : CT) (ad : Nat → Nat) (P : Nat → Nat → Option Nat) (S : US) (G0 : GS) (p1 : Int32) (p2 : Int32) (q0 : Nat) (o : (Int32 × US × GS)) (ho : sW_gales ct ad P S G0 p1 p2 q0 = some o) : vx_Met l yX0_gales (wsW_ yX0_gales cX0_gales 5 (some .int) [(0, 10, 13, 13)]) { frames := 504, cells := nmax ct - G0.2.1, slots := zmax ct - G0.2.2, locals := 20092 } (mP D clW ct [.ref (ad (0)), .int p1, .int p2, .ref q0] G0.2.1 (MW D clW ckH ct 26 ad P (fun _ => True) S 0 G0)) (yC (some (.int o.1)) (MW D clW ckH ct 26 ad P (mA 26 ad G0) o.2.1 0 o.2.2) G0 o.2.2 (mA 26 ad G0)) nX (nmax ct - G0.2.1) (zmax ct - G0.2.2) (mA 26 ad G0) := by
  refine YH.start (val := fun (o : (Int32 × US × GS)) => some (.int o.1)) (Bt := fun (o : (Int32 × US × GS)) => MW D clW ckH ct 26 ad P (mA 26 ad G0) o.2.1 0 o.2.2) (Go := fun (o : (Int32 × US × GS)) => o.2.2) ho (by decide) (Nat.le_of_ble_eq_true rfl) (lv := [(0, .ref (ad (0))), (1, .int p1), (2, .int p2), (3, .ref q0)]) rfl ?_
  intro p e s m args below meth c E hr hlk hnm htab hZ hU hS ls hl
  obtain ⟨⟨hx, hb, hml, hown, hts⟩, hK, hJ⟩ := id E
  unfold sW_gales
  refine x_aload_n hx hb dX0_gales_0 rfl (lv_at hl 3 rfl) ?_
  refine x_iconst (v := 0) hx hb dX0_gales_1 (by decide) ?_
  refine x_aload_n hx hb dX0_gales_2 rfl (lv_at hl 0 rfl) ?_
  refine x_iload_n hx hb dX0_gales_3 rfl (lv_at hl 1 rfl) ?_
  refine x_iload_n hx hb dX0_gales_4 rfl (lv_at hl 2 rfl) ?_
  refine X.tB (tw_catch E hZ hU hS (fun k hk hf => rtV (As := [.int p1, .int p2]) E (hU.1.1.to fun _ _ => trivial) (recvU (i := 0) E.2.1 hU.1.1.1 (by decide) rfl rfl) (mT1_gales l hst D ct ad P S G0.1 p1 p2 _ k hk) (cwV 2 E.1.2.2.2.2 (lw_V q1758 q1759 q1760 q113 q1761) rfl rfl rfl (by decide +kernel) ⟨Nat.le_of_ble_eq_true rfl, Nat.le_of_ble_eq_true rfl⟩) rfl hl.1 rfl (Nat.le_of_ble_eq_true rfl) dX0_gales_5 hf) (fun k o ho => ?_)) ?_
  · by_cases hk : k = 1
    · rw [if_pos hk] at ho
      cases ho
    · rw [if_neg hk] at ho
      rw [if_neg hk]
      have hE : exN k = "java/lang/IllegalArgumentException" := if_neg hk
      rw [hE]
      refine ⟨[], [], ⟨0, 10, 13, 13⟩, "java/lang/IllegalArgumentException", htab, (fun z hz => nomatch hz), rfl, by decide, hts _ q693, hJ.at q704 rfl, fun q H locs hU hS => ?_⟩
      refine X.cs (cells2 := (G0.1, G0.2.1 + 1, G0.2.2 + 6).2.1 - G0.2.1) (slots2 := (G0.1, G0.2.1 + 1, G0.2.2 + 6).2.2 - G0.2.2) rfl rfl ?_
      refine x_astore (lv' := [(4, .ref q), (0, .ref (ad (0))), (1, .int p1), (2, .int p2), (3, .ref q0)]) hx hb dX0_gales_13 hl (by decide) rfl (fun ls hl => ?_)
      refine x_iconst (v := 1) hx hb dX0_gales_15 (by decide) ?_
      exact y_iret hx hb hr hlk hZ hU hS rfl rfl hU.1 dX0_gales_16
  refine kzX0_1_gales E hZ hU hS ⟨Nat.le_of_ble_eq_true rfl, Nat.le_of_ble_eq_true rfl⟩ hl.1 (Nat.le_of_ble_eq_true rfl) dX0_gales_5 (fun o1 H locs hU hS => ?_)
  refine x_i2l hx hb dX0_gales_8 rfl ?_
  refine gy_last E hU hS dX0_gales_9 (fun G2 H locs hU hS => ?_)
  refine x_goto (tgt := 17) hx hb dX0_gales_10 (by decide) ?_
  refine x_iconst (v := 0) hx hb dX0_gales_17 (by decide) ?_
  exact y_iret hx hb hr hlk hZ hU hS rfl rfl hU.1 dX0_gales_18

set_option maxHeartbeats 4000000 in
theorem mW0_game (l : Launch) (hst : l.stackTraces = false) (D : va_G) (ct : CT) (ad : Nat → Nat) (P : Nat → Nat → Option Nat) (S : US) (G0 : GS) (p1 : Int32) (p2 : Int32) (p3 : Int32) (q0 : Nat) (o : (Int32 × US × GS)) (ho : sW_game ct ad P S G0 p1 p2 p3 q0 = some o) : vx_Met l yX0_game (wsW_ yX0_game cX0_game 6 (some .int) [(0, 12, 15, 18), (0, 12, 19, 13)]) { frames := 506, cells := nmax ct - G0.2.1, slots := zmax ct - G0.2.2, locals := 20139 } (mP D clW ct [.ref (ad (0)), .int p1, .int p2, .int p3, .ref q0] G0.2.1 (MW D clW ckH ct 26 ad P (fun _ => True) S 0 G0)) (yC (some (.int o.1)) (MW D clW ckH ct 26 ad P (mA 26 ad G0) o.2.1 0 o.2.2) G0 o.2.2 (mA 26 ad G0)) nX (nmax ct - G0.2.1) (zmax ct - G0.2.2) (mA 26 ad G0) := by
  refine YH.start (val := fun (o : (Int32 × US × GS)) => some (.int o.1)) (Bt := fun (o : (Int32 × US × GS)) => MW D clW ckH ct 26 ad P (mA 26 ad G0) o.2.1 0 o.2.2) (Go := fun (o : (Int32 × US × GS)) => o.2.2) ho (by decide) (Nat.le_of_ble_eq_true rfl) (lv := [(0, .ref (ad (0))), (1, .int p1), (2, .int p2), (3, .int p3), (4, .ref q0)]) rfl ?_
  intro p e s m args below meth c E hr hlk hnm htab hZ hU hS ls hl
  obtain ⟨⟨hx, hb, hml, hown, hts⟩, hK, hJ⟩ := id E
  unfold sW_game
  refine x_aload hx hb dX0_game_0 (lv_at hl 4 rfl) ?_
  refine x_iconst (v := 0) hx hb dX0_game_2 (by decide) ?_
  refine x_aload_n hx hb dX0_game_3 rfl (lv_at hl 0 rfl) ?_
  refine x_iload_n hx hb dX0_game_4 rfl (lv_at hl 1 rfl) ?_
  refine x_iload_n hx hb dX0_game_5 rfl (lv_at hl 2 rfl) ?_
  refine x_iload_n hx hb dX0_game_6 rfl (lv_at hl 3 rfl) ?_
  refine X.tB (tw_catch E hZ hU hS (fun k hk hf => rtV (As := [.int p1, .int p2, .int p3]) E (hU.1.1.to fun _ _ => trivial) (recvU (i := 0) E.2.1 hU.1.1.1 (by decide) rfl rfl) (mT1_game l hst D ct ad P S G0.1 p1 p2 p3 _ k hk) (cwV 3 E.1.2.2.2.2 (lw_V q1766 q1767 q1768 q113 q1769) rfl rfl rfl (by decide +kernel) ⟨Nat.le_of_ble_eq_true rfl, Nat.le_of_ble_eq_true rfl⟩) rfl hl.1 rfl (Nat.le_of_ble_eq_true rfl) dX0_game_7 hf) (fun k o ho => ?_)) ?_
  · by_cases hk : k = 1
    · rw [if_pos hk] at ho
      rw [if_pos hk]
      have hE : exN k = "java/util/NoSuchElementException" := if_pos hk
      rw [hE]
      refine ⟨[], [⟨0, 12, 19, 13⟩], ⟨0, 12, 15, 18⟩, "java/util/NoSuchElementException", htab, (fun z hz => nomatch hz), rfl, by decide, hts _ q1366, hJ.at q1390 rfl, fun q H locs hU hS => ?_⟩
      refine X.cs (cells2 := (G0.1, G0.2.1 + 1, G0.2.2 + 6).2.1 - G0.2.1) (slots2 := (G0.1, G0.2.1 + 1, G0.2.2 + 6).2.2 - G0.2.2) rfl rfl ?_
      refine x_astore (lv' := [(5, .ref q), (0, .ref (ad (0))), (1, .int p1), (2, .int p2), (3, .int p3), (4, .ref q0)]) hx hb dX0_game_15 hl (by decide) rfl (fun ls hl => ?_)
      refine x_iconst (v := 1) hx hb dX0_game_17 (by decide) ?_
      exact y_iret hx hb hr hlk hZ hU hS rfl rfl hU.1 dX0_game_18
    · rw [if_neg hk] at ho
      rw [if_neg hk]
      have hE : exN k = "java/lang/IllegalArgumentException" := if_neg hk
      rw [hE]
      refine ⟨[⟨0, 12, 15, 18⟩], [], ⟨0, 12, 19, 13⟩, "java/lang/IllegalArgumentException", htab, (fun z hz => by cases List.mem_singleton.mp hz; exact Or.inr ⟨by decide, _, hts _ q1366, hJ.nc _ (List.mem_of_getElem? (i := 0) rfl)⟩), rfl, by decide, hts _ q693, hJ.at q704 rfl, fun q H locs hU hS => ?_⟩
      refine X.cs (cells2 := (G0.1, G0.2.1 + 1, G0.2.2 + 6).2.1 - G0.2.1) (slots2 := (G0.1, G0.2.1 + 1, G0.2.2 + 6).2.2 - G0.2.2) rfl rfl ?_
      refine x_astore (lv' := [(5, .ref q), (0, .ref (ad (0))), (1, .int p1), (2, .int p2), (3, .int p3), (4, .ref q0)]) hx hb dX0_game_19 hl (by decide) rfl (fun ls hl => ?_)
      refine x_iconst (v := 2) hx hb dX0_game_21 (by decide) ?_
      exact y_iret hx hb hr hlk hZ hU hS rfl rfl hU.1 dX0_game_22
  refine kzX0_1_game E hZ hU hS ⟨Nat.le_of_ble_eq_true rfl, Nat.le_of_ble_eq_true rfl⟩ hl.1 (Nat.le_of_ble_eq_true rfl) dX0_game_7 (fun o1 H locs hU hS => ?_)
  refine x_i2l hx hb dX0_game_10 rfl ?_
  refine gy_last E hU hS dX0_game_11 (fun G2 H locs hU hS => ?_)
  refine x_goto (tgt := 23) hx hb dX0_game_12 (by decide) ?_
  refine x_iconst (v := 0) hx hb dX0_game_23 (by decide) ?_
  exact y_iret hx hb hr hlk hZ hU hS rfl rfl hU.1 dX0_game_24

set_option maxHeartbeats 4000000 in
theorem mW0_years (l : Launch) (hst : l.stackTraces = false) (D : va_G) (ct : CT) (ad : Nat → Nat) (P : Nat → Nat → Option Nat) (S : US) (G0 : GS) (p1 : Int32) (p2 : Int32) (p3 : Int32) (q0 : Nat) (o : (Int32 × US × GS)) (ho : sW_years ct ad P S G0 p1 p2 p3 q0 = some o) : vx_Met l yX0_years (wsW_ yX0_years cX0_years 6 (some .int) [(0, 12, 15, 18), (0, 12, 19, 13)]) { frames := 504, cells := nmax ct - G0.2.1, slots := zmax ct - G0.2.2, locals := 20089 } (mP D clW ct [.ref (ad (0)), .int p1, .int p2, .int p3, .ref q0] G0.2.1 (MW D clW ckH ct 26 ad P (fun _ => True) S 0 G0)) (yC (some (.int o.1)) (MW D clW ckH ct 26 ad P (mA 26 ad G0) o.2.1 0 o.2.2) G0 o.2.2 (mA 26 ad G0)) nX (nmax ct - G0.2.1) (zmax ct - G0.2.2) (mA 26 ad G0) := by
  refine YH.start (val := fun (o : (Int32 × US × GS)) => some (.int o.1)) (Bt := fun (o : (Int32 × US × GS)) => MW D clW ckH ct 26 ad P (mA 26 ad G0) o.2.1 0 o.2.2) (Go := fun (o : (Int32 × US × GS)) => o.2.2) ho (by decide) (Nat.le_of_ble_eq_true rfl) (lv := [(0, .ref (ad (0))), (1, .int p1), (2, .int p2), (3, .int p3), (4, .ref q0)]) rfl ?_
  intro p e s m args below meth c E hr hlk hnm htab hZ hU hS ls hl
  obtain ⟨⟨hx, hb, hml, hown, hts⟩, hK, hJ⟩ := id E
  unfold sW_years
  refine x_aload hx hb dX0_years_0 (lv_at hl 4 rfl) ?_
  refine x_iconst (v := 0) hx hb dX0_years_2 (by decide) ?_
  refine x_aload_n hx hb dX0_years_3 rfl (lv_at hl 0 rfl) ?_
  refine x_iload_n hx hb dX0_years_4 rfl (lv_at hl 1 rfl) ?_
  refine x_iload_n hx hb dX0_years_5 rfl (lv_at hl 2 rfl) ?_
  refine x_iload_n hx hb dX0_years_6 rfl (lv_at hl 3 rfl) ?_
  refine X.tB (tw_catch E hZ hU hS (fun k hk hf => rtV (As := [.int p1, .int p2, .int p3]) E (hU.1.1.to fun _ _ => trivial) (recvU (i := 0) E.2.1 hU.1.1.1 (by decide) rfl rfl) (mT1_years l hst D ct ad P S G0.1 p1 p2 p3 _ k hk) (cwV 3 E.1.2.2.2.2 (lw_V q1782 q1783 q1784 q113 q1785) rfl rfl rfl (by decide +kernel) ⟨Nat.le_of_ble_eq_true rfl, Nat.le_of_ble_eq_true rfl⟩) rfl hl.1 rfl (Nat.le_of_ble_eq_true rfl) dX0_years_7 hf) (fun k o ho => ?_)) ?_
  · by_cases hk : k = 1
    · rw [if_pos hk] at ho
      rw [if_pos hk]
      have hE : exN k = "java/util/NoSuchElementException" := if_pos hk
      rw [hE]
      refine ⟨[], [⟨0, 12, 19, 13⟩], ⟨0, 12, 15, 18⟩, "java/util/NoSuchElementException", htab, (fun z hz => nomatch hz), rfl, by decide, hts _ q1366, hJ.at q1390 rfl, fun q H locs hU hS => ?_⟩
      refine X.cs (cells2 := (G0.1, G0.2.1 + 1, G0.2.2 + 6).2.1 - G0.2.1) (slots2 := (G0.1, G0.2.1 + 1, G0.2.2 + 6).2.2 - G0.2.2) rfl rfl ?_
      refine x_astore (lv' := [(5, .ref q), (0, .ref (ad (0))), (1, .int p1), (2, .int p2), (3, .int p3), (4, .ref q0)]) hx hb dX0_years_15 hl (by decide) rfl (fun ls hl => ?_)
      refine x_iconst (v := 1) hx hb dX0_years_17 (by decide) ?_
      exact y_iret hx hb hr hlk hZ hU hS rfl rfl hU.1 dX0_years_18
    · rw [if_neg hk] at ho
      rw [if_neg hk]
      have hE : exN k = "java/lang/IllegalArgumentException" := if_neg hk
      rw [hE]
      refine ⟨[⟨0, 12, 15, 18⟩], [], ⟨0, 12, 19, 13⟩, "java/lang/IllegalArgumentException", htab, (fun z hz => by cases List.mem_singleton.mp hz; exact Or.inr ⟨by decide, _, hts _ q1366, hJ.nc _ (List.mem_of_getElem? (i := 0) rfl)⟩), rfl, by decide, hts _ q693, hJ.at q704 rfl, fun q H locs hU hS => ?_⟩
      refine X.cs (cells2 := (G0.1, G0.2.1 + 1, G0.2.2 + 6).2.1 - G0.2.1) (slots2 := (G0.1, G0.2.1 + 1, G0.2.2 + 6).2.2 - G0.2.2) rfl rfl ?_
      refine x_astore (lv' := [(5, .ref q), (0, .ref (ad (0))), (1, .int p1), (2, .int p2), (3, .int p3), (4, .ref q0)]) hx hb dX0_years_19 hl (by decide) rfl (fun ls hl => ?_)
      refine x_iconst (v := 2) hx hb dX0_years_21 (by decide) ?_
      exact y_iret hx hb hr hlk hZ hU hS rfl rfl hU.1 dX0_years_22
  refine kzX0_1_years E hZ hU hS ⟨Nat.le_of_ble_eq_true rfl, Nat.le_of_ble_eq_true rfl⟩ hl.1 (Nat.le_of_ble_eq_true rfl) dX0_years_7 (fun o1 H locs hU hS => ?_)
  refine x_i2l hx hb dX0_years_10 rfl ?_
  refine gy_last E hU hS dX0_years_11 (fun G2 H locs hU hS => ?_)
  refine x_goto (tgt := 23) hx hb dX0_years_12 (by decide) ?_
  refine x_iconst (v := 0) hx hb dX0_years_23 (by decide) ?_
  exact y_iret hx hb hr hlk hZ hU hS rfl rfl hU.1 dX0_years_24

set_option maxHeartbeats 4000000 in
theorem mW0_nearest (l : Launch) (hst : l.stackTraces = false) (D : va_G) (ct : CT) (ad : Nat → Nat) (P : Nat → Nat → Option Nat) (S : US) (G0 : GS) (p1 : Int32) (q0 : Nat) (o : (Int32 × GS)) (ho : sW_nearest ct ad P S G0 p1 q0 = some o) : vx_Met l yX0_nearest (wsW_ yX0_nearest cX0_nearest 4 (some .int) [(0, 9, 12, 18)]) { frames := 9, cells := nmax ct - G0.2.1, slots := zmax ct - G0.2.2, locals := 164 } (mP D clW ct [.ref (ad (0)), .int p1, .ref q0] G0.2.1 (MW D clW ckH ct 26 ad P (fun _ => True) S 0 G0)) (yC (some (.int o.1)) (MW D clW ckH ct 26 ad P (mA 26 ad G0) S 0 o.2) G0 o.2 (mA 26 ad G0)) nX (nmax ct - G0.2.1) (zmax ct - G0.2.2) (mA 26 ad G0) := by
  refine YH.start (val := fun (o : (Int32 × GS)) => some (.int o.1)) (Bt := fun (o : (Int32 × GS)) => MW D clW ckH ct 26 ad P (mA 26 ad G0) S 0 o.2) (Go := fun (o : (Int32 × GS)) => o.2) ho (by decide) (Nat.le_of_ble_eq_true rfl) (lv := [(0, .ref (ad (0))), (1, .int p1), (2, .ref q0)]) rfl ?_
  intro p e s m args below meth c E hr hlk hnm htab hZ hU hS ls hl
  obtain ⟨⟨hx, hb, hml, hown, hts⟩, hK, hJ⟩ := id E
  unfold sW_nearest
  refine x_aload_n hx hb dX0_nearest_0 rfl (lv_at hl 2 rfl) ?_
  refine x_iconst (v := 0) hx hb dX0_nearest_1 (by decide) ?_
  refine x_aload_n hx hb dX0_nearest_2 rfl (lv_at hl 0 rfl) ?_
  refine x_iload_n hx hb dX0_nearest_3 rfl (lv_at hl 1 rfl) ?_
  refine X.tB (tw_catch E hZ hU hS (fun k hk hf => rtV (As := [.int p1]) E (hU.1.1.to fun _ _ => trivial) (recvU (i := 0) E.2.1 hU.1.1.1 (by decide) rfl rfl) (mT1_nearest l hst D ct ad P S G0.1 p1 _ k hk) (cwV 1 E.1.2.2.2.2 (lw_V q1798 q1799 q1800 q113 q1801) rfl rfl rfl (by decide +kernel) ⟨Nat.le_of_ble_eq_true rfl, Nat.le_of_ble_eq_true rfl⟩) rfl hl.1 rfl (Nat.le_of_ble_eq_true rfl) dX0_nearest_4 hf) (fun k o ho => ?_)) ?_
  · by_cases hk : k = 1
    · rw [if_pos hk] at ho
      rw [if_pos hk]
      have hE : exN k = "java/util/NoSuchElementException" := if_pos hk
      rw [hE]
      refine ⟨[], [], ⟨0, 9, 12, 18⟩, "java/util/NoSuchElementException", htab, (fun z hz => nomatch hz), rfl, by decide, hts _ q1366, hJ.at q1390 rfl, fun q H locs hU hS => ?_⟩
      refine X.cs (cells2 := (G0.1, G0.2.1 + 1, G0.2.2 + 6).2.1 - G0.2.1) (slots2 := (G0.1, G0.2.1 + 1, G0.2.2 + 6).2.2 - G0.2.2) rfl rfl ?_
      refine x_astore_n (lv' := [(3, .ref q), (0, .ref (ad (0))), (1, .int p1), (2, .ref q0)]) hx hb dX0_nearest_12 rfl hl (by decide) rfl (fun ls hl => ?_)
      refine x_iconst (v := 1) hx hb dX0_nearest_13 (by decide) ?_
      exact y_iret hx hb hr hlk hZ hU hS rfl rfl hU.1 dX0_nearest_14
    · rw [if_neg hk] at ho
      cases ho
  refine kzX0_1_nearest E hZ hU hS ⟨Nat.le_of_ble_eq_true rfl, Nat.le_of_ble_eq_true rfl⟩ hl.1 (Nat.le_of_ble_eq_true rfl) dX0_nearest_4 (fun o1 H locs hU hS => ?_)
  refine x_i2l hx hb dX0_nearest_7 rfl ?_
  refine gy_last E hU hS dX0_nearest_8 (fun G2 H locs hU hS => ?_)
  refine x_goto (tgt := 15) hx hb dX0_nearest_9 (by decide) ?_
  refine x_iconst (v := 0) hx hb dX0_nearest_15 (by decide) ?_
  exact y_iret hx hb hr hlk hZ hU hS rfl rfl hU.1 dX0_nearest_16

set_option maxHeartbeats 4000000 in
theorem mW0_far (l : Launch) (hst : l.stackTraces = false) (D : va_G) (ct : CT) (ad : Nat → Nat) (P : Nat → Nat → Option Nat) (S : US) (G0 : GS) (p1 : Int32) (p2 : Int32) (q0 : Nat) (o : (Int32 × GS)) (ho : sW_far ct ad P S G0 p1 p2 q0 = some o) : vx_Met l yX0_far (wsW_ yX0_far cX0_far 5 (some .int) [(0, 10, 13, 18)]) { frames := 9, cells := nmax ct - G0.2.1, slots := zmax ct - G0.2.2, locals := 163 } (mP D clW ct [.ref (ad (0)), .int p1, .int p2, .ref q0] G0.2.1 (MW D clW ckH ct 26 ad P (fun _ => True) S 0 G0)) (yC (some (.int o.1)) (MW D clW ckH ct 26 ad P (mA 26 ad G0) S 0 o.2) G0 o.2 (mA 26 ad G0)) nX (nmax ct - G0.2.1) (zmax ct - G0.2.2) (mA 26 ad G0) := by
  refine YH.start (val := fun (o : (Int32 × GS)) => some (.int o.1)) (Bt := fun (o : (Int32 × GS)) => MW D clW ckH ct 26 ad P (mA 26 ad G0) S 0 o.2) (Go := fun (o : (Int32 × GS)) => o.2) ho (by decide) (Nat.le_of_ble_eq_true rfl) (lv := [(0, .ref (ad (0))), (1, .int p1), (2, .int p2), (3, .ref q0)]) rfl ?_
  intro p e s m args below meth c E hr hlk hnm htab hZ hU hS ls hl
  obtain ⟨⟨hx, hb, hml, hown, hts⟩, hK, hJ⟩ := id E
  unfold sW_far
  refine x_aload_n hx hb dX0_far_0 rfl (lv_at hl 3 rfl) ?_
  refine x_iconst (v := 0) hx hb dX0_far_1 (by decide) ?_
  refine x_aload_n hx hb dX0_far_2 rfl (lv_at hl 0 rfl) ?_
  refine x_iload_n hx hb dX0_far_3 rfl (lv_at hl 1 rfl) ?_
  refine x_iload_n hx hb dX0_far_4 rfl (lv_at hl 2 rfl) ?_
  refine X.tB (tw_catch E hZ hU hS (fun k hk hf => rtV (As := [.int p1, .int p2]) E (hU.1.1.to fun _ _ => trivial) (recvU (i := 0) E.2.1 hU.1.1.1 (by decide) rfl rfl) (mT1_far l hst D ct ad P S G0.1 p1 p2 _ k hk) (cwV 2 E.1.2.2.2.2 (lw_V q1805 q1806 q1807 q113 q1808) rfl rfl rfl (by decide +kernel) ⟨Nat.le_of_ble_eq_true rfl, Nat.le_of_ble_eq_true rfl⟩) rfl hl.1 rfl (Nat.le_of_ble_eq_true rfl) dX0_far_5 hf) (fun k o ho => ?_)) ?_
  · by_cases hk : k = 1
    · rw [if_pos hk] at ho
      rw [if_pos hk]
      have hE : exN k = "java/util/NoSuchElementException" := if_pos hk
      rw [hE]
      refine ⟨[], [], ⟨0, 10, 13, 18⟩, "java/util/NoSuchElementException", htab, (fun z hz => nomatch hz), rfl, by decide, hts _ q1366, hJ.at q1390 rfl, fun q H locs hU hS => ?_⟩
      refine X.cs (cells2 := (G0.1, G0.2.1 + 1, G0.2.2 + 6).2.1 - G0.2.1) (slots2 := (G0.1, G0.2.1 + 1, G0.2.2 + 6).2.2 - G0.2.2) rfl rfl ?_
      refine x_astore (lv' := [(4, .ref q), (0, .ref (ad (0))), (1, .int p1), (2, .int p2), (3, .ref q0)]) hx hb dX0_far_13 hl (by decide) rfl (fun ls hl => ?_)
      refine x_iconst (v := 1) hx hb dX0_far_15 (by decide) ?_
      exact y_iret hx hb hr hlk hZ hU hS rfl rfl hU.1 dX0_far_16
    · rw [if_neg hk] at ho
      cases ho
  refine kzX0_1_far E hZ hU hS ⟨Nat.le_of_ble_eq_true rfl, Nat.le_of_ble_eq_true rfl⟩ hl.1 (Nat.le_of_ble_eq_true rfl) dX0_far_5 (fun o1 H locs hU hS => ?_)
  refine x_i2l hx hb dX0_far_8 rfl ?_
  refine gy_last E hU hS dX0_far_9 (fun G2 H locs hU hS => ?_)
  refine x_goto (tgt := 17) hx hb dX0_far_10 (by decide) ?_
  refine x_iconst (v := 0) hx hb dX0_far_17 (by decide) ?_
  exact y_iret hx hb hr hlk hZ hU hS rfl rfl hU.1 dX0_far_18

set_option maxHeartbeats 4000000 in
theorem mW0_worst (l : Launch) (hst : l.stackTraces = false) (D : va_G) (ct : CT) (ad : Nat → Nat) (P : Nat → Nat → Option Nat) (S : US) (G0 : GS) (p1 : Int32) (q0 : Nat) (o : (Int32 × US × GS)) (ho : sW_worst ct ad P S G0 p1 q0 = some o) : vx_Met l yX0_worst (wsW_ yX0_worst cX0_worst 4 (some .int) [(0, 9, 12, 13)]) { frames := 505, cells := nmax ct - G0.2.1, slots := zmax ct - G0.2.2, locals := 20112 } (mP D clW ct [.ref (ad (0)), .int p1, .ref q0] G0.2.1 (MW D clW ckH ct 26 ad P (fun _ => True) S 0 G0)) (yC (some (.int o.1)) (MW D clW ckH ct 26 ad P (mA 26 ad G0) o.2.1 0 o.2.2) G0 o.2.2 (mA 26 ad G0)) nX (nmax ct - G0.2.1) (zmax ct - G0.2.2) (mA 26 ad G0) := by
  refine YH.start (val := fun (o : (Int32 × US × GS)) => some (.int o.1)) (Bt := fun (o : (Int32 × US × GS)) => MW D clW ckH ct 26 ad P (mA 26 ad G0) o.2.1 0 o.2.2) (Go := fun (o : (Int32 × US × GS)) => o.2.2) ho (by decide) (Nat.le_of_ble_eq_true rfl) (lv := [(0, .ref (ad (0))), (1, .int p1), (2, .ref q0)]) rfl ?_
  intro p e s m args below meth c E hr hlk hnm htab hZ hU hS ls hl
  obtain ⟨⟨hx, hb, hml, hown, hts⟩, hK, hJ⟩ := id E
  unfold sW_worst
  refine x_aload_n hx hb dX0_worst_0 rfl (lv_at hl 2 rfl) ?_
  refine x_iconst (v := 0) hx hb dX0_worst_1 (by decide) ?_
  refine x_aload_n hx hb dX0_worst_2 rfl (lv_at hl 0 rfl) ?_
  refine x_iload_n hx hb dX0_worst_3 rfl (lv_at hl 1 rfl) ?_
  refine X.tB (tw_catch E hZ hU hS (fun k hk hf => rtV (As := [.int p1]) E (hU.1.1.to fun _ _ => trivial) (recvU (i := 0) E.2.1 hU.1.1.1 (by decide) rfl rfl) (mT1_worst l hst D ct ad P S G0.1 p1 _ k hk) (cwV 1 E.1.2.2.2.2 (lw_V q1812 q1813 q1814 q113 q1815) rfl rfl rfl (by decide +kernel) ⟨Nat.le_of_ble_eq_true rfl, Nat.le_of_ble_eq_true rfl⟩) rfl hl.1 rfl (Nat.le_of_ble_eq_true rfl) dX0_worst_4 hf) (fun k o ho => ?_)) ?_
  · by_cases hk : k = 1
    · rw [if_pos hk] at ho
      cases ho
    · rw [if_neg hk] at ho
      rw [if_neg hk]
      have hE : exN k = "java/lang/IllegalArgumentException" := if_neg hk
      rw [hE]
      refine ⟨[], [], ⟨0, 9, 12, 13⟩, "java/lang/IllegalArgumentException", htab, (fun z hz => nomatch hz), rfl, by decide, hts _ q693, hJ.at q704 rfl, fun q H locs hU hS => ?_⟩
      refine X.cs (cells2 := (G0.1, G0.2.1 + 1, G0.2.2 + 6).2.1 - G0.2.1) (slots2 := (G0.1, G0.2.1 + 1, G0.2.2 + 6).2.2 - G0.2.2) rfl rfl ?_
      refine x_astore_n (lv' := [(3, .ref q), (0, .ref (ad (0))), (1, .int p1), (2, .ref q0)]) hx hb dX0_worst_12 rfl hl (by decide) rfl (fun ls hl => ?_)
      refine x_iconst (v := 1) hx hb dX0_worst_13 (by decide) ?_
      exact y_iret hx hb hr hlk hZ hU hS rfl rfl hU.1 dX0_worst_14
  refine kzX0_1_worst E hZ hU hS ⟨Nat.le_of_ble_eq_true rfl, Nat.le_of_ble_eq_true rfl⟩ hl.1 (Nat.le_of_ble_eq_true rfl) dX0_worst_4 (fun o1 H locs hU hS => ?_)
  refine x_i2l hx hb dX0_worst_7 rfl ?_
  refine gy_last E hU hS dX0_worst_8 (fun G2 H locs hU hS => ?_)
  refine x_goto (tgt := 15) hx hb dX0_worst_9 (by decide) ?_
  refine x_iconst (v := 0) hx hb dX0_worst_15 (by decide) ?_
  exact y_iret hx hb hr hlk hZ hU hS rfl rfl hU.1 dX0_worst_16

set_option maxHeartbeats 4000000 in
theorem mW0_meet (l : Launch) (hst : l.stackTraces = false) (D : va_G) (ct : CT) (ad : Nat → Nat) (P : Nat → Nat → Option Nat) (S : US) (G0 : GS) (p1 : Int32) (p2 : Int32) (q0 : Nat) (o : (Int32 × US × GS)) (ho : sW_meet ct ad P S G0 p1 p2 q0 = some o) : vx_Met l yX0_meet (wsW_ yX0_meet cX0_meet 5 (some .int) [(0, 10, 13, 18)]) { frames := 504, cells := nmax ct - G0.2.1, slots := zmax ct - G0.2.2, locals := 20088 } (mP D clW ct [.ref (ad (0)), .int p1, .int p2, .ref q0] G0.2.1 (MW D clW ckH ct 26 ad P (fun _ => True) S 0 G0)) (yC (some (.int o.1)) (MW D clW ckH ct 26 ad P (mA 26 ad G0) o.2.1 0 o.2.2) G0 o.2.2 (mA 26 ad G0)) nX (nmax ct - G0.2.1) (zmax ct - G0.2.2) (mA 26 ad G0) := by
  refine YH.start (val := fun (o : (Int32 × US × GS)) => some (.int o.1)) (Bt := fun (o : (Int32 × US × GS)) => MW D clW ckH ct 26 ad P (mA 26 ad G0) o.2.1 0 o.2.2) (Go := fun (o : (Int32 × US × GS)) => o.2.2) ho (by decide) (Nat.le_of_ble_eq_true rfl) (lv := [(0, .ref (ad (0))), (1, .int p1), (2, .int p2), (3, .ref q0)]) rfl ?_
  intro p e s m args below meth c E hr hlk hnm htab hZ hU hS ls hl
  obtain ⟨⟨hx, hb, hml, hown, hts⟩, hK, hJ⟩ := id E
  unfold sW_meet
  refine x_aload_n hx hb dX0_meet_0 rfl (lv_at hl 3 rfl) ?_
  refine x_iconst (v := 0) hx hb dX0_meet_1 (by decide) ?_
  refine x_aload_n hx hb dX0_meet_2 rfl (lv_at hl 0 rfl) ?_
  refine x_iload_n hx hb dX0_meet_3 rfl (lv_at hl 1 rfl) ?_
  refine x_iload_n hx hb dX0_meet_4 rfl (lv_at hl 2 rfl) ?_
  refine X.tB (tw_catch E hZ hU hS (fun k hk hf => rtV (As := [.int p1, .int p2]) E (hU.1.1.to fun _ _ => trivial) (recvU (i := 0) E.2.1 hU.1.1.1 (by decide) rfl rfl) (mT1_meet l hst D ct ad P S G0.1 p1 p2 _ k hk) (cwV 2 E.1.2.2.2.2 (lw_V q1819 q1820 q1821 q113 q1822) rfl rfl rfl (by decide +kernel) ⟨Nat.le_of_ble_eq_true rfl, Nat.le_of_ble_eq_true rfl⟩) rfl hl.1 rfl (Nat.le_of_ble_eq_true rfl) dX0_meet_5 hf) (fun k o ho => ?_)) ?_
  · by_cases hk : k = 1
    · rw [if_pos hk] at ho
      rw [if_pos hk]
      have hE : exN k = "java/util/NoSuchElementException" := if_pos hk
      rw [hE]
      refine ⟨[], [], ⟨0, 10, 13, 18⟩, "java/util/NoSuchElementException", htab, (fun z hz => nomatch hz), rfl, by decide, hts _ q1366, hJ.at q1390 rfl, fun q H locs hU hS => ?_⟩
      refine X.cs (cells2 := (G0.1, G0.2.1 + 1, G0.2.2 + 6).2.1 - G0.2.1) (slots2 := (G0.1, G0.2.1 + 1, G0.2.2 + 6).2.2 - G0.2.2) rfl rfl ?_
      refine x_astore (lv' := [(4, .ref q), (0, .ref (ad (0))), (1, .int p1), (2, .int p2), (3, .ref q0)]) hx hb dX0_meet_13 hl (by decide) rfl (fun ls hl => ?_)
      refine x_iconst (v := 1) hx hb dX0_meet_15 (by decide) ?_
      exact y_iret hx hb hr hlk hZ hU hS rfl rfl hU.1 dX0_meet_16
    · rw [if_neg hk] at ho
      cases ho
  refine kzX0_1_meet E hZ hU hS ⟨Nat.le_of_ble_eq_true rfl, Nat.le_of_ble_eq_true rfl⟩ hl.1 (Nat.le_of_ble_eq_true rfl) dX0_meet_5 (fun o1 H locs hU hS => ?_)
  refine x_i2l hx hb dX0_meet_8 rfl ?_
  refine gy_last E hU hS dX0_meet_9 (fun G2 H locs hU hS => ?_)
  refine x_goto (tgt := 17) hx hb dX0_meet_10 (by decide) ?_
  refine x_iconst (v := 0) hx hb dX0_meet_17 (by decide) ?_
  exact y_iret hx hb hr hlk hZ hU hS rfl rfl hU.1 dX0_meet_18

set_option maxHeartbeats 4000000 in
theorem mW0_bare (l : Launch) (hst : l.stackTraces = false) (D : va_G) (ct : CT) (ad : Nat → Nat) (P : Nat → Nat → Option Nat) (S : US) (G0 : GS) (p1 : Int32) (q0 : Nat) (o : (Int32 × US × GS)) (ho : sW_bare ct ad P S G0 p1 q0 = some o) : vx_Met l yX0_bare (wsW_ yX0_bare cX0_bare 4 (some .int) [(0, 9, 12, 13)]) { frames := 506, cells := nmax ct - G0.2.1, slots := zmax ct - G0.2.2, locals := 20131 } (mP D clW ct [.ref (ad (0)), .int p1, .ref q0] G0.2.1 (MW D clW ckH ct 26 ad P (fun _ => True) S 0 G0)) (yC (some (.int o.1)) (MW D clW ckH ct 26 ad P (mA 26 ad G0) o.2.1 0 o.2.2) G0 o.2.2 (mA 26 ad G0)) nX (nmax ct - G0.2.1) (zmax ct - G0.2.2) (mA 26 ad G0) := by
  refine YH.start (val := fun (o : (Int32 × US × GS)) => some (.int o.1)) (Bt := fun (o : (Int32 × US × GS)) => MW D clW ckH ct 26 ad P (mA 26 ad G0) o.2.1 0 o.2.2) (Go := fun (o : (Int32 × US × GS)) => o.2.2) ho (by decide) (Nat.le_of_ble_eq_true rfl) (lv := [(0, .ref (ad (0))), (1, .int p1), (2, .ref q0)]) rfl ?_
  intro p e s m args below meth c E hr hlk hnm htab hZ hU hS ls hl
  obtain ⟨⟨hx, hb, hml, hown, hts⟩, hK, hJ⟩ := id E
  unfold sW_bare
  refine x_aload_n hx hb dX0_bare_0 rfl (lv_at hl 2 rfl) ?_
  refine x_iconst (v := 0) hx hb dX0_bare_1 (by decide) ?_
  refine x_aload_n hx hb dX0_bare_2 rfl (lv_at hl 0 rfl) ?_
  refine x_iload_n hx hb dX0_bare_3 rfl (lv_at hl 1 rfl) ?_
  refine X.tB (tw_catch E hZ hU hS (fun k hk hf => rtV (As := [.int p1]) E (hU.1.1.to fun _ _ => trivial) (recvU (i := 0) E.2.1 hU.1.1.1 (by decide) rfl rfl) (mT1_bare l hst D ct ad P S G0.1 p1 _ k hk) (cwV 1 E.1.2.2.2.2 (lw_V q1826 q1827 q1828 q113 q1829) rfl rfl rfl (by decide +kernel) ⟨Nat.le_of_ble_eq_true rfl, Nat.le_of_ble_eq_true rfl⟩) rfl hl.1 rfl (Nat.le_of_ble_eq_true rfl) dX0_bare_4 hf) (fun k o ho => ?_)) ?_
  · by_cases hk : k = 1
    · rw [if_pos hk] at ho
      cases ho
    · rw [if_neg hk] at ho
      rw [if_neg hk]
      have hE : exN k = "java/lang/IllegalArgumentException" := if_neg hk
      rw [hE]
      refine ⟨[], [], ⟨0, 9, 12, 13⟩, "java/lang/IllegalArgumentException", htab, (fun z hz => nomatch hz), rfl, by decide, hts _ q693, hJ.at q704 rfl, fun q H locs hU hS => ?_⟩
      refine X.cs (cells2 := (G0.1, G0.2.1 + 1, G0.2.2 + 6).2.1 - G0.2.1) (slots2 := (G0.1, G0.2.1 + 1, G0.2.2 + 6).2.2 - G0.2.2) rfl rfl ?_
      refine x_astore_n (lv' := [(3, .ref q), (0, .ref (ad (0))), (1, .int p1), (2, .ref q0)]) hx hb dX0_bare_12 rfl hl (by decide) rfl (fun ls hl => ?_)
      refine x_iconst (v := 1) hx hb dX0_bare_13 (by decide) ?_
      exact y_iret hx hb hr hlk hZ hU hS rfl rfl hU.1 dX0_bare_14
  refine kzX0_1_bare E hZ hU hS ⟨Nat.le_of_ble_eq_true rfl, Nat.le_of_ble_eq_true rfl⟩ hl.1 (Nat.le_of_ble_eq_true rfl) dX0_bare_4 (fun o1 H locs hU hS => ?_)
  refine x_i2l hx hb dX0_bare_7 rfl ?_
  refine gy_last E hU hS dX0_bare_8 (fun G2 H locs hU hS => ?_)
  refine x_goto (tgt := 15) hx hb dX0_bare_9 (by decide) ?_
  refine x_iconst (v := 0) hx hb dX0_bare_15 (by decide) ?_
  exact y_iret hx hb hr hlk hZ hU hS rfl rfl hU.1 dX0_bare_16

set_option maxHeartbeats 4000000 in
theorem mW0_load (l : Launch) (hst : l.stackTraces = false) (D : va_G) (ct : CT) (ad : Nat → Nat) (P : Nat → Nat → Option Nat) (S : US) (G0 : GS) (p1 : Int32) (q0 : Nat) (o : (Int32 × GS)) (ho : sW_load ct ad P S G0 p1 q0 = some o) : vx_Met l yX0_load (wsW_ yX0_load cX0_load 4 (some .int) [(0, 9, 12, 13)]) { frames := 8, cells := nmax ct - G0.2.1, slots := zmax ct - G0.2.2, locals := 143 } (mP D clW ct [.ref (ad (0)), .int p1, .ref q0] G0.2.1 (MW D clW ckH ct 26 ad P (fun _ => True) S 0 G0)) (yC (some (.int o.1)) (MW D clW ckH ct 26 ad P (mA 26 ad G0) S 0 o.2) G0 o.2 (mA 26 ad G0)) nX (nmax ct - G0.2.1) (zmax ct - G0.2.2) (mA 26 ad G0) := by
  refine YH.start (val := fun (o : (Int32 × GS)) => some (.int o.1)) (Bt := fun (o : (Int32 × GS)) => MW D clW ckH ct 26 ad P (mA 26 ad G0) S 0 o.2) (Go := fun (o : (Int32 × GS)) => o.2) ho (by decide) (Nat.le_of_ble_eq_true rfl) (lv := [(0, .ref (ad (0))), (1, .int p1), (2, .ref q0)]) rfl ?_
  intro p e s m args below meth c E hr hlk hnm htab hZ hU hS ls hl
  obtain ⟨⟨hx, hb, hml, hown, hts⟩, hK, hJ⟩ := id E
  unfold sW_load
  refine x_aload_n hx hb dX0_load_0 rfl (lv_at hl 2 rfl) ?_
  refine x_iconst (v := 0) hx hb dX0_load_1 (by decide) ?_
  refine x_aload_n hx hb dX0_load_2 rfl (lv_at hl 0 rfl) ?_
  refine x_iload_n hx hb dX0_load_3 rfl (lv_at hl 1 rfl) ?_
  refine X.tB (tw_catch E hZ hU hS (fun k hk hf => rtV (As := [.int p1]) E (hU.1.1.to fun _ _ => trivial) (recvU (i := 0) E.2.1 hU.1.1.1 (by decide) rfl rfl) (mT1_load l hst D ct ad P S G0.1 p1 _ k hk) (cwV 1 E.1.2.2.2.2 (lw_V q1833 q1834 q1835 q113 q1836) rfl rfl rfl (by decide +kernel) ⟨Nat.le_of_ble_eq_true rfl, Nat.le_of_ble_eq_true rfl⟩) rfl hl.1 rfl (Nat.le_of_ble_eq_true rfl) dX0_load_4 hf) (fun k o ho => ?_)) ?_
  · by_cases hk : k = 1
    · rw [if_pos hk] at ho
      cases ho
    · rw [if_neg hk] at ho
      rw [if_neg hk]
      have hE : exN k = "java/lang/IllegalArgumentException" := if_neg hk
      rw [hE]
      refine ⟨[], [], ⟨0, 9, 12, 13⟩, "java/lang/IllegalArgumentException", htab, (fun z hz => nomatch hz), rfl, by decide, hts _ q693, hJ.at q704 rfl, fun q H locs hU hS => ?_⟩
      refine X.cs (cells2 := (G0.1, G0.2.1 + 1, G0.2.2 + 6).2.1 - G0.2.1) (slots2 := (G0.1, G0.2.1 + 1, G0.2.2 + 6).2.2 - G0.2.2) rfl rfl ?_
      refine x_astore_n (lv' := [(3, .ref q), (0, .ref (ad (0))), (1, .int p1), (2, .ref q0)]) hx hb dX0_load_12 rfl hl (by decide) rfl (fun ls hl => ?_)
      refine x_iconst (v := 1) hx hb dX0_load_13 (by decide) ?_
      exact y_iret hx hb hr hlk hZ hU hS rfl rfl hU.1 dX0_load_14
  refine kzX0_1_load E hZ hU hS ⟨Nat.le_of_ble_eq_true rfl, Nat.le_of_ble_eq_true rfl⟩ hl.1 (Nat.le_of_ble_eq_true rfl) dX0_load_4 (fun o1 H locs hU hS => ?_)
  refine x_i2l hx hb dX0_load_7 rfl ?_
  refine gy_last E hU hS dX0_load_8 (fun G2 H locs hU hS => ?_)
  refine x_goto (tgt := 15) hx hb dX0_load_9 (by decide) ?_
  refine x_iconst (v := 0) hx hb dX0_load_15 (by decide) ?_
  exact y_iret hx hb hr hlk hZ hU hS rfl rfl hU.1 dX0_load_16
