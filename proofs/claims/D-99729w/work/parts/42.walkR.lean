set_option maxRecDepth 100000
section HF
variable {ρ ρ' : Type} {p : Program} {l : Launch} {e : Env} {R : Room} {s : State} {m : MethodId} {args : Array Value} {below : List Frame} {meth : Method} {c : Code} {H : Heap} {locs : List Loc} {cells slots : Nat} {Qf : ρ → State → Prop} {sp : Option ρ}
variable {cc : ByteArray} {pc nL L : Nat} {ls : Array Slot} {rest : List Value}
variable {D : va_G} {ct : CT} {ad : Nat → Nat} {P : Nat → Nat → Option Nat} {A A0 : Nat → Prop} {S : US} {h : AH} {H0 : Heap}

theorem gX5_67 (E : ME p m c cc nL s args RX5 D clW ct) (hG : GH D ct ad P A S h H) (hdg : decode cc pc = .ok (.getfield 67, 3)) (kk : X p l e R s m args below meth c H locs cells slots Qf sp (F0 m (pc + 3) ls (.ref (ad 3) :: rest))) : X p l e R s m args below meth c H locs cells slots Qf sp (F0 m pc ls (.ref (ad (0)) :: rest)) := ux_getN (i := 0) E hG.1 (by decide) rfl rfl in_X1 5 (by decide) (v := .ref (ad 3)) rfl (E.2.2.at q273 rfl) (fun _ h => h) hdg kk
theorem gX5_202 (E : ME p m c cc nL s args RX5 D clW ct) (hG : GH D ct ad P A S h H) (hL : L < 3) (hdg : decode cc pc = .ok (.getfield 202, 3)) (kk : X p l e R s m args below meth c H locs cells slots Qf sp (F0 m (pc + 3) ls (.ref (ad (lc L 1)) :: rest))) : X p l e R s m args below meth c H locs cells slots Qf sp (F0 m pc ls (.ref (ad (lc L 0)) :: rest)) := ux_getN (i := lc L 0) E hG.1 (lc_lt hL (by decide)) (ck_lc (by decide)) rfl in_X3 0 (by decide) (v := .ref (ad (lc L 1))) rfl (E.2.2.at q230 rfl) (fun _ h => h) hdg kk
theorem gX5_205 (E : ME p m c cc nL s args RX5 D clW ct) (hG : GH D ct ad P A S h H) (hL : L < 3) (hdg : decode cc pc = .ok (.getfield 205, 3)) (kk : X p l e R s m args below meth c H locs cells slots Qf sp (F0 m (pc + 3) ls (.ref (ad (lc L 2)) :: rest))) : X p l e R s m args below meth c H locs cells slots Qf sp (F0 m pc ls (.ref (ad (lc L 0)) :: rest)) := ux_getN (i := lc L 0) E hG.1 (lc_lt hL (by decide)) (ck_lc (by decide)) rfl in_X3 1 (by decide) (v := .ref (ad (lc L 2))) rfl (E.2.2.at q233 rfl) (fun _ h => h) hdg kk
theorem gX5_207 (E : ME p m c cc nL s args RX5 D clW ct) (hG : GH D ct ad P A S h H) (hL : L < 3) (hdg : decode cc pc = .ok (.getfield 207, 3)) (kk : X p l e R s m args below meth c H locs cells slots Qf sp (F0 m (pc + 3) ls (.ref (ad (lc L 3)) :: rest))) : X p l e R s m args below meth c H locs cells slots Qf sp (F0 m pc ls (.ref (ad (lc L 0)) :: rest)) := ux_getN (i := lc L 0) E hG.1 (lc_lt hL (by decide)) (ck_lc (by decide)) rfl in_X3 2 (by decide) (v := .ref (ad (lc L 3))) rfl (E.2.2.at q236 rfl) (fun _ h => h) hdg kk
theorem gX5_211 (E : ME p m c cc nL s args RX5 D clW ct) (hG : GH D ct ad P A S h H) (hL : L < 3) (hdg : decode cc pc = .ok (.getfield 211, 3)) (kk : X p l e R s m args below meth c H locs cells slots Qf sp (F0 m (pc + 3) ls (.ref (ad (lc L 4)) :: rest))) : X p l e R s m args below meth c H locs cells slots Qf sp (F0 m pc ls (.ref (ad (lc L 0)) :: rest)) := ux_getN (i := lc L 0) E hG.1 (lc_lt hL (by decide)) (ck_lc (by decide)) rfl in_X3 3 (by decide) (v := .ref (ad (lc L 4))) rfl (E.2.2.at q239 rfl) (fun _ h => h) hdg kk
theorem gX5_213 (E : ME p m c cc nL s args RX5 D clW ct) (hG : GH D ct ad P A S h H) (hL : L < 3) (hdg : decode cc pc = .ok (.getfield 213, 3)) (kk : X p l e R s m args below meth c H locs cells slots Qf sp (F0 m (pc + 3) ls (.ref (ad (lc L 5)) :: rest))) : X p l e R s m args below meth c H locs cells slots Qf sp (F0 m pc ls (.ref (ad (lc L 0)) :: rest)) := ux_getN (i := lc L 0) E hG.1 (lc_lt hL (by decide)) (ck_lc (by decide)) rfl in_X3 4 (by decide) (v := .ref (ad (lc L 5))) rfl (E.2.2.at q242 rfl) (fun _ h => h) hdg kk
theorem gX5_216 (E : ME p m c cc nL s args RX5 D clW ct) (hG : GH D ct ad P A S h H) (hdg : decode cc pc = .ok (.getfield 216, 3)) {kp : Option Nat → Option ρ} (kk : ∀ r, X p l e R s m args below meth c H locs cells slots Qf (kp r) (F0 m (pc + 3) ls (va_rf r :: rest))) : X p l e R s m args below meth c H locs cells slots Qf (letB (P (1) 0) kp) (F0 m pc ls (.ref (ad (1)) :: rest)) := gx_getON (i := 1) E hG (by decide) rfl rfl in_X2 0 (by decide) rfl (E.2.2.at q193 rfl) (fun _ h => h) hdg kk
theorem gX5_242 (E : ME p m c cc nL s args RX5 D clW ct) (hG : GH D ct ad P A S h H) (hdg : decode cc pc = .ok (.getfield 242, 3)) {kp : Option Nat → Option ρ} (kk : ∀ r, X p l e R s m args below meth c H locs cells slots Qf (kp r) (F0 m (pc + 3) ls (va_rf r :: rest))) : X p l e R s m args below meth c H locs cells slots Qf (letB (P (1) 1) kp) (F0 m pc ls (.ref (ad (1)) :: rest)) := gx_getON (i := 1) E hG (by decide) rfl rfl in_X2 1 (by decide) rfl (E.2.2.at q196 rfl) (fun _ h => h) hdg kk
theorem gX5_266 (E : ME p m c cc nL s args RX5 D clW ct) (hG : GH D ct ad P A S h H) (hdg : decode cc pc = .ok (.getfield 266, 3)) (kk : X p l e R s m args below meth c H locs cells slots Qf sp (F0 m (pc + 3) ls (.int (S (1) 3) :: rest))) : X p l e R s m args below meth c H locs cells slots Qf sp (F0 m pc ls (.ref (ad (1)) :: rest)) := ux_getN (i := 1) E hG.1 (by decide) rfl rfl in_X2 3 (by decide) (v := .int (S (1) 3)) rfl (E.2.2.at q204 rfl) (fun _ h => h) hdg kk
theorem gX5_268 (E : ME p m c cc nL s args RX5 D clW ct) (hG : GH D ct ad P A S h H) (hdg : decode cc pc = .ok (.getfield 268, 3)) {kp : Option Nat → Option ρ} (kk : ∀ r, X p l e R s m args below meth c H locs cells slots Qf (kp r) (F0 m (pc + 3) ls (va_rf r :: rest))) : X p l e R s m args below meth c H locs cells slots Qf (letB (P (1) 4) kp) (F0 m pc ls (.ref (ad (1)) :: rest)) := gx_getON (i := 1) E hG (by decide) rfl rfl in_X2 4 (by decide) rfl (E.2.2.at q206 rfl) (fun _ h => h) hdg kk
theorem gX5_271 (E : ME p m c cc nL s args RX5 D clW ct) (hG : GH D ct ad P A S h H) (hdg : decode cc pc = .ok (.getfield 271, 3)) {kp : Option Nat → Option ρ} (kk : ∀ r, X p l e R s m args below meth c H locs cells slots Qf (kp r) (F0 m (pc + 3) ls (va_rf r :: rest))) : X p l e R s m args below meth c H locs cells slots Qf (letB (P (1) 5) kp) (F0 m pc ls (.ref (ad (1)) :: rest)) := gx_getON (i := 1) E hG (by decide) rfl rfl in_X2 5 (by decide) rfl (E.2.2.at q208 rfl) (fun _ h => h) hdg kk
theorem gX5_290 (E : ME p m c cc nL s args RX5 D clW ct) (hG : GH D ct ad P A S h H) (hdg : decode cc pc = .ok (.getfield 290, 3)) (kk : X p l e R s m args below meth c H locs cells slots Qf sp (F0 m (pc + 3) ls (.int (S (1) 2) :: rest))) : X p l e R s m args below meth c H locs cells slots Qf sp (F0 m pc ls (.ref (ad (1)) :: rest)) := ux_getN (i := 1) E hG.1 (by decide) rfl rfl in_X2 2 (by decide) (v := .int (S (1) 2)) rfl (E.2.2.at q200 rfl) (fun _ h => h) hdg kk
theorem kX5_max (E : ME p m c cc nL s args RX5 D clW ct) (hR : 1 ≤ R.frames ∧ 21 ≤ R.locals) (hsize : ls.size = nL) (hW : (rest.map fun v => v.category).sum ≤ 8) {x y : Int32} (hdg : decode cc pc = .ok (.invokestatic 287, 3)) (hf : cells ≤ R.cells ∧ slots ≤ R.slots) (kk : X p l e R s m args below meth c H locs cells slots Qf sp (F0 m (pc + 3) ls (.int (if x < y then y else x) :: rest))) : X p l e R s m args below meth c H locs cells slots Qf sp (F0 m pc ls (.int y :: .int x :: rest)) := fun o ho => va_mmax E.1.1 E.1.2.1 (E.1.2.2.1.trans hsize.symm) E.1.2.2.2.1 (E.1.2.2.2.2 _ q1362) (E.1.2.2.2.2 _ q375) (E.1.2.2.2.2 _ q125) (E.1.2.2.2.2 _ q376) hR.1 (by omega) hf.1 hf.2 hdg (kk o ho)
theorem kX5_min (E : ME p m c cc nL s args RX5 D clW ct) (hR : 1 ≤ R.frames ∧ 21 ≤ R.locals) (hsize : ls.size = nL) (hW : (rest.map fun v => v.category).sum ≤ 8) {x y : Int32} (hdg : decode cc pc = .ok (.invokestatic 96, 3)) (hf : cells ≤ R.cells ∧ slots ≤ R.slots) (kk : X p l e R s m args below meth c H locs cells slots Qf sp (F0 m (pc + 3) ls (.int (if y < x then y else x) :: rest))) : X p l e R s m args below meth c H locs cells slots Qf sp (F0 m pc ls (.int y :: .int x :: rest)) := fun o ho => va_mmin E.1.1 E.1.2.1 (E.1.2.2.1.trans hsize.symm) E.1.2.2.2.1 (E.1.2.2.2.2 _ q852) (E.1.2.2.2.2 _ q412) (E.1.2.2.2.2 _ q125) (E.1.2.2.2.2 _ q413) hR.1 (by omega) hf.1 hf.2 hdg (kk o ho)
end HF

set_option maxHeartbeats 4000000 in
theorem mY5_here (l : Launch) (D : va_G) (ct : CT) (ad : Nat → Nat) (P : Nat → Nat → Option Nat) (S : US) (G0 : GS) (q0 : Nat) (o : (Int32 × GS)) (ho : s5_here ct ad P S G0 q0 = some o) : Met l yX5_here (ws_ yX5_here cX5_here 1 (some .int)) { frames := 1, cells := nmax ct - G0.2.1, slots := zmax ct - G0.2.2, locals := 60 } (mP D clW ct [.ref q0] G0.2.1 (MW D clW ckH ct 26 ad P (fun _ => True) S 0 G0)) (yC (some (.int o.1)) (MW D clW ckH ct 26 ad P (mA 26 ad G0) S 0 o.2) G0 o.2 (mA 26 ad G0)) (nmax ct - G0.2.1) (zmax ct - G0.2.2) (mA 26 ad G0) := by
  refine Y.start (val := fun (o : (Int32 × GS)) => some (.int o.1)) (Bt := fun (o : (Int32 × GS)) => MW D clW ckH ct 26 ad P (mA 26 ad G0) S 0 o.2) (Go := fun (o : (Int32 × GS)) => o.2) ho (by decide) (Nat.le_of_ble_eq_true rfl) (lv := [(0, .ref q0)]) rfl ?_
  intro p e s m args below meth c E hr hlk hnm hZ hU hS ls hl
  obtain ⟨⟨hx, hb, hml, hown, hts⟩, hK, hJ⟩ := id E
  unfold s5_here
  refine x_aload_n hx hb dX5_here_0 rfl (lv_at hl 0 rfl) ?_
  refine fx_getI E hU.1.1.2.1 (ci := 4) rfl in_X5 5 (by decide) (hts _ q794) (fun _ h => h) dX5_here_1 (fun v1 => ?_)
  refine x_aload_n hx hb dX5_here_4 rfl (lv_at hl 0 rfl) ?_
  refine fx_getI E hU.1.1.2.1 (ci := 4) rfl in_X5 0 (by decide) (hts _ q788) (fun _ h => h) dX5_here_5 (fun v2 => ?_)
  refine x_icmp_ge (tgt := 30) hx hb dX5_here_8 (by decide) (fun hc => ?_) (fun hc => ?_)
  · refine x_iconst (v := -1) hx hb dX5_here_30 (by decide) ?_
    exact y_iret hx hb hr hlk hZ hU hS rfl rfl hU.1 dX5_here_31
  · refine x_aload_n hx hb dX5_here_11 rfl (lv_at hl 0 rfl) ?_
    refine fx_getR E hU.1.1.2.1 (ci := 4) rfl in_X5 12 (by decide) (hts _ q802) (fun _ h => h) dX5_here_12 (fun r3 => ?_)
    refine X.ite (fun hs_ => ?_) (fun _ => X.none)
    subst hs_
    refine gX5_67 E hU.1.1 dX5_here_15 ?_
    refine x_aload_n hx hb dX5_here_18 rfl (lv_at hl 0 rfl) ?_
    refine fx_getI E hU.1.1.2.1 (ci := 4) rfl in_X5 5 (by decide) (hts _ q794) (fun _ h => h) dX5_here_19 (fun v4 => ?_)
    refine ux_bald (i := 3) (n := 700) E hU.1.1.1 (by decide) rfl dX5_here_22 ?_
    refine x_sipush (v := 255) hx hb dX5_here_23 (by decide) ?_
    refine x_iand hx hb dX5_here_26 ?_
    refine x_goto (tgt := 31) hx hb dX5_here_27 (by decide) ?_
    exact y_iret hx hb hr hlk hZ hU hS rfl rfl hU.1 dX5_here_31
section KZ
variable {ρ : Type} {p : Program} {l : Launch} {e : Env} {R : Room} {s : State} {m : MethodId} {args : Array Value} {below : List Frame} {meth : Method} {c : Code} {H : Heap} {locs : List Loc} {Qf : ρ → State → Prop}
variable {cc : ByteArray} {pc nL L M q0 : Nat} {ls : Array Slot} {rest : List Value}
variable {D : va_G} {ct : CT} {ck : Nat → UC} {N : Nat} {ad : Nat → Nat} {P : Nat → Nat → Option Nat} {A : Nat → Prop} {S : US} {w : Int64} {G0 G : GS}
theorem kzX5_5_here (E : ME p m c cc nL s args RX5 D clW ct) (hZ : YC ct R s A G0) (hY : YW D clW ckH ct 26 ad P A S 0 G0 G H) (hS : va_S A s.heap H locs) (hR : 1 + 1 ≤ R.frames ∧ 8 + (1 + 11) + 60 ≤ R.locals) (hsize : ls.size = nL) (hW : (rest.map fun v => v.category).sum ≤ 8) (hdg : decode cc pc = .ok (.invokevirtual 71, 3)) {kp : (Int32 × GS) → Option ρ} (kk : ∀ (o : (Int32 × GS)) (H1 : Heap) (locs1 : List Loc), YW D clW ckH ct 26 ad P A S 0 G0 o.2 H1 → va_S A s.heap H1 locs1 → X p l e R s m args below meth c H1 locs1 (o.2.2.1 - G0.2.1) (o.2.2.2 - G0.2.2) Qf (kp o) (F0 m (pc + 3) ls (.int o.1 :: rest))) : X p l e R s m args below meth c H locs (G.2.1 - G0.2.1) (G.2.2 - G0.2.2) Qf (hC G.1 q0 4 (callK (s5_here ct ad P S G q0) kp)) (F0 m pc ls (.ref q0 :: rest)) := X.hC fun fs bw hq => gy_mx (val' := fun (o : (Int32 × GS)) => some (.int o.1)) (len := 3) (So := fun (o : (Int32 × GS)) => S) (Po := fun (o : (Int32 × GS)) => P) (Gn := fun (o : (Int32 × GS)) => o.2) hZ hY hS (fun o ho => rqV (As := []) E hY.1.any (recvA E.2.1 hY.1.1.2.1 hq rfl) (by rw [hY.1.2.1]; exact mY5_here l D ct ad P S G q0 o ho) (cwV 0 E.1.2.2.2.2 (lw_V q838 q840 qs10 q124 q841) rfl rfl rfl (by decide +kernel) hR) rfl hsize rfl hW hdg (hY.room hZ)) kk
end KZ

set_option maxHeartbeats 4000000 in
theorem mY5_isLetter (l : Launch) (D : va_G) (ct : CT) (ad : Nat → Nat) (P : Nat → Nat → Option Nat) (S : US) (G0 : GS) (q0 : Nat) (o : (Bool × GS)) (ho : s5_isLetter ct ad P S G0 q0 = some o) : Met l yX5_isLetter (ws_ yX5_isLetter cX5_isLetter 1 (some .boolean)) { frames := 2, cells := nmax ct - G0.2.1, slots := zmax ct - G0.2.2, locals := 80 } (mP D clW ct [.ref q0] G0.2.1 (MW D clW ckH ct 26 ad P (fun _ => True) S 0 G0)) (yC (some (.int (bI o.1))) (MW D clW ckH ct 26 ad P (mA 26 ad G0) S 0 o.2) G0 o.2 (mA 26 ad G0)) (nmax ct - G0.2.1) (zmax ct - G0.2.2) (mA 26 ad G0) := by
  refine Y.start (val := fun (o : (Bool × GS)) => some (.int (bI o.1))) (Bt := fun (o : (Bool × GS)) => MW D clW ckH ct 26 ad P (mA 26 ad G0) S 0 o.2) (Go := fun (o : (Bool × GS)) => o.2) ho (by decide) (Nat.le_of_ble_eq_true rfl) (lv := [(0, .ref q0)]) rfl ?_
  intro p e s m args below meth c E hr hlk hnm hZ hU hS ls hl
  obtain ⟨⟨hx, hb, hml, hown, hts⟩, hK, hJ⟩ := id E
  unfold s5_isLetter
  refine x_aload_n hx hb dX5_isLetter_0 rfl (lv_at hl 0 rfl) ?_
  refine kzX5_5_here E hZ hU hS ⟨Nat.le_of_ble_eq_true rfl, Nat.le_of_ble_eq_true rfl⟩ hl.1 (Nat.le_of_ble_eq_true rfl) dX5_isLetter_1 (fun o1 H locs hU hS => ?_)
  refine x_bipush (v := 97) hx hb dX5_isLetter_4 (by decide) ?_
  refine x_bipush (v := 122) hx hb dX5_isLetter_6 (by decide) ?_
  refine kzX5_1_in E hZ hU hS ⟨Nat.le_of_ble_eq_true rfl, Nat.le_of_ble_eq_true rfl⟩ hl.1 (Nat.le_of_ble_eq_true rfl) dX5_isLetter_8 (fun o2 H locs hU hS => ?_)
  exact y_zret hx hb hr hlk hZ hU hS (bI_z _) rfl rfl hU.1 dX5_isLetter_11
section KZ
variable {ρ : Type} {p : Program} {l : Launch} {e : Env} {R : Room} {s : State} {m : MethodId} {args : Array Value} {below : List Frame} {meth : Method} {c : Code} {H : Heap} {locs : List Loc} {Qf : ρ → State → Prop}
variable {cc : ByteArray} {pc nL L M q0 : Nat} {ls : Array Slot} {rest : List Value}
variable {D : va_G} {ct : CT} {ck : Nat → UC} {N : Nat} {ad : Nat → Nat} {P : Nat → Nat → Option Nat} {A : Nat → Prop} {S : US} {w : Int64} {G0 G : GS}
theorem kzX5_5_isLetter (E : ME p m c cc nL s args RX5 D clW ct) (hZ : YC ct R s A G0) (hY : YW D clW ckH ct 26 ad P A S 0 G0 G H) (hS : va_S A s.heap H locs) (hR : 2 + 1 ≤ R.frames ∧ 8 + (1 + 11) + 80 ≤ R.locals) (hsize : ls.size = nL) (hW : (rest.map fun v => v.category).sum ≤ 8) (hdg : decode cc pc = .ok (.invokevirtual 85, 3)) {kp : (Bool × GS) → Option ρ} (kk : ∀ (o : (Bool × GS)) (H1 : Heap) (locs1 : List Loc), YW D clW ckH ct 26 ad P A S 0 G0 o.2 H1 → va_S A s.heap H1 locs1 → X p l e R s m args below meth c H1 locs1 (o.2.2.1 - G0.2.1) (o.2.2.2 - G0.2.2) Qf (kp o) (F0 m (pc + 3) ls (.int (bI o.1) :: rest))) : X p l e R s m args below meth c H locs (G.2.1 - G0.2.1) (G.2.2 - G0.2.2) Qf (hC G.1 q0 4 (callK (s5_isLetter ct ad P S G q0) kp)) (F0 m pc ls (.ref q0 :: rest)) := X.hC fun fs bw hq => gy_mx (val' := fun (o : (Bool × GS)) => some (.int (bI o.1))) (len := 3) (So := fun (o : (Bool × GS)) => S) (Po := fun (o : (Bool × GS)) => P) (Gn := fun (o : (Bool × GS)) => o.2) hZ hY hS (fun o ho => rqV (As := []) E hY.1.any (recvA E.2.1 hY.1.1.2.1 hq rfl) (by rw [hY.1.2.1]; exact mY5_isLetter l D ct ad P S G q0 o ho) (cwV 0 E.1.2.2.2.2 (lw_V q842 q844 qs11 q124 q845) rfl rfl rfl (by decide +kernel) hR) rfl hsize rfl hW hdg (hY.room hZ)) kk
end KZ

set_option maxHeartbeats 4000000 in
theorem mY5_isDigit (l : Launch) (D : va_G) (ct : CT) (ad : Nat → Nat) (P : Nat → Nat → Option Nat) (S : US) (G0 : GS) (q0 : Nat) (o : (Bool × GS)) (ho : s5_isDigit ct ad P S G0 q0 = some o) : Met l yX5_isDigit (ws_ yX5_isDigit cX5_isDigit 1 (some .boolean)) { frames := 2, cells := nmax ct - G0.2.1, slots := zmax ct - G0.2.2, locals := 80 } (mP D clW ct [.ref q0] G0.2.1 (MW D clW ckH ct 26 ad P (fun _ => True) S 0 G0)) (yC (some (.int (bI o.1))) (MW D clW ckH ct 26 ad P (mA 26 ad G0) S 0 o.2) G0 o.2 (mA 26 ad G0)) (nmax ct - G0.2.1) (zmax ct - G0.2.2) (mA 26 ad G0) := by
  refine Y.start (val := fun (o : (Bool × GS)) => some (.int (bI o.1))) (Bt := fun (o : (Bool × GS)) => MW D clW ckH ct 26 ad P (mA 26 ad G0) S 0 o.2) (Go := fun (o : (Bool × GS)) => o.2) ho (by decide) (Nat.le_of_ble_eq_true rfl) (lv := [(0, .ref q0)]) rfl ?_
  intro p e s m args below meth c E hr hlk hnm hZ hU hS ls hl
  obtain ⟨⟨hx, hb, hml, hown, hts⟩, hK, hJ⟩ := id E
  unfold s5_isDigit
  refine x_aload_n hx hb dX5_isDigit_0 rfl (lv_at hl 0 rfl) ?_
  refine kzX5_5_here E hZ hU hS ⟨Nat.le_of_ble_eq_true rfl, Nat.le_of_ble_eq_true rfl⟩ hl.1 (Nat.le_of_ble_eq_true rfl) dX5_isDigit_1 (fun o1 H locs hU hS => ?_)
  refine x_bipush (v := 48) hx hb dX5_isDigit_4 (by decide) ?_
  refine x_bipush (v := 57) hx hb dX5_isDigit_6 (by decide) ?_
  refine kzX5_1_in E hZ hU hS ⟨Nat.le_of_ble_eq_true rfl, Nat.le_of_ble_eq_true rfl⟩ hl.1 (Nat.le_of_ble_eq_true rfl) dX5_isDigit_8 (fun o2 H locs hU hS => ?_)
  exact y_zret hx hb hr hlk hZ hU hS (bI_z _) rfl rfl hU.1 dX5_isDigit_11
section KZ
variable {ρ : Type} {p : Program} {l : Launch} {e : Env} {R : Room} {s : State} {m : MethodId} {args : Array Value} {below : List Frame} {meth : Method} {c : Code} {H : Heap} {locs : List Loc} {Qf : ρ → State → Prop}
variable {cc : ByteArray} {pc nL L M q0 : Nat} {ls : Array Slot} {rest : List Value}
variable {D : va_G} {ct : CT} {ck : Nat → UC} {N : Nat} {ad : Nat → Nat} {P : Nat → Nat → Option Nat} {A : Nat → Prop} {S : US} {w : Int64} {G0 G : GS}
theorem kzX5_5_isDigit (E : ME p m c cc nL s args RX5 D clW ct) (hZ : YC ct R s A G0) (hY : YW D clW ckH ct 26 ad P A S 0 G0 G H) (hS : va_S A s.heap H locs) (hR : 2 + 1 ≤ R.frames ∧ 8 + (1 + 11) + 80 ≤ R.locals) (hsize : ls.size = nL) (hW : (rest.map fun v => v.category).sum ≤ 8) (hdg : decode cc pc = .ok (.invokevirtual 89, 3)) {kp : (Bool × GS) → Option ρ} (kk : ∀ (o : (Bool × GS)) (H1 : Heap) (locs1 : List Loc), YW D clW ckH ct 26 ad P A S 0 G0 o.2 H1 → va_S A s.heap H1 locs1 → X p l e R s m args below meth c H1 locs1 (o.2.2.1 - G0.2.1) (o.2.2.2 - G0.2.2) Qf (kp o) (F0 m (pc + 3) ls (.int (bI o.1) :: rest))) : X p l e R s m args below meth c H locs (G.2.1 - G0.2.1) (G.2.2 - G0.2.2) Qf (hC G.1 q0 4 (callK (s5_isDigit ct ad P S G q0) kp)) (F0 m pc ls (.ref q0 :: rest)) := X.hC fun fs bw hq => gy_mx (val' := fun (o : (Bool × GS)) => some (.int (bI o.1))) (len := 3) (So := fun (o : (Bool × GS)) => S) (Po := fun (o : (Bool × GS)) => P) (Gn := fun (o : (Bool × GS)) => o.2) hZ hY hS (fun o ho => rqV (As := []) E hY.1.any (recvA E.2.1 hY.1.1.2.1 hq rfl) (by rw [hY.1.2.1]; exact mY5_isDigit l D ct ad P S G q0 o ho) (cwV 0 E.1.2.2.2.2 (lw_V q847 q849 qs12 q124 q850) rfl rfl rfl (by decide +kernel) hR) rfl hsize rfl hW hdg (hY.room hZ)) kk
end KZ

set_option maxHeartbeats 4000000 in
theorem mY5_next (l : Launch) (D : va_G) (ct : CT) (ad : Nat → Nat) (P : Nat → Nat → Option Nat) (S : US) (G0 : GS) (q0 : Nat) (o : GS) (ho : s5_next ct ad P S G0 q0 = some o) : Met l yX5_next (ws_ yX5_next cX5_next 1 none) { frames := 5, cells := nmax ct - G0.2.1, slots := zmax ct - G0.2.2, locals := 131 } (mP D clW ct [.ref q0] G0.2.1 (MW D clW ckH ct 26 ad P (fun _ => True) S 0 G0)) (yC (none) (MW D clW ckH ct 26 ad P (mA 26 ad G0) S 0 o) G0 o (mA 26 ad G0)) (nmax ct - G0.2.1) (zmax ct - G0.2.2) (mA 26 ad G0) := by
  refine Y.start (val := fun (o : GS) => none) (Bt := fun (o : GS) => MW D clW ckH ct 26 ad P (mA 26 ad G0) S 0 o) (Go := fun (o : GS) => o) ho (by decide) (Nat.le_of_ble_eq_true rfl) (lv := [(0, .ref q0)]) rfl ?_
  intro p e s m args below meth c E hr hlk hnm hZ hU hS ls hl
  obtain ⟨⟨hx, hb, hml, hown, hts⟩, hK, hJ⟩ := id E
  unfold s5_next
  refine X.loopY (I := fun (x : GS) g H locs => YW D clW ckH ct 26 ad P (mA 26 ad G0) S 0 G0 x H ∧ va_S (mA 26 ad G0) s.heap H locs ∧ ∃ ls : Array Slot, g = F0 m 0 ls [] ∧ lv_has ls 1 [(0, .ref q0)]) (cf := (fun (x : GS) => x.2.1 - G0.2.1)) (sf := (fun (x : GS) => x.2.2 - G0.2.2)) (fun rc2 ih2 => ?_) FUEL G0 _ _ _ ⟨hU, hS, _, rfl, lv_sub hl [0] rfl⟩
  rintro G1 _ H locs ⟨hU, hS, ls, rfl, hl⟩
  refine X.cs (cells2 := G1.2.1 - G0.2.1) (slots2 := G1.2.2 - G0.2.2) rfl rfl ?_
  refine X.eqs (sp2 := s5_next_L0 q0 S P ad ct rc2 G1) rfl ?_
  unfold s5_next_L0
  refine x_aload_n hx hb dX5_next_0 rfl (lv_at hl 0 rfl) ?_
  refine kzX5_5_here E hZ hU hS ⟨Nat.le_of_ble_eq_true rfl, Nat.le_of_ble_eq_true rfl⟩ hl.1 (Nat.le_of_ble_eq_true rfl) dX5_next_1 (fun o3 H locs hU hS => ?_)
  refine x_bipush (v := 32) hx hb dX5_next_4 (by decide) ?_
  refine x_icmp_eq (tgt := 18) hx hb dX5_next_6 (by decide) (fun hc => ?_) (fun hc => ?_)
  · refine x_aload_n hx hb dX5_next_18 rfl (lv_at hl 0 rfl) ?_
    refine x_dup hx hb dX5_next_19 rfl ?_
    refine fx_getI E hU.1.1.2.1 (ci := 4) rfl in_X5 5 (by decide) (hts _ q794) (fun _ h => h) dX5_next_20 (fun v4 => ?_)
    refine x_iconst (v := 1) hx hb dX5_next_23 (by decide) ?_
    refine x_iadd hx hb dX5_next_24 ?_
    refine gy_put (v := .int (v4 + (1 : Int32))) (ty0 := tyX5) E hU hS (ci := 4) rfl in_X5 tyX5_ok nmX5 5 (by decide) (hts _ q794) (fun _ h => h) (Or.inl rfl) rfl rfl dX5_next_25 (fun G5 H locs hU hS => ?_)
    refine x_goto (tgt := 0) hx hb dX5_next_28 (by decide) ?_
    exact ih2 G5 _ _ _ ⟨hU, hS, _, rfl, lv_sub hl [0] rfl⟩
  · refine x_aload_n hx hb dX5_next_9 rfl (lv_at hl 0 rfl) ?_
    refine kzX5_5_here E hZ hU hS ⟨Nat.le_of_ble_eq_true rfl, Nat.le_of_ble_eq_true rfl⟩ hl.1 (Nat.le_of_ble_eq_true rfl) dX5_next_10 (fun o6 H locs hU hS => ?_)
    refine x_bipush (v := 10) hx hb dX5_next_13 (by decide) ?_
    refine x_icmp_ne (tgt := 31) hx hb dX5_next_15 (by decide) (fun hc => ?_) (fun hc => ?_)
    · refine x_aload_n hx hb dX5_next_31 rfl (lv_at hl 0 rfl) ?_
      refine x_aload_n hx hb dX5_next_32 rfl (lv_at hl 0 rfl) ?_
      refine fx_getI E hU.1.1.2.1 (ci := 4) rfl in_X5 5 (by decide) (hts _ q794) (fun _ h => h) dX5_next_33 (fun v7 => ?_)
      refine gy_put (v := .int v7) (ty0 := tyX5) E hU hS (ci := 4) rfl in_X5 tyX5_ok nmX5 7 (by decide) (hts _ q796) (fun _ h => h) (Or.inl rfl) rfl rfl dX5_next_36 (fun G8 H locs hU hS => ?_)
      refine x_aload_n hx hb dX5_next_39 rfl (lv_at hl 0 rfl) ?_
      refine kzX5_5_here E hZ hU hS ⟨Nat.le_of_ble_eq_true rfl, Nat.le_of_ble_eq_true rfl⟩ hl.1 (Nat.le_of_ble_eq_true rfl) dX5_next_40 (fun o9 H locs hU hS => ?_)
      refine x_iconst (v := -1) hx hb dX5_next_43 (by decide) ?_
      refine x_icmp_ne (tgt := 55) hx hb dX5_next_44 (by decide) (fun hc => ?_) (fun hc => ?_)
      · refine x_aload_n hx hb dX5_next_55 rfl (lv_at hl 0 rfl) ?_
        refine kzX5_5_isLetter E hZ hU hS ⟨Nat.le_of_ble_eq_true rfl, Nat.le_of_ble_eq_true rfl⟩ hl.1 (Nat.le_of_ble_eq_true rfl) dX5_next_56 (fun o10 H locs hU hS => ?_)
        refine x_if_eq (tgt := 90) hx hb dX5_next_59 (by decide) (fun hc => ?_) (fun hc => ?_)
        · refine x_aload_n hx hb dX5_next_90 rfl (lv_at hl 0 rfl) ?_
          refine kzX5_5_isDigit E hZ hU hS ⟨Nat.le_of_ble_eq_true rfl, Nat.le_of_ble_eq_true rfl⟩ hl.1 (Nat.le_of_ble_eq_true rfl) dX5_next_91 (fun o11 H locs hU hS => ?_)
          refine x_if_eq (tgt := 154) hx hb dX5_next_94 (by decide) (fun hc => ?_) (fun hc => ?_)
          · refine x_aload_n hx hb dX5_next_154 rfl (lv_at hl 0 rfl) ?_
            refine gx_ldcS (tx := ";()+-*/<=") (z := 50) E (List.mem_of_getElem? (i := 10) rfl) dX5_next_155 ?_
            refine x_aload_n hx hb dX5_next_157 rfl (lv_at hl 0 rfl) ?_
            refine kzX5_5_here E hZ hU hS ⟨Nat.le_of_ble_eq_true rfl, Nat.le_of_ble_eq_true rfl⟩ hl.1 (Nat.le_of_ble_eq_true rfl) dX5_next_158 (fun o12 H locs hU hS => ?_)
            refine kzX5_S_indexOf E hZ hU hS ⟨Nat.le_of_ble_eq_true rfl, Nat.le_of_ble_eq_true rfl⟩ hl.1 (Nat.le_of_ble_eq_true rfl) dX5_next_161 (fun o13 H locs hU hS => ?_)
            refine x_if_lt (tgt := 171) hx hb dX5_next_164 (by decide) (fun hc => ?_) (fun hc => ?_)
            · refine x_iconst (v := 4) hx hb dX5_next_171 (by decide) ?_
              refine gy_put (v := .int (4 : Int32)) (ty0 := tyX5) E hU hS (ci := 4) rfl in_X5 tyX5_ok nmX5 6 (by decide) (hts _ q795) (fun _ h => h) (Or.inl rfl) rfl rfl dX5_next_172 (fun G14 H locs hU hS => ?_)
              refine x_aload_n hx hb dX5_next_175 rfl (lv_at hl 0 rfl) ?_
              refine x_dup hx hb dX5_next_176 rfl ?_
              refine fx_getI E hU.1.1.2.1 (ci := 4) rfl in_X5 5 (by decide) (hts _ q794) (fun _ h => h) dX5_next_177 (fun v15 => ?_)
              refine x_iconst (v := 1) hx hb dX5_next_180 (by decide) ?_
              refine x_iadd hx hb dX5_next_181 ?_
              refine gy_put (v := .int (v15 + (1 : Int32))) (ty0 := tyX5) E hU hS (ci := 4) rfl in_X5 tyX5_ok nmX5 5 (by decide) (hts _ q794) (fun _ h => h) (Or.inl rfl) rfl rfl dX5_next_182 (fun G16 H locs hU hS => ?_)
              refine x_aload_n hx hb dX5_next_185 rfl (lv_at hl 0 rfl) ?_
              refine x_aload_n hx hb dX5_next_186 rfl (lv_at hl 0 rfl) ?_
              refine fx_getI E hU.1.1.2.1 (ci := 4) rfl in_X5 5 (by decide) (hts _ q794) (fun _ h => h) dX5_next_187 (fun v17 => ?_)
              refine gy_put (v := .int v17) (ty0 := tyX5) E hU hS (ci := 4) rfl in_X5 tyX5_ok nmX5 8 (by decide) (hts _ q798) (fun _ h => h) (Or.inl rfl) rfl rfl dX5_next_190 (fun G18 H locs hU hS => ?_)
              exact y_vret hx hb hr hlk hZ hU hS rfl rfl hU.1 dX5_next_193
            · refine x_iconst (v := 3) hx hb dX5_next_167 (by decide) ?_
              refine x_goto (tgt := 172) hx hb dX5_next_168 (by decide) ?_
              refine gy_put (v := .int (3 : Int32)) (ty0 := tyX5) E hU hS (ci := 4) rfl in_X5 tyX5_ok nmX5 6 (by decide) (hts _ q795) (fun _ h => h) (Or.inl rfl) rfl rfl dX5_next_172 (fun G19 H locs hU hS => ?_)
              refine x_aload_n hx hb dX5_next_175 rfl (lv_at hl 0 rfl) ?_
              refine x_dup hx hb dX5_next_176 rfl ?_
              refine fx_getI E hU.1.1.2.1 (ci := 4) rfl in_X5 5 (by decide) (hts _ q794) (fun _ h => h) dX5_next_177 (fun v20 => ?_)
              refine x_iconst (v := 1) hx hb dX5_next_180 (by decide) ?_
              refine x_iadd hx hb dX5_next_181 ?_
              refine gy_put (v := .int (v20 + (1 : Int32))) (ty0 := tyX5) E hU hS (ci := 4) rfl in_X5 tyX5_ok nmX5 5 (by decide) (hts _ q794) (fun _ h => h) (Or.inl rfl) rfl rfl dX5_next_182 (fun G21 H locs hU hS => ?_)
              refine x_aload_n hx hb dX5_next_185 rfl (lv_at hl 0 rfl) ?_
              refine x_aload_n hx hb dX5_next_186 rfl (lv_at hl 0 rfl) ?_
              refine fx_getI E hU.1.1.2.1 (ci := 4) rfl in_X5 5 (by decide) (hts _ q794) (fun _ h => h) dX5_next_187 (fun v22 => ?_)
              refine gy_put (v := .int v22) (ty0 := tyX5) E hU hS (ci := 4) rfl in_X5 tyX5_ok nmX5 8 (by decide) (hts _ q798) (fun _ h => h) (Or.inl rfl) rfl rfl dX5_next_190 (fun G23 H locs hU hS => ?_)
              exact y_vret hx hb hr hlk hZ hU hS rfl rfl hU.1 dX5_next_193
          · refine x_aload_n hx hb dX5_next_97 rfl (lv_at hl 0 rfl) ?_
            refine x_iconst (v := 0) hx hb dX5_next_98 (by decide) ?_
            refine gy_put (v := .int (0 : Int32)) (ty0 := tyX5) E hU hS (ci := 4) rfl in_X5 tyX5_ok nmX5 9 (by decide) (hts _ q799) (fun _ h => h) (Or.inl rfl) rfl rfl dX5_next_99 (fun G24 H locs hU hS => ?_)
            refine X.loopY (I := fun (x : GS) g H locs => YW D clW ckH ct 26 ad P (mA 26 ad G0) S 0 G0 x H ∧ va_S (mA 26 ad G0) s.heap H locs ∧ ∃ ls : Array Slot, g = F0 m 102 ls [] ∧ lv_has ls 1 [(0, .ref q0)]) (cf := (fun (x : GS) => x.2.1 - G0.2.1)) (sf := (fun (x : GS) => x.2.2 - G0.2.2)) (fun rc26 ih26 => ?_) FUEL G24 _ _ _ ⟨hU, hS, _, rfl, lv_sub hl [0] rfl⟩
            rintro G25 _ H locs ⟨hU, hS, ls, rfl, hl⟩
            refine X.cs (cells2 := G25.2.1 - G0.2.1) (slots2 := G25.2.2 - G0.2.2) rfl rfl ?_
            refine X.eqs (sp2 := s5_next_L102 q0 S P ad ct rc26 G25) rfl ?_
            unfold s5_next_L102
            refine x_aload_n hx hb dX5_next_102 rfl (lv_at hl 0 rfl) ?_
            refine kzX5_5_isDigit E hZ hU hS ⟨Nat.le_of_ble_eq_true rfl, Nat.le_of_ble_eq_true rfl⟩ hl.1 (Nat.le_of_ble_eq_true rfl) dX5_next_103 (fun o27 H locs hU hS => ?_)
            refine x_if_eq (tgt := 146) hx hb dX5_next_106 (by decide) (fun hc => ?_) (fun hc => ?_)
            · refine x_aload_n hx hb dX5_next_146 rfl (lv_at hl 0 rfl) ?_
              refine x_iconst (v := 2) hx hb dX5_next_147 (by decide) ?_
              refine gy_put (v := .int (2 : Int32)) (ty0 := tyX5) E hU hS (ci := 4) rfl in_X5 tyX5_ok nmX5 6 (by decide) (hts _ q795) (fun _ h => h) (Or.inl rfl) rfl rfl dX5_next_148 (fun G28 H locs hU hS => ?_)
              refine x_goto (tgt := 185) hx hb dX5_next_151 (by decide) ?_
              refine x_aload_n hx hb dX5_next_185 rfl (lv_at hl 0 rfl) ?_
              refine x_aload_n hx hb dX5_next_186 rfl (lv_at hl 0 rfl) ?_
              refine fx_getI E hU.1.1.2.1 (ci := 4) rfl in_X5 5 (by decide) (hts _ q794) (fun _ h => h) dX5_next_187 (fun v29 => ?_)
              refine gy_put (v := .int v29) (ty0 := tyX5) E hU hS (ci := 4) rfl in_X5 tyX5_ok nmX5 8 (by decide) (hts _ q798) (fun _ h => h) (Or.inl rfl) rfl rfl dX5_next_190 (fun G30 H locs hU hS => ?_)
              exact y_vret hx hb hr hlk hZ hU hS rfl rfl hU.1 dX5_next_193
            · refine x_aload_n hx hb dX5_next_109 rfl (lv_at hl 0 rfl) ?_
              refine x_ldc hx hb hown (hts _ q851) dX5_next_110 ?_
              refine x_bipush (v := 10) hx hb dX5_next_112 (by decide) ?_
              refine x_aload_n hx hb dX5_next_114 rfl (lv_at hl 0 rfl) ?_
              refine fx_getI E hU.1.1.2.1 (ci := 4) rfl in_X5 9 (by decide) (hts _ q799) (fun _ h => h) dX5_next_115 (fun v31 => ?_)
              refine x_imul hx hb dX5_next_118 ?_
              refine x_aload_n hx hb dX5_next_119 rfl (lv_at hl 0 rfl) ?_
              refine kzX5_5_here E hZ hU hS ⟨Nat.le_of_ble_eq_true rfl, Nat.le_of_ble_eq_true rfl⟩ hl.1 (Nat.le_of_ble_eq_true rfl) dX5_next_120 (fun o32 H locs hU hS => ?_)
              refine x_iadd hx hb dX5_next_123 ?_
              refine x_bipush (v := 48) hx hb dX5_next_124 (by decide) ?_
              refine x_isub hx hb dX5_next_126 ?_
              refine kX5_min E ⟨Nat.le_of_ble_eq_true rfl, Nat.le_of_ble_eq_true rfl⟩ hl.1 (Nat.le_of_ble_eq_true rfl) dX5_next_127 (hU.room0 hZ) ?_
              refine gy_put (v := .int (if ((((10 : Int32) * v31) + o32.1) - (48 : Int32)) < (100000 : Int32) then ((((10 : Int32) * v31) + o32.1) - (48 : Int32)) else (100000 : Int32))) (ty0 := tyX5) E hU hS (ci := 4) rfl in_X5 tyX5_ok nmX5 9 (by decide) (hts _ q799) (fun _ h => h) (Or.inl rfl) rfl rfl dX5_next_130 (fun G33 H locs hU hS => ?_)
              refine x_aload_n hx hb dX5_next_133 rfl (lv_at hl 0 rfl) ?_
              refine x_dup hx hb dX5_next_134 rfl ?_
              refine fx_getI E hU.1.1.2.1 (ci := 4) rfl in_X5 5 (by decide) (hts _ q794) (fun _ h => h) dX5_next_135 (fun v34 => ?_)
              refine x_iconst (v := 1) hx hb dX5_next_138 (by decide) ?_
              refine x_iadd hx hb dX5_next_139 ?_
              refine gy_put (v := .int (v34 + (1 : Int32))) (ty0 := tyX5) E hU hS (ci := 4) rfl in_X5 tyX5_ok nmX5 5 (by decide) (hts _ q794) (fun _ h => h) (Or.inl rfl) rfl rfl dX5_next_140 (fun G35 H locs hU hS => ?_)
              refine x_goto (tgt := 102) hx hb dX5_next_143 (by decide) ?_
              exact ih26 G35 _ _ _ ⟨hU, hS, _, rfl, lv_sub hl [0] rfl⟩
        · refine X.loopY (I := fun (x : GS) g H locs => YW D clW ckH ct 26 ad P (mA 26 ad G0) S 0 G0 x H ∧ va_S (mA 26 ad G0) s.heap H locs ∧ ∃ ls : Array Slot, g = F0 m 62 ls [] ∧ lv_has ls 1 [(0, .ref q0)]) (cf := (fun (x : GS) => x.2.1 - G0.2.1)) (sf := (fun (x : GS) => x.2.2 - G0.2.2)) (fun rc37 ih37 => ?_) FUEL o10.2 _ _ _ ⟨hU, hS, _, rfl, lv_sub hl [0] rfl⟩
          rintro G36 _ H locs ⟨hU, hS, ls, rfl, hl⟩
          refine X.cs (cells2 := G36.2.1 - G0.2.1) (slots2 := G36.2.2 - G0.2.2) rfl rfl ?_
          refine X.eqs (sp2 := s5_next_L62 q0 S P ad ct rc37 G36) rfl ?_
          unfold s5_next_L62
          refine x_aload_n hx hb dX5_next_62 rfl (lv_at hl 0 rfl) ?_
          refine kzX5_5_isLetter E hZ hU hS ⟨Nat.le_of_ble_eq_true rfl, Nat.le_of_ble_eq_true rfl⟩ hl.1 (Nat.le_of_ble_eq_true rfl) dX5_next_63 (fun o38 H locs hU hS => ?_)
          refine x_if_eq (tgt := 82) hx hb dX5_next_66 (by decide) (fun hc => ?_) (fun hc => ?_)
          · refine x_aload_n hx hb dX5_next_82 rfl (lv_at hl 0 rfl) ?_
            refine x_iconst (v := 1) hx hb dX5_next_83 (by decide) ?_
            refine gy_put (v := .int (1 : Int32)) (ty0 := tyX5) E hU hS (ci := 4) rfl in_X5 tyX5_ok nmX5 6 (by decide) (hts _ q795) (fun _ h => h) (Or.inl rfl) rfl rfl dX5_next_84 (fun G39 H locs hU hS => ?_)
            refine x_goto (tgt := 185) hx hb dX5_next_87 (by decide) ?_
            refine x_aload_n hx hb dX5_next_185 rfl (lv_at hl 0 rfl) ?_
            refine x_aload_n hx hb dX5_next_186 rfl (lv_at hl 0 rfl) ?_
            refine fx_getI E hU.1.1.2.1 (ci := 4) rfl in_X5 5 (by decide) (hts _ q794) (fun _ h => h) dX5_next_187 (fun v40 => ?_)
            refine gy_put (v := .int v40) (ty0 := tyX5) E hU hS (ci := 4) rfl in_X5 tyX5_ok nmX5 8 (by decide) (hts _ q798) (fun _ h => h) (Or.inl rfl) rfl rfl dX5_next_190 (fun G41 H locs hU hS => ?_)
            exact y_vret hx hb hr hlk hZ hU hS rfl rfl hU.1 dX5_next_193
          · refine x_aload_n hx hb dX5_next_69 rfl (lv_at hl 0 rfl) ?_
            refine x_dup hx hb dX5_next_70 rfl ?_
            refine fx_getI E hU.1.1.2.1 (ci := 4) rfl in_X5 5 (by decide) (hts _ q794) (fun _ h => h) dX5_next_71 (fun v42 => ?_)
            refine x_iconst (v := 1) hx hb dX5_next_74 (by decide) ?_
            refine x_iadd hx hb dX5_next_75 ?_
            refine gy_put (v := .int (v42 + (1 : Int32))) (ty0 := tyX5) E hU hS (ci := 4) rfl in_X5 tyX5_ok nmX5 5 (by decide) (hts _ q794) (fun _ h => h) (Or.inl rfl) rfl rfl dX5_next_76 (fun G43 H locs hU hS => ?_)
            refine x_goto (tgt := 62) hx hb dX5_next_79 (by decide) ?_
            exact ih37 G43 _ _ _ ⟨hU, hS, _, rfl, lv_sub hl [0] rfl⟩
      · refine x_aload_n hx hb dX5_next_47 rfl (lv_at hl 0 rfl) ?_
        refine x_iconst (v := 0) hx hb dX5_next_48 (by decide) ?_
        refine gy_put (v := .int (0 : Int32)) (ty0 := tyX5) E hU hS (ci := 4) rfl in_X5 tyX5_ok nmX5 6 (by decide) (hts _ q795) (fun _ h => h) (Or.inl rfl) rfl rfl dX5_next_49 (fun G44 H locs hU hS => ?_)
        refine x_goto (tgt := 185) hx hb dX5_next_52 (by decide) ?_
        refine x_aload_n hx hb dX5_next_185 rfl (lv_at hl 0 rfl) ?_
        refine x_aload_n hx hb dX5_next_186 rfl (lv_at hl 0 rfl) ?_
        refine fx_getI E hU.1.1.2.1 (ci := 4) rfl in_X5 5 (by decide) (hts _ q794) (fun _ h => h) dX5_next_187 (fun v45 => ?_)
        refine gy_put (v := .int v45) (ty0 := tyX5) E hU hS (ci := 4) rfl in_X5 tyX5_ok nmX5 8 (by decide) (hts _ q798) (fun _ h => h) (Or.inl rfl) rfl rfl dX5_next_190 (fun G46 H locs hU hS => ?_)
        exact y_vret hx hb hr hlk hZ hU hS rfl rfl hU.1 dX5_next_193
    · refine x_aload_n hx hb dX5_next_18 rfl (lv_at hl 0 rfl) ?_
      refine x_dup hx hb dX5_next_19 rfl ?_
      refine fx_getI E hU.1.1.2.1 (ci := 4) rfl in_X5 5 (by decide) (hts _ q794) (fun _ h => h) dX5_next_20 (fun v47 => ?_)
      refine x_iconst (v := 1) hx hb dX5_next_23 (by decide) ?_
      refine x_iadd hx hb dX5_next_24 ?_
      refine gy_put (v := .int (v47 + (1 : Int32))) (ty0 := tyX5) E hU hS (ci := 4) rfl in_X5 tyX5_ok nmX5 5 (by decide) (hts _ q794) (fun _ h => h) (Or.inl rfl) rfl rfl dX5_next_25 (fun G48 H locs hU hS => ?_)
      refine x_goto (tgt := 0) hx hb dX5_next_28 (by decide) ?_
      exact ih2 G48 _ _ _ ⟨hU, hS, _, rfl, lv_sub hl [0] rfl⟩
section KZ
variable {ρ : Type} {p : Program} {l : Launch} {e : Env} {R : Room} {s : State} {m : MethodId} {args : Array Value} {below : List Frame} {meth : Method} {c : Code} {H : Heap} {locs : List Loc} {Qf : ρ → State → Prop}
variable {cc : ByteArray} {pc nL L M q0 : Nat} {ls : Array Slot} {rest : List Value}
variable {D : va_G} {ct : CT} {ck : Nat → UC} {N : Nat} {ad : Nat → Nat} {P : Nat → Nat → Option Nat} {A : Nat → Prop} {S : US} {w : Int64} {G0 G : GS}
theorem kzX5_5_next (E : ME p m c cc nL s args RX5 D clW ct) (hZ : YC ct R s A G0) (hY : YW D clW ckH ct 26 ad P A S 0 G0 G H) (hS : va_S A s.heap H locs) (hR : 5 + 1 ≤ R.frames ∧ 8 + (1 + 11) + 131 ≤ R.locals) (hsize : ls.size = nL) (hW : (rest.map fun v => v.category).sum ≤ 8) (hdg : decode cc pc = .ok (.invokevirtual 122, 3)) {kp : GS → Option ρ} (kk : ∀ (o : GS) (H1 : Heap) (locs1 : List Loc), YW D clW ckH ct 26 ad P A S 0 G0 o H1 → va_S A s.heap H1 locs1 → X p l e R s m args below meth c H1 locs1 (o.2.1 - G0.2.1) (o.2.2 - G0.2.2) Qf (kp o) (F0 m (pc + 3) ls (rest))) : X p l e R s m args below meth c H locs (G.2.1 - G0.2.1) (G.2.2 - G0.2.2) Qf (hC G.1 q0 4 (callK (s5_next ct ad P S G q0) kp)) (F0 m pc ls (.ref q0 :: rest)) := X.hC fun fs bw hq => gy_mx (val' := fun (o : GS) => none) (len := 3) (So := fun (o : GS) => S) (Po := fun (o : GS) => P) (Gn := fun (o : GS) => o) hZ hY hS (fun o ho => rqV (As := []) E hY.1.any (recvA E.2.1 hY.1.1.2.1 hq rfl) (by rw [hY.1.2.1]; exact mY5_next l D ct ad P S G q0 o ho) (cwV 0 E.1.2.2.2.2 (lw_V q834 q836 qs9 q124 q837) rfl rfl rfl (by decide +kernel) hR) rfl hsize rfl hW hdg (hY.room hZ)) kk
end KZ

set_option maxHeartbeats 4000000 in
theorem mY5_is (l : Launch) (D : va_G) (ct : CT) (ad : Nat → Nat) (P : Nat → Nat → Option Nat) (S : US) (G0 : GS) (q0 : Nat) (p1 : (Option Nat)) (o : (Bool × GS)) (ho : s5_is ct ad P S G0 q0 p1 = some o) : Met l yX5_is (ws_ yX5_is cX5_is 3 (some .boolean)) { frames := 5, cells := nmax ct - G0.2.1, slots := zmax ct - G0.2.2, locals := 125 } (mP D clW ct [.ref q0, va_rf p1] G0.2.1 (MW D clW ckH ct 26 ad P (fun _ => True) S 0 G0)) (yC (some (.int (bI o.1))) (MW D clW ckH ct 26 ad P (mA 26 ad G0) S 0 o.2) G0 o.2 (mA 26 ad G0)) (nmax ct - G0.2.1) (zmax ct - G0.2.2) (mA 26 ad G0) := by
  refine Y.start (val := fun (o : (Bool × GS)) => some (.int (bI o.1))) (Bt := fun (o : (Bool × GS)) => MW D clW ckH ct 26 ad P (mA 26 ad G0) S 0 o.2) (Go := fun (o : (Bool × GS)) => o.2) ho (by decide) (by rcases p1 with _ | _ <;> exact Nat.le_of_ble_eq_true rfl) (lv := [(0, .ref q0), (1, va_rf p1)]) (by rcases p1 with _ | _ <;> rfl) ?_
  intro p e s m args below meth c E hr hlk hnm hZ hU hS ls hl
  obtain ⟨⟨hx, hb, hml, hown, hts⟩, hK, hJ⟩ := id E
  unfold s5_is
  refine x_aload_n hx hb dX5_is_0 rfl (lv_at hl 0 rfl) ?_
  refine fx_getI E hU.1.1.2.1 (ci := 4) rfl in_X5 6 (by decide) (hts _ q795) (fun _ h => h) dX5_is_1 (fun v1 => ?_)
  refine x_iconst (v := 1) hx hb dX5_is_4 (by decide) ?_
  refine x_icmp_ne (tgt := 24) hx hb dX5_is_5 (by decide) (fun hc => ?_) (fun hc => ?_)
  · refine x_iconst (v := 0) hx hb dX5_is_24 (by decide) ?_
    exact y_zret hx hb hr hlk hZ hU hS rfl rfl rfl hU.1 dX5_is_25
  · refine x_aload_nO hx hb dX5_is_8 rfl (lv_at hl 1 rfl) ?_
    refine X.onR (fun b2 hb_ => ?_)
    subst hb_
    refine kzX5_S_length E hZ hU hS ⟨Nat.le_of_ble_eq_true rfl, Nat.le_of_ble_eq_true rfl⟩ hl.1 (Nat.le_of_ble_eq_true rfl) dX5_is_9 (fun o3 H locs hU hS => ?_)
    refine x_aload_n hx hb dX5_is_12 rfl (lv_at hl 0 rfl) ?_
    refine fx_getI E hU.1.1.2.1 (ci := 4) rfl in_X5 8 (by decide) (hts _ q798) (fun _ h => h) dX5_is_13 (fun v4 => ?_)
    refine x_aload_n hx hb dX5_is_16 rfl (lv_at hl 0 rfl) ?_
    refine fx_getI E hU.1.1.2.1 (ci := 4) rfl in_X5 7 (by decide) (hts _ q796) (fun _ h => h) dX5_is_17 (fun v5 => ?_)
    refine x_isub hx hb dX5_is_20 ?_
    refine x_icmp_eq (tgt := 26) hx hb dX5_is_21 (by decide) (fun hc => ?_) (fun hc => ?_)
    · refine x_iconst (v := 0) hx hb dX5_is_26 (by decide) ?_
      refine x_istore_n (lv' := [(2, .int (0 : Int32)), (0, .ref q0), (1, .ref b2)]) hx hb dX5_is_27 rfl hl (by decide) rfl (fun ls hl => ?_)
      refine X.loopY (I := fun (x : Int32) g H locs => YW D clW ckH ct 26 ad P (mA 26 ad G0) S 0 G0 G0 H ∧ va_S (mA 26 ad G0) s.heap H locs ∧ ∃ ls : Array Slot, g = F0 m 28 ls [] ∧ lv_has ls 3 [(0, .ref q0), (1, .ref b2), (2, .int x)]) (cf := (fun (x : Int32) => G0.2.1 - G0.2.1)) (sf := (fun (x : Int32) => G0.2.2 - G0.2.2)) (fun rc7 ih7 => ?_) FUEL (0 : Int32) _ _ _ ⟨hU, hS, _, rfl, lv_sub hl [1, 2, 0] rfl⟩
      rintro v6 _ H locs ⟨hU, hS, ls, rfl, hl⟩
      refine X.cs (cells2 := G0.2.1 - G0.2.1) (slots2 := G0.2.2 - G0.2.2) rfl rfl ?_
      refine X.eqs (sp2 := s5_is_L28 q0 S ad G0 ct b2 rc7 v6) rfl ?_
      unfold s5_is_L28
      refine x_iload_n hx hb dX5_is_28 rfl (lv_at hl 2 rfl) ?_
      refine x_aload_n hx hb dX5_is_29 rfl (lv_at hl 1 rfl) ?_
      refine kzX5_S_length E hZ hU hS ⟨Nat.le_of_ble_eq_true rfl, Nat.le_of_ble_eq_true rfl⟩ hl.1 (Nat.le_of_ble_eq_true rfl) dX5_is_30 (fun o8 H locs hU hS => ?_)
      refine x_icmp_ge (tgt := 70) hx hb dX5_is_33 (by decide) (fun hc => ?_) (fun hc => ?_)
      · refine x_iconst (v := 1) hx hb dX5_is_70 (by decide) ?_
        exact y_zret hx hb hr hlk hZ hU hS rfl rfl rfl hU.1 dX5_is_71
      · refine x_aload_n hx hb dX5_is_36 rfl (lv_at hl 1 rfl) ?_
        refine x_iload_n hx hb dX5_is_37 rfl (lv_at hl 2 rfl) ?_
        refine kzX5_S_charAt E hZ hU hS ⟨Nat.le_of_ble_eq_true rfl, Nat.le_of_ble_eq_true rfl⟩ hl.1 (Nat.le_of_ble_eq_true rfl) dX5_is_38 (fun o9 H locs hU hS => ?_)
        refine x_aload_n hx hb dX5_is_41 rfl (lv_at hl 0 rfl) ?_
        refine fx_getR E hU.1.1.2.1 (ci := 4) rfl in_X5 12 (by decide) (hts _ q802) (fun _ h => h) dX5_is_42 (fun r10 => ?_)
        refine X.ite (fun hs_ => ?_) (fun _ => X.none)
        subst hs_
        refine gX5_67 E hU.1.1 dX5_is_45 ?_
        refine x_aload_n hx hb dX5_is_48 rfl (lv_at hl 0 rfl) ?_
        refine fx_getI E hU.1.1.2.1 (ci := 4) rfl in_X5 7 (by decide) (hts _ q796) (fun _ h => h) dX5_is_49 (fun v11 => ?_)
        refine x_iload_n hx hb dX5_is_52 rfl (lv_at hl 2 rfl) ?_
        refine x_iadd hx hb dX5_is_53 ?_
        refine ux_bald (i := 3) (n := 700) E hU.1.1.1 (by decide) rfl dX5_is_54 ?_
        refine x_sipush (v := 255) hx hb dX5_is_55 (by decide) ?_
        refine x_iand hx hb dX5_is_58 ?_
        refine x_icmp_eq (tgt := 64) hx hb dX5_is_59 (by decide) (fun hc => ?_) (fun hc => ?_)
        · refine x_iinc (v := (v6 + (1 : Int32))) (lv' := [(2, .int (v6 + (1 : Int32))), (0, .ref q0), (1, .ref b2)]) (k := 2) hx hb dX5_is_64 hl rfl rfl (by decide) rfl (fun ls hl => ?_)
          refine x_goto (tgt := 28) hx hb dX5_is_67 (by decide) ?_
          exact ih7 (v6 + (1 : Int32)) _ _ _ ⟨hU, hS, _, rfl, lv_sub hl [1, 2, 0] rfl⟩
        · refine x_iconst (v := 0) hx hb dX5_is_62 (by decide) ?_
          exact y_zret hx hb hr hlk hZ hU hS rfl rfl rfl hU.1 dX5_is_63
    · refine x_iconst (v := 0) hx hb dX5_is_24 (by decide) ?_
      exact y_zret hx hb hr hlk hZ hU hS rfl rfl rfl hU.1 dX5_is_25
section KZ
variable {ρ : Type} {p : Program} {l : Launch} {e : Env} {R : Room} {s : State} {m : MethodId} {args : Array Value} {below : List Frame} {meth : Method} {c : Code} {H : Heap} {locs : List Loc} {Qf : ρ → State → Prop}
variable {cc : ByteArray} {pc nL L M q0 : Nat} {ls : Array Slot} {rest : List Value}
variable {D : va_G} {ct : CT} {ck : Nat → UC} {N : Nat} {ad : Nat → Nat} {P : Nat → Nat → Option Nat} {A : Nat → Prop} {S : US} {w : Int64} {G0 G : GS}
theorem kzX5_5_is {p1 : (Option Nat)} (E : ME p m c cc nL s args RX5 D clW ct) (hZ : YC ct R s A G0) (hY : YW D clW ckH ct 26 ad P A S 0 G0 G H) (hS : va_S A s.heap H locs) (hR : 5 + 1 ≤ R.frames ∧ 8 + (3 + 11) + 125 ≤ R.locals) (hsize : ls.size = nL) (hW : (rest.map fun v => v.category).sum ≤ 8) (hdg : decode cc pc = .ok (.invokevirtual 118, 3)) {kp : (Bool × GS) → Option ρ} (kk : ∀ (o : (Bool × GS)) (H1 : Heap) (locs1 : List Loc), YW D clW ckH ct 26 ad P A S 0 G0 o.2 H1 → va_S A s.heap H1 locs1 → X p l e R s m args below meth c H1 locs1 (o.2.2.1 - G0.2.1) (o.2.2.2 - G0.2.2) Qf (kp o) (F0 m (pc + 3) ls (.int (bI o.1) :: rest))) : X p l e R s m args below meth c H locs (G.2.1 - G0.2.1) (G.2.2 - G0.2.2) Qf (hC G.1 q0 4 (callK (s5_is ct ad P S G q0 p1) kp)) (F0 m pc ls (va_rf p1 :: .ref q0 :: rest)) := X.hC fun fs bw hq => gy_mx (val' := fun (o : (Bool × GS)) => some (.int (bI o.1))) (len := 3) (So := fun (o : (Bool × GS)) => S) (Po := fun (o : (Bool × GS)) => P) (Gn := fun (o : (Bool × GS)) => o.2) hZ hY hS (fun o ho => rqV (As := [va_rf p1]) E hY.1.any (recvA E.2.1 hY.1.1.2.1 hq rfl) (by rw [hY.1.2.1]; exact mY5_is l D ct ad P S G q0 p1 o ho) (cwV 1 E.1.2.2.2.2 (lw_V q931 q933 qs15 q124 q934) rfl rfl rfl (by decide +kernel) hR) rfl hsize rfl hW hdg (hY.room hZ)) kk
end KZ

set_option maxHeartbeats 4000000 in
theorem mY5_which (l : Launch) (D : va_G) (ct : CT) (ad : Nat → Nat) (P : Nat → Nat → Option Nat) (S : US) (G0 : GS) (q0 : Nat) (p1 : (Option Nat)) (o : (Int32 × GS)) (ho : s5_which ct ad P S G0 q0 p1 = some o) : Met l yX5_which (ws_ yX5_which cX5_which 3 (some .int)) { frames := 6, cells := nmax ct - G0.2.1, slots := zmax ct - G0.2.2, locals := 147 } (mP D clW ct [.ref q0, va_rf p1] G0.2.1 (MW D clW ckH ct 26 ad P (fun _ => True) S 0 G0)) (yC (some (.int o.1)) (MW D clW ckH ct 26 ad P (mA 26 ad G0) S 0 o.2) G0 o.2 (mA 26 ad G0)) (nmax ct - G0.2.1) (zmax ct - G0.2.2) (mA 26 ad G0) := by
  refine Y.start (val := fun (o : (Int32 × GS)) => some (.int o.1)) (Bt := fun (o : (Int32 × GS)) => MW D clW ckH ct 26 ad P (mA 26 ad G0) S 0 o.2) (Go := fun (o : (Int32 × GS)) => o.2) ho (by decide) (by rcases p1 with _ | _ <;> exact Nat.le_of_ble_eq_true rfl) (lv := [(0, .ref q0), (1, va_rf p1)]) (by rcases p1 with _ | _ <;> rfl) ?_
  intro p e s m args below meth c E hr hlk hnm hZ hU hS ls hl
  obtain ⟨⟨hx, hb, hml, hown, hts⟩, hK, hJ⟩ := id E
  unfold s5_which
  refine x_iconst (v := 0) hx hb dX5_which_0 (by decide) ?_
  refine x_istore_n (lv' := [(2, .int (0 : Int32)), (0, .ref q0), (1, va_rf p1)]) hx hb dX5_which_1 rfl hl (by decide) (by rcases p1 with _ | _ <;> rfl) (fun ls hl => ?_)
  refine X.loopY (I := fun (x : (GS × Int32)) g H locs => YW D clW ckH ct 26 ad P (mA 26 ad G0) S 0 G0 x.1 H ∧ va_S (mA 26 ad G0) s.heap H locs ∧ ∃ ls : Array Slot, g = F0 m 2 ls [] ∧ lv_has ls 3 [(0, .ref q0), (1, va_rf p1), (2, .int x.2)]) (cf := (fun (x : (GS × Int32)) => x.1.2.1 - G0.2.1)) (sf := (fun (x : (GS × Int32)) => x.1.2.2 - G0.2.2)) (fun rc3 ih3 => ?_) FUEL (G0, (0 : Int32)) _ _ _ ⟨hU, hS, _, rfl, lv_sub hl [1, 2, 0] rfl⟩
  rintro ⟨G1, v2⟩ _ H locs ⟨hU, hS, ls, rfl, hl⟩
  have hU : YW D clW ckH ct 26 ad P (mA 26 ad G0) S 0 G0 G1 H := hU
  have hl : lv_has ls 3 [(0, .ref q0), (1, va_rf p1), (2, .int v2)] := hl
  refine X.cs (cells2 := G1.2.1 - G0.2.1) (slots2 := G1.2.2 - G0.2.2) rfl rfl ?_
  refine X.eqs (sp2 := s5_which_L2 q0 p1 S P ad ct rc3 G1 v2) rfl ?_
  unfold s5_which_L2
  refine x_iload_n hx hb dX5_which_2 rfl (lv_at hl 2 rfl) ?_
  refine x_aload_nO hx hb dX5_which_3 rfl (lv_at hl 1 rfl) ?_
  refine X.onR (fun b4 hb_ => ?_)
  subst hb_
  refine fx_alen E hU.1.1.2.1 (t := 5) rfl dX5_which_4 (fun v5 => ?_)
  refine x_icmp_ge (tgt := 26) hx hb dX5_which_5 (by decide) (fun hc => ?_) (fun hc => ?_)
  · refine x_iconst (v := -1) hx hb dX5_which_26 (by decide) ?_
    exact y_iret hx hb hr hlk hZ hU hS rfl rfl hU.1 dX5_which_27
  · refine x_aload_n hx hb dX5_which_8 rfl (lv_at hl 0 rfl) ?_
    refine x_aload_n hx hb dX5_which_9 rfl (lv_at hl 1 rfl) ?_
    refine x_iload_n hx hb dX5_which_10 rfl (lv_at hl 2 rfl) ?_
    refine fx_aaload E hU.1.1.2.1 (t := 5) rfl dX5_which_11 (fun r6 => ?_)
    refine kzX5_5_is E hZ hU hS ⟨Nat.le_of_ble_eq_true rfl, Nat.le_of_ble_eq_true rfl⟩ hl.1 (Nat.le_of_ble_eq_true rfl) dX5_which_12 (fun o7 H locs hU hS => ?_)
    refine x_if_eq (tgt := 20) hx hb dX5_which_15 (by decide) (fun hc => ?_) (fun hc => ?_)
    · refine x_iinc (v := (v2 + (1 : Int32))) (lv' := [(2, .int (v2 + (1 : Int32))), (0, .ref q0), (1, .ref b4)]) (k := 2) hx hb dX5_which_20 hl rfl rfl (by decide) rfl (fun ls hl => ?_)
      refine x_goto (tgt := 2) hx hb dX5_which_23 (by decide) ?_
      exact ih3 (o7.2, (v2 + (1 : Int32))) _ _ _ ⟨hU, hS, _, rfl, lv_sub hl [1, 2, 0] rfl⟩
    · refine x_iload_n hx hb dX5_which_18 rfl (lv_at hl 2 rfl) ?_
      exact y_iret hx hb hr hlk hZ hU hS rfl rfl hU.1 dX5_which_19

set_option maxHeartbeats 4000000 in
theorem mY5_written (l : Launch) (D : va_G) (ct : CT) (ad : Nat → Nat) (P : Nat → Nat → Option Nat) (S : US) (G0 : GS) (q0 : Nat) (o : ((Option Nat) × GS)) (ho : s5_written ct ad P S G0 q0 = some o) : Met l yX5_written (ws_ yX5_written cX5_written 3 (some (.object "java/lang/String"))) { frames := 9, cells := nmax ct - G0.2.1, slots := zmax ct - G0.2.2, locals := 233 } (mP D clW ct [.ref q0] G0.2.1 (MW D clW ckH ct 26 ad P (fun _ => True) S 0 G0)) (yC (some (va_rf o.1)) (MW D clW ckH ct 26 ad P (mA 26 ad G0) S 0 o.2) G0 o.2 (mA 26 ad G0)) (nmax ct - G0.2.1) (zmax ct - G0.2.2) (mA 26 ad G0) := by
  refine Y.start (val := fun (o : ((Option Nat) × GS)) => some (va_rf o.1)) (Bt := fun (o : ((Option Nat) × GS)) => MW D clW ckH ct 26 ad P (mA 26 ad G0) S 0 o.2) (Go := fun (o : ((Option Nat) × GS)) => o.2) ho (by decide) (Nat.le_of_ble_eq_true rfl) (lv := [(0, .ref q0)]) rfl ?_
  intro p e s m args below meth c E hr hlk hnm hZ hU hS ls hl
  obtain ⟨⟨hx, hb, hml, hown, hts⟩, hK, hJ⟩ := id E
  replace hr : meth.sig.returnType = some (FieldType.object "java/lang/String") ∧ ((∃ n, (FieldType.object "java/lang/String") = .object n) ∨ ∃ t, (FieldType.object "java/lang/String") = .array t) := ⟨hr, Or.inl ⟨_, rfl⟩⟩
  unfold s5_written
  refine gy_new (ty := tyJ14) E hZ hU hS in_J14 tyJ14_ok (hts _ q1000) (hts _ q1001) (hts _ q133) (ci := 11) rfl (by decide) dX5_written_0 (fun q1 G2 H hU hS => ?_)
  refine x_dup hx hb dX5_written_3 rfl ?_
  refine kzX5_B_init E hZ hU hS ⟨Nat.le_of_ble_eq_true rfl, Nat.le_of_ble_eq_true rfl⟩ hl.1 (Nat.le_of_ble_eq_true rfl) dX5_written_4 (fun o3 H locs hU hS => ?_)
  refine x_astore_n (lv' := [(1, .ref q1), (0, .ref q0)]) hx hb dX5_written_7 rfl hl (by decide) rfl (fun ls hl => ?_)
  refine x_aload_n hx hb dX5_written_8 rfl (lv_at hl 1 rfl) ?_
  refine fx_getI E hU.1.1.2.1 (ci := 4) rfl in_X5 7 (by decide) (hts _ q796) (fun _ h => h) dX5_written_9 (fun v4 => ?_)
  refine x_istore_n (lv' := [(2, .int v4), (1, .ref q1), (0, .ref q0)]) hx hb dX5_written_12 rfl hl (by decide) rfl (fun ls hl => ?_)
  refine X.loopY (I := fun (x : (GS × Int32)) g H locs => YW D clW ckH ct 26 ad P (mA 26 ad G0) S 0 G0 x.1 H ∧ va_S (mA 26 ad G0) s.heap H locs ∧ ∃ ls : Array Slot, g = F0 m 13 ls [] ∧ lv_has ls 3 [(0, .ref q0), (1, .ref q1), (2, .int x.2)]) (cf := (fun (x : (GS × Int32)) => x.1.2.1 - G0.2.1)) (sf := (fun (x : (GS × Int32)) => x.1.2.2 - G0.2.2)) (fun rc7 ih7 => ?_) FUEL (o3, v4) _ _ _ ⟨hU, hS, _, rfl, lv_sub hl [2, 1, 0] rfl⟩
  rintro ⟨G5, v6⟩ _ H locs ⟨hU, hS, ls, rfl, hl⟩
  have hU : YW D clW ckH ct 26 ad P (mA 26 ad G0) S 0 G0 G5 H := hU
  have hl : lv_has ls 3 [(0, .ref q0), (1, .ref q1), (2, .int v6)] := hl
  refine X.cs (cells2 := G5.2.1 - G0.2.1) (slots2 := G5.2.2 - G0.2.2) rfl rfl ?_
  refine X.eqs (sp2 := s5_written_L13 q0 S ad ct q1 rc7 G5 v6) rfl ?_
  unfold s5_written_L13
  refine x_iload_n hx hb dX5_written_13 rfl (lv_at hl 2 rfl) ?_
  refine x_aload_n hx hb dX5_written_14 rfl (lv_at hl 0 rfl) ?_
  refine fx_getI E hU.1.1.2.1 (ci := 4) rfl in_X5 8 (by decide) (hts _ q798) (fun _ h => h) dX5_written_15 (fun v8 => ?_)
  refine x_icmp_ge (tgt := 42) hx hb dX5_written_18 (by decide) (fun hc => ?_) (fun hc => ?_)
  · refine x_aload_n hx hb dX5_written_42 rfl (lv_at hl 1 rfl) ?_
    refine kzX5_B_toString E hZ hU hS ⟨Nat.le_of_ble_eq_true rfl, Nat.le_of_ble_eq_true rfl⟩ hl.1 (Nat.le_of_ble_eq_true rfl) dX5_written_43 (fun o9 H locs hU hS => ?_)
    exact y_aret (r := o9.1) hx hb hr hlk hZ hU hS rfl rfl hU.1 dX5_written_46
  · refine x_aload_n hx hb dX5_written_21 rfl (lv_at hl 1 rfl) ?_
    refine x_aload_n hx hb dX5_written_22 rfl (lv_at hl 0 rfl) ?_
    refine fx_getR E hU.1.1.2.1 (ci := 4) rfl in_X5 12 (by decide) (hts _ q802) (fun _ h => h) dX5_written_23 (fun r10 => ?_)
    refine X.ite (fun hs_ => ?_) (fun _ => X.none)
    subst hs_
    refine gX5_67 E hU.1.1 dX5_written_26 ?_
    refine x_iload_n hx hb dX5_written_29 rfl (lv_at hl 2 rfl) ?_
    refine ux_bald (i := 3) (n := 700) E hU.1.1.1 (by decide) rfl dX5_written_30 ?_
    refine x_i2c hx hb dX5_written_31 rfl ?_
    refine kzX5_B_append E hZ hU hS ⟨Nat.le_of_ble_eq_true rfl, Nat.le_of_ble_eq_true rfl⟩ hl.1 (Nat.le_of_ble_eq_true rfl) dX5_written_32 (fun o11 H locs hU hS => ?_)
    refine x_pop hx hb dX5_written_35 (by rcases o11.1 with _ | _ <;> rfl) ?_
    refine x_iinc (v := (v6 + (1 : Int32))) (lv' := [(2, .int (v6 + (1 : Int32))), (0, .ref q0), (1, .ref q1)]) (k := 2) hx hb dX5_written_36 hl rfl rfl (by decide) rfl (fun ls hl => ?_)
    refine x_goto (tgt := 13) hx hb dX5_written_39 (by decide) ?_
    exact ih7 (o11.2, (v6 + (1 : Int32))) _ _ _ ⟨hU, hS, _, rfl, lv_sub hl [1, 2, 0] rfl⟩

set_option maxHeartbeats 4000000 in
theorem mY5_isSign (l : Launch) (D : va_G) (ct : CT) (ad : Nat → Nat) (P : Nat → Nat → Option Nat) (S : US) (G0 : GS) (q0 : Nat) (p1 : Int32) (o : (Bool × GS)) (ho : s5_isSign ct ad P S G0 q0 p1 = some o) : Met l yX5_isSign (ws_ yX5_isSign cX5_isSign 2 (some .boolean)) { frames := 1, cells := nmax ct - G0.2.1, slots := zmax ct - G0.2.2, locals := 60 } (mP D clW ct [.ref q0, .int p1] G0.2.1 (MW D clW ckH ct 26 ad P (fun _ => True) S 0 G0)) (yC (some (.int (bI o.1))) (MW D clW ckH ct 26 ad P (mA 26 ad G0) S 0 o.2) G0 o.2 (mA 26 ad G0)) (nmax ct - G0.2.1) (zmax ct - G0.2.2) (mA 26 ad G0) := by
  refine Y.start (val := fun (o : (Bool × GS)) => some (.int (bI o.1))) (Bt := fun (o : (Bool × GS)) => MW D clW ckH ct 26 ad P (mA 26 ad G0) S 0 o.2) (Go := fun (o : (Bool × GS)) => o.2) ho (by decide) (Nat.le_of_ble_eq_true rfl) (lv := [(0, .ref q0), (1, .int p1)]) rfl ?_
  intro p e s m args below meth c E hr hlk hnm hZ hU hS ls hl
  obtain ⟨⟨hx, hb, hml, hown, hts⟩, hK, hJ⟩ := id E
  unfold s5_isSign
  refine x_aload_n hx hb dX5_isSign_0 rfl (lv_at hl 0 rfl) ?_
  refine fx_getI E hU.1.1.2.1 (ci := 4) rfl in_X5 6 (by decide) (hts _ q795) (fun _ h => h) dX5_isSign_1 (fun v1 => ?_)
  refine x_iconst (v := 3) hx hb dX5_isSign_4 (by decide) ?_
  refine x_icmp_ne (tgt := 28) hx hb dX5_isSign_5 (by decide) (fun hc => ?_) (fun hc => ?_)
  · refine x_iconst (v := 0) hx hb dX5_isSign_28 (by decide) ?_
    exact y_zret hx hb hr hlk hZ hU hS rfl rfl rfl hU.1 dX5_isSign_29
  · refine x_aload_n hx hb dX5_isSign_8 rfl (lv_at hl 0 rfl) ?_
    refine fx_getR E hU.1.1.2.1 (ci := 4) rfl in_X5 12 (by decide) (hts _ q802) (fun _ h => h) dX5_isSign_9 (fun r2 => ?_)
    refine X.ite (fun hs_ => ?_) (fun _ => X.none)
    subst hs_
    refine gX5_67 E hU.1.1 dX5_isSign_12 ?_
    refine x_aload_n hx hb dX5_isSign_15 rfl (lv_at hl 0 rfl) ?_
    refine fx_getI E hU.1.1.2.1 (ci := 4) rfl in_X5 7 (by decide) (hts _ q796) (fun _ h => h) dX5_isSign_16 (fun v3 => ?_)
    refine ux_bald (i := 3) (n := 700) E hU.1.1.1 (by decide) rfl dX5_isSign_19 ?_
    refine x_iload_n hx hb dX5_isSign_20 rfl (lv_at hl 1 rfl) ?_
    refine x_icmp_ne (tgt := 28) hx hb dX5_isSign_21 (by decide) (fun hc => ?_) (fun hc => ?_)
    · refine x_iconst (v := 0) hx hb dX5_isSign_28 (by decide) ?_
      exact y_zret hx hb hr hlk hZ hU hS rfl rfl rfl hU.1 dX5_isSign_29
    · refine x_iconst (v := 1) hx hb dX5_isSign_24 (by decide) ?_
      refine x_goto (tgt := 29) hx hb dX5_isSign_25 (by decide) ?_
      exact y_zret hx hb hr hlk hZ hU hS rfl rfl rfl hU.1 dX5_isSign_29

set_option maxHeartbeats 4000000 in
theorem mY5_sign (l : Launch) (D : va_G) (ct : CT) (ad : Nat → Nat) (P : Nat → Nat → Option Nat) (S : US) (G0 : GS) (q0 : Nat) (o : (Int32 × GS)) (ho : s5_sign ct ad P S G0 q0 = some o) : Met l yX5_sign (ws_ yX5_sign cX5_sign 2 (some .char)) { frames := 6, cells := nmax ct - G0.2.1, slots := zmax ct - G0.2.2, locals := 151 } (mP D clW ct [.ref q0] G0.2.1 (MW D clW ckH ct 26 ad P (fun _ => True) S 0 G0)) (yC (some (.int o.1)) (MW D clW ckH ct 26 ad P (mA 26 ad G0) S 0 o.2) G0 o.2 (mA 26 ad G0)) (nmax ct - G0.2.1) (zmax ct - G0.2.2) (mA 26 ad G0) := by
  refine Y.start (val := fun (o : (Int32 × GS)) => some (.int o.1)) (Bt := fun (o : (Int32 × GS)) => MW D clW ckH ct 26 ad P (mA 26 ad G0) S 0 o.2) (Go := fun (o : (Int32 × GS)) => o.2) ho (by decide) (Nat.le_of_ble_eq_true rfl) (lv := [(0, .ref q0)]) rfl ?_
  intro p e s m args below meth c E hr hlk hnm hZ hU hS ls hl
  obtain ⟨⟨hx, hb, hml, hown, hts⟩, hK, hJ⟩ := id E
  unfold s5_sign
  refine x_aload_n hx hb dX5_sign_0 rfl (lv_at hl 0 rfl) ?_
  refine fx_getR E hU.1.1.2.1 (ci := 4) rfl in_X5 12 (by decide) (hts _ q802) (fun _ h => h) dX5_sign_1 (fun r1 => ?_)
  refine X.ite (fun hs_ => ?_) (fun _ => X.none)
  subst hs_
  refine gX5_67 E hU.1.1 dX5_sign_4 ?_
  refine x_aload_n hx hb dX5_sign_7 rfl (lv_at hl 0 rfl) ?_
  refine fx_getI E hU.1.1.2.1 (ci := 4) rfl in_X5 7 (by decide) (hts _ q796) (fun _ h => h) dX5_sign_8 (fun v2 => ?_)
  refine ux_bald (i := 3) (n := 700) E hU.1.1.1 (by decide) rfl dX5_sign_11 ?_
  refine x_i2c hx hb dX5_sign_12 rfl ?_
  refine x_istore_n (lv' := [(1, .int (((S (3) v2.toNatClampNeg).toUInt32 % 65536).toInt32)), (0, .ref q0)]) hx hb dX5_sign_13 rfl hl (by decide) rfl (fun ls hl => ?_)
  refine x_aload_n hx hb dX5_sign_14 rfl (lv_at hl 1 rfl) ?_
  refine kzX5_5_next E hZ hU hS ⟨Nat.le_of_ble_eq_true rfl, Nat.le_of_ble_eq_true rfl⟩ hl.1 (Nat.le_of_ble_eq_true rfl) dX5_sign_15 (fun o3 H locs hU hS => ?_)
  refine x_iload_n hx hb dX5_sign_18 rfl (lv_at hl 0 rfl) ?_
  refine X.ite (fun hz => ?_) (fun _ => X.none)
  exact y_zret hx hb hr hlk hZ hU hS (congrArg Value.int hz) rfl rfl hU.1 dX5_sign_19

set_option maxHeartbeats 4000000 in
theorem mY5_passes (l : Launch) (D : va_G) (ct : CT) (ad : Nat → Nat) (P : Nat → Nat → Option Nat) (S : US) (G0 : GS) (q0 : Nat) (p1 : (Option Nat)) (o : (Bool × GS)) (ho : s5_passes ct ad P S G0 q0 p1 = some o) : Met l yX5_passes (ws_ yX5_passes cX5_passes 3 (some .boolean)) { frames := 6, cells := nmax ct - G0.2.1, slots := zmax ct - G0.2.2, locals := 151 } (mP D clW ct [.ref q0, va_rf p1] G0.2.1 (MW D clW ckH ct 26 ad P (fun _ => True) S 0 G0)) (yC (some (.int (bI o.1))) (MW D clW ckH ct 26 ad P (mA 26 ad G0) S 0 o.2) G0 o.2 (mA 26 ad G0)) (nmax ct - G0.2.1) (zmax ct - G0.2.2) (mA 26 ad G0) := by
  refine Y.start (val := fun (o : (Bool × GS)) => some (.int (bI o.1))) (Bt := fun (o : (Bool × GS)) => MW D clW ckH ct 26 ad P (mA 26 ad G0) S 0 o.2) (Go := fun (o : (Bool × GS)) => o.2) ho (by decide) (by rcases p1 with _ | _ <;> exact Nat.le_of_ble_eq_true rfl) (lv := [(0, .ref q0), (1, va_rf p1)]) (by rcases p1 with _ | _ <;> rfl) ?_
  intro p e s m args below meth c E hr hlk hnm hZ hU hS ls hl
  obtain ⟨⟨hx, hb, hml, hown, hts⟩, hK, hJ⟩ := id E
  unfold s5_passes
  refine x_aload_n hx hb dX5_passes_0 rfl (lv_at hl 0 rfl) ?_
  refine x_aload_nO hx hb dX5_passes_1 rfl (lv_at hl 1 rfl) ?_
  refine kzX5_5_is E hZ hU hS ⟨Nat.le_of_ble_eq_true rfl, Nat.le_of_ble_eq_true rfl⟩ hl.1 (Nat.le_of_ble_eq_true rfl) dX5_passes_2 (fun o1 H locs hU hS => ?_)
  refine x_istore_n (lv' := [(2, .int (bI o1.1)), (0, .ref q0), (1, va_rf p1)]) hx hb dX5_passes_5 rfl hl (by decide) (by rcases p1 with _ | _ <;> rfl) (fun ls hl => ?_)
  refine x_iload_n hx hb dX5_passes_6 rfl (lv_at hl 0 rfl) ?_
  refine x_if_eq (tgt := 14) hx hb dX5_passes_7 (by decide) (fun hc => ?_) (fun hc => ?_)
  · refine x_iload_n hx hb dX5_passes_14 rfl (lv_at hl 0 rfl) ?_
    exact y_zret hx hb hr hlk hZ hU hS (bI_z _) rfl rfl hU.1 dX5_passes_15
  · refine x_aload_n hx hb dX5_passes_10 rfl (lv_at hl 1 rfl) ?_
    refine kzX5_5_next E hZ hU hS ⟨Nat.le_of_ble_eq_true rfl, Nat.le_of_ble_eq_true rfl⟩ hl.1 (Nat.le_of_ble_eq_true rfl) dX5_passes_11 (fun o2 H locs hU hS => ?_)
    refine x_iload_n hx hb dX5_passes_14 rfl (lv_at hl 0 rfl) ?_
    exact y_zret hx hb hr hlk hZ hU hS (bI_z _) rfl rfl hU.1 dX5_passes_15
