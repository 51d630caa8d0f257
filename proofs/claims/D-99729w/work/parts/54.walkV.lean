set_option maxRecDepth 100000
/-- the contracts of an expression, n deep at most -/
def EMet (l : Launch) (D : va_G) (ct : CT) (ad : Nat → Nat) (P : Nat → Nat → Option Nat) (S : US) (n : Nat) (G : GS) (q : Nat) (p : Int32) (o : Option Nat × GS) : Prop := Met l yX5_expression (ws_ yX5_expression cX5_expression 3 (some (.object "HorizonSeam$Form"))) { frames := 8 * n + 40, cells := nmax ct - G.2.1, slots := zmax ct - G.2.2, locals := 200 * n + 600 } (mP D clW ct [.ref q, .int p] G.2.1 (MW D clW ckH ct 26 ad P (fun _ => True) S 0 G)) (yC (some (va_rf o.1)) (MW D clW ckH ct 26 ad P (mA 26 ad G) S 0 o.2) G o.2 (mA 26 ad G)) (nmax ct - G.2.1) (zmax ct - G.2.2) (mA 26 ad G)
def EThr (l : Launch) (D : va_G) (ct : CT) (ad : Nat → Nat) (P : Nat → Nat → Option Nat) (S : US) (n : Nat) (G : GS) (q : Nat) (p : Int32) (o : Nat × GS) : Prop := vx_Met l yX5_expression (ws_ yX5_expression cX5_expression 3 (some (.object "HorizonSeam$Form"))) { frames := 8 * n + 40, cells := nmax ct - G.2.1, slots := zmax ct - G.2.2, locals := 200 * n + 600 } (mP D clW ct [.ref q, .int p] G.2.1 (MW D clW ckH ct 26 ad P (fun _ => True) S 0 G)) nQ (uX D ct ad P S G o) (nmax ct - G.2.1) (zmax ct - G.2.2) (mA 26 ad G)
section VZ
variable {ρ : Type} {p : Program} {l : Launch} {e : Env} {R : Room} {s : State} {m : MethodId} {args : Array Value} {below : List Frame} {meth : Method} {c : Code} {H : Heap} {locs : List Loc} {Qf : ρ → State → Prop}
variable {cc : ByteArray} {pc nL q0 n : Nat} {ls : Array Slot} {rest : List Value}
variable {D : va_G} {ct : CT} {ad : Nat → Nat} {P : Nat → Nat → Option Nat} {A : Nat → Prop} {S : US} {G0 G : GS} {rcE : GS → Nat → Int32 → Option (Option Nat × GS)} {rcU : GS → Nat → Int32 → Option (Nat × GS)}
theorem kzE {p1 : Int32} (hrc : ∀ (G : GS) (q : Nat) (p : Int32) (o : Option Nat × GS), rcE G q p = some o → EMet l D ct ad P S n G q p o) (E : ME p m c cc nL s args RX5 D clW ct) (hZ : YC ct R s A G0) (hY : YW D clW ckH ct 26 ad P A S 0 G0 G H) (hS : va_S A s.heap H locs) (hR : 8 * n + 40 + 1 ≤ R.frames ∧ 8 + (3 + 11) + (200 * n + 600) ≤ R.locals) (hsize : ls.size = nL) (hW : (rest.map fun v => v.category).sum ≤ 8) (hdg : decode cc pc = .ok (.invokevirtual 146, 3)) {kp : (Option Nat × GS) → Option ρ} (kk : ∀ (o : Option Nat × GS) (H1 : Heap) (locs1 : List Loc), YW D clW ckH ct 26 ad P A S 0 G0 o.2 H1 → va_S A s.heap H1 locs1 → X p l e R s m args below meth c H1 locs1 (o.2.2.1 - G0.2.1) (o.2.2.2 - G0.2.2) Qf (kp o) (F0 m (pc + 3) ls (va_rf o.1 :: rest))) : X p l e R s m args below meth c H locs (G.2.1 - G0.2.1) (G.2.2 - G0.2.2) Qf (hC G.1 q0 4 (callK (rcE G q0 p1) kp)) (F0 m pc ls (.int p1 :: .ref q0 :: rest)) := X.hC fun fs bw hq => gy_mx (val' := fun (o : Option Nat × GS) => some (va_rf o.1)) (len := 3) (So := fun (o : Option Nat × GS) => S) (Po := fun (o : Option Nat × GS) => P) (Gn := fun (o : Option Nat × GS) => o.2) hZ hY hS (fun o ho => rqV (As := [.int p1]) E hY.1.any (recvA E.2.1 hY.1.1.2.1 hq rfl) (by rw [hY.1.2.1]; exact hrc G q0 p1 o ho) (cwV 1 E.1.2.2.2.2 (lw_V q1234 q1236 qs22 q124 q1237) rfl rfl rfl (by decide +kernel) hR) rfl hsize rfl hW hdg (hY.room hZ)) kk
theorem uzE {p1 : Int32} (hrcU : ∀ (G : GS) (q : Nat) (p : Int32) (o : Nat × GS), rcU G q p = some o → EThr l D ct ad P S n G q p o) (E : ME p m c cc nL s args RX5 D clW ct) (hZ : YC ct R s (mA 26 ad G0) G0) (hY : YW D clW ckH ct 26 ad P (mA 26 ad G0) S 0 G0 G H) (hS : va_S (mA 26 ad G0) s.heap H locs) (hxt : ∀ x ∈ c.exceptionTable.toList, False) (hlk : meth.locks = false) (hR : 8 * n + 40 + 1 ≤ R.frames ∧ 8 + (3 + 11) + (200 * n + 600) ≤ R.locals) (hsize : ls.size = nL) (hW : (rest.map fun v => v.category).sum ≤ 8) (hdg : decode cc pc = .ok (.invokevirtual 146, 3)) : X p l e R s m args below meth c H locs (G.2.1 - G0.2.1) (G.2.2 - G0.2.2) (uQ below args s D ct ad P S G0) (hC G.1 q0 4 (rcU G q0 p1)) (F0 m pc ls (.int p1 :: .ref q0 :: rest)) := X.hC fun fs bw hq => uy_end hZ hY hS hxt hlk (fun o ho => rtV (As := [.int p1]) E hY.1.any (recvA E.2.1 hY.1.1.2.1 hq rfl) (by rw [hY.1.2.1]; exact hrcU G q0 p1 o ho) (cwV 1 E.1.2.2.2.2 (lw_V q1234 q1236 qs22 q124 q1237) rfl rfl rfl (by decide +kernel) hR) rfl hsize rfl hW hdg (hY.room hZ))
end VZ

section KZ
variable {ρ : Type} {p : Program} {l : Launch} {e : Env} {R : Room} {s : State} {m : MethodId} {args : Array Value} {below : List Frame} {meth : Method} {c : Code} {H : Heap} {locs : List Loc} {Qf : ρ → State → Prop}
variable {cc : ByteArray} {pc nL L M q0 : Nat} {ls : Array Slot} {rest : List Value}
variable {D : va_G} {ct : CT} {ck : Nat → UC} {N : Nat} {ad : Nat → Nat} {P : Nat → Nat → Option Nat} {A : Nat → Prop} {S : US} {w : Int64} {G0 G : GS}
theorem kzX5_6_init {p1 : Int32} (E : ME p m c cc nL s args RX5 D clW ct) (hZ : YC ct R s A G0) (hY : YW D clW ck ct N ad P A S w G0 G H) (hS : va_S A s.heap H locs) (hR : 3 + 1 ≤ R.frames ∧ 8 + (2 + 11) + 108 ≤ R.locals) (hsize : ls.size = nL) (hW : (rest.map fun v => v.category).sum ≤ 8) (hdg : decode cc pc = .ok (.invokespecial 127, 3)) {kp : GS → Option ρ} (kk : ∀ (o : GS) (H1 : Heap) (locs1 : List Loc), YW D clW ck ct N ad P A S w G0 o H1 → va_S A s.heap H1 locs1 → X p l e R s m args below meth c H1 locs1 (o.2.1 - G0.2.1) (o.2.2 - G0.2.2) Qf (kp o) (F0 m (pc + 3) ls (rest))) : X p l e R s m args below meth c H locs (G.2.1 - G0.2.1) (G.2.2 - G0.2.2) Qf (callK (s6_init ct G q0 p1) kp) (F0 m pc ls (.int p1 :: .ref q0 :: rest)) := gy_mx (val' := fun (o : GS) => none) (len := 3) (So := fun (o : GS) => S) (Po := fun (o : GS) => P) (Gn := fun (o : GS) => o) hZ hY hS (fun o ho => rqI (As := [.int p1]) E hY.1.any (by rw [hY.1.2.1]; exact mY6_init l D ct ck N ad P S w G q0 p1 o ho) ⟨callB_of 1 E.1.2.2.2.2 (lw_meth q973) rfl rfl rfl (E.1.2.2.2.2 _ q131) (E.1.2.2.2.2 _ q971) (by decide +kernel) hR, rfl, E.1.2.2.2.2 _ q972⟩ rfl hsize rfl hW hdg (hY.room hZ)) kk
theorem kzX5_8_init {p1 : Int32} (E : ME p m c cc nL s args RX5 D clW ct) (hZ : YC ct R s A G0) (hY : YW D clW ck ct N ad P A S w G0 G H) (hS : va_S A s.heap H locs) (hR : 1 + 1 ≤ R.frames ∧ 8 + (2 + 11) + 60 ≤ R.locals) (hsize : ls.size = nL) (hW : (rest.map fun v => v.category).sum ≤ 8) (hdg : decode cc pc = .ok (.invokespecial 141, 3)) {kp : GS → Option ρ} (kk : ∀ (o : GS) (H1 : Heap) (locs1 : List Loc), YW D clW ck ct N ad P A S w G0 o H1 → va_S A s.heap H1 locs1 → X p l e R s m args below meth c H1 locs1 (o.2.1 - G0.2.1) (o.2.2 - G0.2.2) Qf (kp o) (F0 m (pc + 3) ls (rest))) : X p l e R s m args below meth c H locs (G.2.1 - G0.2.1) (G.2.2 - G0.2.2) Qf (callK (s8_init ct G q0 p1) kp) (F0 m pc ls (.int p1 :: .ref q0 :: rest)) := gy_mx (val' := fun (o : GS) => none) (len := 3) (So := fun (o : GS) => S) (Po := fun (o : GS) => P) (Gn := fun (o : GS) => o) hZ hY hS (fun o ho => rqI (As := [.int p1]) E hY.1.any (by rw [hY.1.2.1]; exact mY8_init l D ct ck N ad P S w G q0 p1 o ho) ⟨callB_of 1 E.1.2.2.2.2 (lw_meth q1269) rfl rfl rfl (E.1.2.2.2.2 _ q141) (E.1.2.2.2.2 _ q1267) (by decide +kernel) hR, rfl, E.1.2.2.2.2 _ q1268⟩ rfl hsize rfl hW hdg (hY.room hZ)) kk
theorem kzX5_5_isSign {p1 : Int32} (E : ME p m c cc nL s args RX5 D clW ct) (hZ : YC ct R s A G0) (hY : YW D clW ckH ct 26 ad P A S 0 G0 G H) (hS : va_S A s.heap H locs) (hR : 1 + 1 ≤ R.frames ∧ 8 + (2 + 11) + 60 ≤ R.locals) (hsize : ls.size = nL) (hW : (rest.map fun v => v.category).sum ≤ 8) (hdg : decode cc pc = .ok (.invokevirtual 142, 3)) {kp : (Bool × GS) → Option ρ} (kk : ∀ (o : (Bool × GS)) (H1 : Heap) (locs1 : List Loc), YW D clW ckH ct 26 ad P A S 0 G0 o.2 H1 → va_S A s.heap H1 locs1 → X p l e R s m args below meth c H1 locs1 (o.2.2.1 - G0.2.1) (o.2.2.2 - G0.2.2) Qf (kp o) (F0 m (pc + 3) ls (.int (bI o.1) :: rest))) : X p l e R s m args below meth c H locs (G.2.1 - G0.2.1) (G.2.2 - G0.2.2) Qf (hC G.1 q0 4 (callK (s5_isSign ct ad P S G q0 p1) kp)) (F0 m pc ls (.int p1 :: .ref q0 :: rest)) := X.hC fun fs bw hq => gy_mx (val' := fun (o : (Bool × GS)) => some (.int (bI o.1))) (len := 3) (So := fun (o : (Bool × GS)) => S) (Po := fun (o : (Bool × GS)) => P) (Gn := fun (o : (Bool × GS)) => o.2) hZ hY hS (fun o ho => rqV (As := [.int p1]) E hY.1.any (recvA E.2.1 hY.1.1.2.1 hq rfl) (by rw [hY.1.2.1]; exact mY5_isSign l D ct ad P S G q0 p1 o ho) (cwV 1 E.1.2.2.2.2 (lw_V q1238 q1240 qs23 q124 q1241) rfl rfl rfl (by decide +kernel) hR) rfl hsize rfl hW hdg (hY.room hZ)) kk
theorem kzX5_5_which {p1 : (Option Nat)} (E : ME p m c cc nL s args RX5 D clW ct) (hZ : YC ct R s A G0) (hY : YW D clW ckH ct 26 ad P A S 0 G0 G H) (hS : va_S A s.heap H locs) (hR : 6 + 1 ≤ R.frames ∧ 8 + (3 + 11) + 147 ≤ R.locals) (hsize : ls.size = nL) (hW : (rest.map fun v => v.category).sum ≤ 8) (hdg : decode cc pc = .ok (.invokevirtual 150, 3)) {kp : (Int32 × GS) → Option ρ} (kk : ∀ (o : (Int32 × GS)) (H1 : Heap) (locs1 : List Loc), YW D clW ckH ct 26 ad P A S 0 G0 o.2 H1 → va_S A s.heap H1 locs1 → X p l e R s m args below meth c H1 locs1 (o.2.2.1 - G0.2.1) (o.2.2.2 - G0.2.2) Qf (kp o) (F0 m (pc + 3) ls (.int o.1 :: rest))) : X p l e R s m args below meth c H locs (G.2.1 - G0.2.1) (G.2.2 - G0.2.2) Qf (hC G.1 q0 4 (callK (s5_which ct ad P S G q0 p1) kp)) (F0 m pc ls (va_rf p1 :: .ref q0 :: rest)) := X.hC fun fs bw hq => gy_mx (val' := fun (o : (Int32 × GS)) => some (.int o.1)) (len := 3) (So := fun (o : (Int32 × GS)) => S) (Po := fun (o : (Int32 × GS)) => P) (Gn := fun (o : (Int32 × GS)) => o.2) hZ hY hS (fun o ho => rqV (As := [va_rf p1]) E hY.1.any (recvA E.2.1 hY.1.1.2.1 hq rfl) (by rw [hY.1.2.1]; exact mY5_which l D ct ad P S G q0 p1 o ho) (cwV 1 E.1.2.2.2.2 (lw_V q927 q929 qs14 q124 q930) rfl rfl rfl (by decide +kernel) hR) rfl hsize rfl hW hdg (hY.room hZ)) kk
theorem kzX5_9_init {p1 : Int32} (E : ME p m c cc nL s args RX5 D clW ct) (hZ : YC ct R s A G0) (hY : YW D clW ck ct N ad P A S w G0 G H) (hS : va_S A s.heap H locs) (hR : 1 + 1 ≤ R.frames ∧ 8 + (2 + 11) + 60 ≤ R.locals) (hsize : ls.size = nL) (hW : (rest.map fun v => v.category).sum ≤ 8) (hdg : decode cc pc = .ok (.invokespecial 156, 3)) {kp : GS → Option ρ} (kk : ∀ (o : GS) (H1 : Heap) (locs1 : List Loc), YW D clW ck ct N ad P A S w G0 o H1 → va_S A s.heap H1 locs1 → X p l e R s m args below meth c H1 locs1 (o.2.1 - G0.2.1) (o.2.2 - G0.2.2) Qf (kp o) (F0 m (pc + 3) ls (rest))) : X p l e R s m args below meth c H locs (G.2.1 - G0.2.1) (G.2.2 - G0.2.2) Qf (callK (s9_init ct G q0 p1) kp) (F0 m pc ls (.int p1 :: .ref q0 :: rest)) := gy_mx (val' := fun (o : GS) => none) (len := 3) (So := fun (o : GS) => S) (Po := fun (o : GS) => P) (Gn := fun (o : GS) => o) hZ hY hS (fun o ho => rqI (As := [.int p1]) E hY.1.any (by rw [hY.1.2.1]; exact mY9_init l D ct ck N ad P S w G q0 p1 o ho) ⟨callB_of 1 E.1.2.2.2.2 (lw_meth q1279) rfl rfl rfl (E.1.2.2.2.2 _ q142) (E.1.2.2.2.2 _ q1277) (by decide +kernel) hR, rfl, E.1.2.2.2.2 _ q1278⟩ rfl hsize rfl hW hdg (hY.room hZ)) kk
theorem kzX5_7_init {p1 : (Option Nat)} (E : ME p m c cc nL s args RX5 D clW ct) (hZ : YC ct R s A G0) (hY : YW D clW ck ct N ad P A S w G0 G H) (hS : va_S A s.heap H locs) (hR : 7 + 1 ≤ R.frames ∧ 8 + (2 + 11) + 191 ≤ R.locals) (hsize : ls.size = nL) (hW : (rest.map fun v => v.category).sum ≤ 8) (hdg : decode cc pc = .ok (.invokespecial 162, 3)) {kp : GS → Option ρ} (kk : ∀ (o : GS) (H1 : Heap) (locs1 : List Loc), YW D clW ck ct N ad P A S w G0 o H1 → va_S A s.heap H1 locs1 → X p l e R s m args below meth c H1 locs1 (o.2.1 - G0.2.1) (o.2.2 - G0.2.2) Qf (kp o) (F0 m (pc + 3) ls (rest))) : X p l e R s m args below meth c H locs (G.2.1 - G0.2.1) (G.2.2 - G0.2.2) Qf (callK (s7_init ct G q0 p1) kp) (F0 m pc ls (va_rf p1 :: .ref q0 :: rest)) := gy_mx (val' := fun (o : GS) => none) (len := 3) (So := fun (o : GS) => S) (Po := fun (o : GS) => P) (Gn := fun (o : GS) => o) hZ hY hS (fun o ho => rqI (As := [va_rf p1]) E hY.1.any (by rw [hY.1.2.1]; exact mY7_init l D ct ck N ad P S w G q0 p1 o ho) ⟨callB_of 1 E.1.2.2.2.2 (lw_meth q1287) rfl rfl rfl (E.1.2.2.2.2 _ q140) (E.1.2.2.2.2 _ q1285) (by decide +kernel) hR, rfl, E.1.2.2.2.2 _ q1286⟩ rfl hsize rfl hW hdg (hY.room hZ)) kk
theorem kzX5_5_sign (E : ME p m c cc nL s args RX5 D clW ct) (hZ : YC ct R s A G0) (hY : YW D clW ckH ct 26 ad P A S 0 G0 G H) (hS : va_S A s.heap H locs) (hR : 6 + 1 ≤ R.frames ∧ 8 + (2 + 11) + 151 ≤ R.locals) (hsize : ls.size = nL) (hW : (rest.map fun v => v.category).sum ≤ 8) (hdg : decode cc pc = .ok (.invokevirtual 165, 3)) {kp : (Int32 × GS) → Option ρ} (kk : ∀ (o : (Int32 × GS)) (H1 : Heap) (locs1 : List Loc), YW D clW ckH ct 26 ad P A S 0 G0 o.2 H1 → va_S A s.heap H1 locs1 → X p l e R s m args below meth c H1 locs1 (o.2.2.1 - G0.2.1) (o.2.2.2 - G0.2.2) Qf (kp o) (F0 m (pc + 3) ls (.int o.1 :: rest))) : X p l e R s m args below meth c H locs (G.2.1 - G0.2.1) (G.2.2 - G0.2.2) Qf (hC G.1 q0 4 (callK (s5_sign ct ad P S G q0) kp)) (F0 m pc ls (.ref q0 :: rest)) := X.hC fun fs bw hq => gy_mx (val' := fun (o : (Int32 × GS)) => some (.int o.1)) (len := 3) (So := fun (o : (Int32 × GS)) => S) (Po := fun (o : (Int32 × GS)) => P) (Gn := fun (o : (Int32 × GS)) => o.2) hZ hY hS (fun o ho => rqV (As := []) E hY.1.any (recvA E.2.1 hY.1.1.2.1 hq rfl) (by rw [hY.1.2.1]; exact mY5_sign l D ct ad P S G q0 o ho) (cwV 0 E.1.2.2.2.2 (lw_V q1302 q1304 qs29 q124 q1305) rfl rfl rfl (by decide +kernel) hR) rfl hsize rfl hW hdg (hY.room hZ)) kk
theorem kzX5_7_add {p1 : Int32} {p2 : (Option Nat)} (E : ME p m c cc nL s args RX5 D clW ct) (hZ : YC ct R s A G0) (hY : YW D clW ck ct N ad P A S w G0 G H) (hS : va_S A s.heap H locs) (hR : 7 + 1 ≤ R.frames ∧ 8 + (3 + 11) + 191 ≤ R.locals) (hsize : ls.size = nL) (hW : (rest.map fun v => v.category).sum ≤ 8) (hdg : decode cc pc = .ok (.invokevirtual 169, 3)) {kp : GS → Option ρ} (kk : ∀ (o : GS) (H1 : Heap) (locs1 : List Loc), YW D clW ck ct N ad P A S w G0 o H1 → va_S A s.heap H1 locs1 → X p l e R s m args below meth c H1 locs1 (o.2.1 - G0.2.1) (o.2.2 - G0.2.2) Qf (kp o) (F0 m (pc + 3) ls (rest))) : X p l e R s m args below meth c H locs (G.2.1 - G0.2.1) (G.2.2 - G0.2.2) Qf (hC G.1 q0 6 (callK (s7_add ct G q0 p1 p2) kp)) (F0 m pc ls (va_rf p2 :: .int p1 :: .ref q0 :: rest)) := X.hC fun fs bw hq => gy_mx (val' := fun (o : GS) => none) (len := 3) (So := fun (o : GS) => S) (Po := fun (o : GS) => P) (Gn := fun (o : GS) => o) hZ hY hS (fun o ho => rqV (As := [.int p1, va_rf p2]) E hY.1.any (recvA E.2.1 hY.1.1.2.1 hq rfl) (by rw [hY.1.2.1]; exact mY7_add l D ct ck N ad P S w G q0 p1 p2 o ho) (cwV 2 E.1.2.2.2.2 (lw_V q1306 q1307 q1308 q140 q1309) rfl rfl rfl (by decide +kernel) hR) rfl hsize rfl hW hdg (hY.room hZ)) kk
theorem kzX5_7_plain (E : ME p m c cc nL s args RX5 D clW ct) (hZ : YC ct R s A G0) (hY : YW D clW ck ct N ad P A S w G0 G H) (hS : va_S A s.heap H locs) (hR : 4 + 1 ≤ R.frames ∧ 8 + (1 + 11) + 104 ≤ R.locals) (hsize : ls.size = nL) (hW : (rest.map fun v => v.category).sum ≤ 8) (hdg : decode cc pc = .ok (.invokevirtual 173, 3)) {kp : ((Option Nat) × GS) → Option ρ} (kk : ∀ (o : ((Option Nat) × GS)) (H1 : Heap) (locs1 : List Loc), YW D clW ck ct N ad P A S w G0 o.2 H1 → va_S A s.heap H1 locs1 → X p l e R s m args below meth c H1 locs1 (o.2.2.1 - G0.2.1) (o.2.2.2 - G0.2.2) Qf (kp o) (F0 m (pc + 3) ls (va_rf o.1 :: rest))) : X p l e R s m args below meth c H locs (G.2.1 - G0.2.1) (G.2.2 - G0.2.2) Qf (hC G.1 q0 6 (callK (s7_plain ct G q0) kp)) (F0 m pc ls (.ref q0 :: rest)) := X.hC fun fs bw hq => gy_mx (val' := fun (o : ((Option Nat) × GS)) => some (va_rf o.1)) (len := 3) (So := fun (o : ((Option Nat) × GS)) => S) (Po := fun (o : ((Option Nat) × GS)) => P) (Gn := fun (o : ((Option Nat) × GS)) => o.2) hZ hY hS (fun o ho => rqV (As := []) E hY.1.any (recvA E.2.1 hY.1.1.2.1 hq rfl) (by rw [hY.1.2.1]; exact mY7_plain l D ct ck N ad P S w G q0 o ho) (cwV 0 E.1.2.2.2.2 (lw_V q1311 q1312 q1313 q140 q1314) rfl rfl rfl (by decide +kernel) hR) rfl hsize rfl hW hdg (hY.room hZ)) kk
theorem kzX5_10_init {p1 : (Option Nat)} (E : ME p m c cc nL s args RX5 D clW ct) (hZ : YC ct R s A G0) (hY : YW D clW ck ct N ad P A S w G0 G H) (hS : va_S A s.heap H locs) (hR : 1 + 1 ≤ R.frames ∧ 8 + (2 + 11) + 60 ≤ R.locals) (hsize : ls.size = nL) (hW : (rest.map fun v => v.category).sum ≤ 8) (hdg : decode cc pc = .ok (.invokespecial 187, 3)) {kp : GS → Option ρ} (kk : ∀ (o : GS) (H1 : Heap) (locs1 : List Loc), YW D clW ck ct N ad P A S w G0 o H1 → va_S A s.heap H1 locs1 → X p l e R s m args below meth c H1 locs1 (o.2.1 - G0.2.1) (o.2.2 - G0.2.2) Qf (kp o) (F0 m (pc + 3) ls (rest))) : X p l e R s m args below meth c H locs (G.2.1 - G0.2.1) (G.2.2 - G0.2.2) Qf (callK (s10_init ct G q0 p1) kp) (F0 m pc ls (va_rf p1 :: .ref q0 :: rest)) := gy_mx (val' := fun (o : GS) => none) (len := 3) (So := fun (o : GS) => S) (Po := fun (o : GS) => P) (Gn := fun (o : GS) => o) hZ hY hS (fun o ho => rqI (As := [va_rf p1]) E hY.1.any (by rw [hY.1.2.1]; exact mY10_init l D ct ck N ad P S w G q0 p1 o ho) ⟨callB_of 1 E.1.2.2.2.2 (lw_meth q1319) rfl rfl rfl (E.1.2.2.2.2 _ q143) (E.1.2.2.2.2 _ q1317) (by decide +kernel) hR, rfl, E.1.2.2.2.2 _ q1318⟩ rfl hsize rfl hW hdg (hY.room hZ)) kk
theorem kzX5_5_passes {p1 : (Option Nat)} (E : ME p m c cc nL s args RX5 D clW ct) (hZ : YC ct R s A G0) (hY : YW D clW ckH ct 26 ad P A S 0 G0 G H) (hS : va_S A s.heap H locs) (hR : 6 + 1 ≤ R.frames ∧ 8 + (3 + 11) + 151 ≤ R.locals) (hsize : ls.size = nL) (hW : (rest.map fun v => v.category).sum ≤ 8) (hdg : decode cc pc = .ok (.invokevirtual 192, 3)) {kp : (Bool × GS) → Option ρ} (kk : ∀ (o : (Bool × GS)) (H1 : Heap) (locs1 : List Loc), YW D clW ckH ct 26 ad P A S 0 G0 o.2 H1 → va_S A s.heap H1 locs1 → X p l e R s m args below meth c H1 locs1 (o.2.2.1 - G0.2.1) (o.2.2.2 - G0.2.2) Qf (kp o) (F0 m (pc + 3) ls (.int (bI o.1) :: rest))) : X p l e R s m args below meth c H locs (G.2.1 - G0.2.1) (G.2.2 - G0.2.2) Qf (hC G.1 q0 4 (callK (s5_passes ct ad P S G q0 p1) kp)) (F0 m pc ls (va_rf p1 :: .ref q0 :: rest)) := X.hC fun fs bw hq => gy_mx (val' := fun (o : (Bool × GS)) => some (.int (bI o.1))) (len := 3) (So := fun (o : (Bool × GS)) => S) (Po := fun (o : (Bool × GS)) => P) (Gn := fun (o : (Bool × GS)) => o.2) hZ hY hS (fun o ho => rqV (As := [va_rf p1]) E hY.1.any (recvA E.2.1 hY.1.1.2.1 hq rfl) (by rw [hY.1.2.1]; exact mY5_passes l D ct ad P S G q0 p1 o ho) (cwV 1 E.1.2.2.2.2 (lw_V q1326 q1328 qs30 q124 q1329) rfl rfl rfl (by decide +kernel) hR) rfl hsize rfl hW hdg (hY.room hZ)) kk
theorem kzX5_2_women (E : ME p m c cc nL s args RX5 D clW ct) (hZ : YC ct R s A G0) (hY : YW D clW ckH ct 26 ad P A S 0 G0 G H) (hS : va_S A s.heap H locs) (hR : 2 + 1 ≤ R.frames ∧ 8 + (1 + 11) + 60 ≤ R.locals) (hsize : ls.size = nL) (hW : (rest.map fun v => v.category).sum ≤ 8) (hdg : decode cc pc = .ok (.invokevirtual 209, 3)) {kp : Int32 → Option ρ} (kk : ∀ (o : Int32) (H1 : Heap) (locs1 : List Loc), YW D clW ckH ct 26 ad P A S 0 G0 G H1 → va_S A s.heap H1 locs1 → X p l e R s m args below meth c H1 locs1 (G.2.1 - G0.2.1) (G.2.2 - G0.2.2) Qf (kp o) (F0 m (pc + 3) ls (.int o :: rest))) : X p l e R s m args below meth c H locs (G.2.1 - G0.2.1) (G.2.2 - G0.2.2) Qf (callK (s2_women S P G.1) kp) (F0 m pc ls (.ref (ad (1)) :: rest)) := gy_ro (val' := fun (o : Int32) => some (.int o)) (len := 3) hZ hY hS (fun o ho => rqV (As := []) E (hY.1.1.to fun _ _ => trivial) (recvU (i := 1) E.2.1 hY.1.1.1 (by decide) rfl rfl) (mH2_women l D ct ad P S G.1 _ o ho) (cwV 0 E.1.2.2.2.2 (lw_V q1341 q485 q486 q114 q487) rfl rfl rfl (by decide +kernel) hR) rfl hsize rfl hW hdg (hY.room0 hZ)) kk
theorem kzX5_2_womenF (E : ME p m c cc nL s args RX5 D clW ct) (hZ : YC ct R s A G0) (hY : YW D clW ck ct N ad P A S w G0 G H) (hS : va_S A s.heap H locs) (hR : 2 + 1 ≤ R.frames ∧ 8 + (1 + 11) + 60 ≤ R.locals) (hsize : ls.size = nL) (hW : (rest.map fun v => v.category).sum ≤ 8) (hdg : decode cc pc = .ok (.invokevirtual 209, 3)) {kp : (Int32 × GS) → Option ρ} (kk : ∀ (o : (Int32 × GS)) (H1 : Heap) (locs1 : List Loc), YW D clW ck ct N ad P A S w G0 o.2 H1 → va_S A s.heap H1 locs1 → X p l e R s m args below meth c H1 locs1 (o.2.2.1 - G0.2.1) (o.2.2.2 - G0.2.2) Qf (kp o) (F0 m (pc + 3) ls (.int o.1 :: rest))) : X p l e R s m args below meth c H locs (G.2.1 - G0.2.1) (G.2.2 - G0.2.2) Qf (hC G.1 q0 2 (callK (s2_womenF ct G q0) kp)) (F0 m pc ls (.ref q0 :: rest)) := X.hC fun fs bw hq => gy_mx (val' := fun (o : (Int32 × GS)) => some (.int o.1)) (len := 3) (So := fun (o : (Int32 × GS)) => S) (Po := fun (o : (Int32 × GS)) => P) (Gn := fun (o : (Int32 × GS)) => o.2) hZ hY hS (fun o ho => rqV (As := []) E hY.1.any (recvA E.2.1 hY.1.1.2.1 hq rfl) (by rw [hY.1.2.1]; exact mY2_womenF l D ct ck N ad P S w G q0 o ho) (cwV 0 E.1.2.2.2.2 (lw_V q1341 q485 q486 q114 q487) rfl rfl rfl (by decide +kernel) hR) rfl hsize rfl hW hdg (hY.room hZ)) kk
theorem kzX5_N_valueOf {p1 : Int32} (E : ME p m c cc nL s args RX5 D clW ct) (hZ : YC ct R s A G0) (hY : YW D clW ck ct N ad P A S w G0 G H) (hS : va_S A s.heap H locs) (hR : 3 + 1 ≤ R.frames ∧ 8 + (1 + 11) + 101 ≤ R.locals) (hsize : ls.size = nL) (hW : (rest.map fun v => v.category).sum ≤ 8) (hdg : decode cc pc = .ok (.invokestatic 220, 3)) {kp : ((Option Nat) × GS) → Option ρ} (kk : ∀ (o : ((Option Nat) × GS)) (H1 : Heap) (locs1 : List Loc), YW D clW ck ct N ad P A S w G0 o.2 H1 → va_S A s.heap H1 locs1 → X p l e R s m args below meth c H1 locs1 (o.2.2.1 - G0.2.1) (o.2.2.2 - G0.2.2) Qf (kp o) (F0 m (pc + 3) ls (va_rf o.1 :: rest))) : X p l e R s m args below meth c H locs (G.2.1 - G0.2.1) (G.2.2 - G0.2.2) Qf (callK (sN_valueOf ct G p1) kp) (F0 m pc ls (.int p1 :: rest)) := gy_mx (val' := fun (o : ((Option Nat) × GS)) => some (va_rf o.1)) (len := 3) (So := fun (o : ((Option Nat) × GS)) => S) (Po := fun (o : ((Option Nat) × GS)) => P) (Gn := fun (o : ((Option Nat) × GS)) => o.2) hZ hY hS (fun o ho => rqS (As := [.int p1]) E hY.1.any (by rw [hY.1.2.1]; exact mYN_valueOf l D ct ck N ad P S w G p1 o ho) (va_cwS 1 E.1.2.2.2.2 (lw_S q1342 q1343 q138 q1344) rfl rfl rfl (by decide +kernel) hR) rfl hsize rfl hW hdg (hY.room hZ)) kk
theorem kzX5_L_add {p1 : (Option Nat)} (E : ME p m c cc nL s args RX5 D clW ct) (hZ : YC ct R s A G0) (hY : YW D clW ck ct N ad P A S w G0 G H) (hS : va_S A s.heap H locs) (hR : 6 + 1 ≤ R.frames ∧ 8 + (2 + 11) + 170 ≤ R.locals) (hsize : ls.size = nL) (hW : (rest.map fun v => v.category).sum ≤ 8) (hdg : decode cc pc = .ok (.invokeinterface 226 2, 5)) {kp : (Bool × GS) → Option ρ} (kk : ∀ (o : (Bool × GS)) (H1 : Heap) (locs1 : List Loc), YW D clW ck ct N ad P A S w G0 o.2 H1 → va_S A s.heap H1 locs1 → X p l e R s m args below meth c H1 locs1 (o.2.2.1 - G0.2.1) (o.2.2.2 - G0.2.2) Qf (kp o) (F0 m (pc + 5) ls (.int (bI o.1) :: rest))) : X p l e R s m args below meth c H locs (G.2.1 - G0.2.1) (G.2.2 - G0.2.2) Qf (hC G.1 q0 10 (callK (sL_add ct G q0 p1) kp)) (F0 m pc ls (va_rf p1 :: .ref q0 :: rest)) := X.hC fun fs bw hq => gy_mx (val' := fun (o : (Bool × GS)) => some (.int (bI o.1))) (len := 5) (So := fun (o : (Bool × GS)) => S) (Po := fun (o : (Bool × GS)) => P) (Gn := fun (o : (Bool × GS)) => o.2) hZ hY hS (fun o ho => rqF (As := [va_rf p1]) E hY.1.any (E.2.1.1 10 _ rfl).2 (recvA E.2.1 hY.1.1.2.1 hq rfl) (by rw [hY.1.2.1]; exact mYL_add l D ct ck N ad P S w G q0 p1 o ho) (va_cwF 1 E.1.2.2.2.2 (lw_F q1229 q354 q356 q117 q358) rfl rfl rfl (E.2.2.2.2.2.1 ("java/util/ArrayList", ⟨"java/util/List", "add", "(Ljava/lang/Object;)Z"⟩, ⟨"java/util/ArrayList", "add", "(Ljava/lang/Object;)Z"⟩) (List.mem_of_getElem? (i := 0) rfl)) (by decide +kernel) hR) rfl hsize rfl hW hdg (hY.room hZ)) kk
theorem kzX5_L_size (E : ME p m c cc nL s args RX5 D clW ct) (hZ : YC ct R s A G0) (hY : YW D clW ck ct N ad P A S w G0 G H) (hS : va_S A s.heap H locs) (hR : 1 + 1 ≤ R.frames ∧ 8 + (1 + 11) + 40 ≤ R.locals) (hsize : ls.size = nL) (hW : (rest.map fun v => v.category).sum ≤ 8) (hdg : decode cc pc = .ok (.invokeinterface 245 1, 5)) {kp : Int32 → Option ρ} (kk : ∀ (o : Int32) (H1 : Heap) (locs1 : List Loc), YW D clW ck ct N ad P A S w G0 G H1 → va_S A s.heap H1 locs1 → X p l e R s m args below meth c H1 locs1 (G.2.1 - G0.2.1) (G.2.2 - G0.2.2) Qf (kp o) (F0 m (pc + 5) ls (.int o :: rest))) : X p l e R s m args below meth c H locs (G.2.1 - G0.2.1) (G.2.2 - G0.2.2) Qf (hC G.1 q0 10 (callK (sL_size G.1 q0) kp)) (F0 m pc ls (.ref q0 :: rest)) := X.hC fun fs bw hq => gy_ro (val' := fun (o : Int32) => some (.int o)) (len := 5) hZ hY hS (fun o ho => rqF (As := []) E (hY.1.1.to fun _ _ => trivial) (E.2.1.1 10 _ rfl).2 (recvA E.2.1 hY.1.1.2.1 hq rfl) (mHL_size l D ct ck N ad P S w G.1 q0 _ o ho) (va_cwF 0 E.1.2.2.2.2 (lw_F q991 q423 q425 q117 q427) rfl rfl rfl (E.2.2.2.2.2.1 ("java/util/ArrayList", ⟨"java/util/List", "size", "()I"⟩, ⟨"java/util/ArrayList", "size", "()I"⟩) (List.mem_of_getElem? (i := 1) rfl)) (by decide +kernel) hR) rfl hsize rfl hW hdg (hY.room0 hZ)) kk
theorem kzX5_5_written (E : ME p m c cc nL s args RX5 D clW ct) (hZ : YC ct R s A G0) (hY : YW D clW ckH ct 26 ad P A S 0 G0 G H) (hS : va_S A s.heap H locs) (hR : 9 + 1 ≤ R.frames ∧ 8 + (3 + 11) + 233 ≤ R.locals) (hsize : ls.size = nL) (hW : (rest.map fun v => v.category).sum ≤ 8) (hdg : decode cc pc = .ok (.invokevirtual 247, 3)) {kp : ((Option Nat) × GS) → Option ρ} (kk : ∀ (o : ((Option Nat) × GS)) (H1 : Heap) (locs1 : List Loc), YW D clW ckH ct 26 ad P A S 0 G0 o.2 H1 → va_S A s.heap H1 locs1 → X p l e R s m args below meth c H1 locs1 (o.2.2.1 - G0.2.1) (o.2.2.2 - G0.2.2) Qf (kp o) (F0 m (pc + 3) ls (va_rf o.1 :: rest))) : X p l e R s m args below meth c H locs (G.2.1 - G0.2.1) (G.2.2 - G0.2.2) Qf (hC G.1 q0 4 (callK (s5_written ct ad P S G q0) kp)) (F0 m pc ls (.ref q0 :: rest)) := X.hC fun fs bw hq => gy_mx (val' := fun (o : ((Option Nat) × GS)) => some (va_rf o.1)) (len := 3) (So := fun (o : ((Option Nat) × GS)) => S) (Po := fun (o : ((Option Nat) × GS)) => P) (Gn := fun (o : ((Option Nat) × GS)) => o.2) hZ hY hS (fun o ho => rqV (As := []) E hY.1.any (recvA E.2.1 hY.1.1.2.1 hq rfl) (by rw [hY.1.2.1]; exact mY5_written l D ct ad P S G q0 o ho) (cwV 0 E.1.2.2.2.2 (lw_V q996 q998 qs20 q124 q999) rfl rfl rfl (by decide +kernel) hR) rfl hsize rfl hW hdg (hY.room hZ)) kk
theorem kzX5_L_get {p1 : Int32} (E : ME p m c cc nL s args RX5 D clW ct) (hZ : YC ct R s A G0) (hY : YW D clW ck ct N ad P A S w G0 G H) (hS : va_S A s.heap H locs) (hR : 3 + 1 ≤ R.frames ∧ 8 + (2 + 11) + 83 ≤ R.locals) (hsize : ls.size = nL) (hW : (rest.map fun v => v.category).sum ≤ 8) (hdg : decode cc pc = .ok (.invokeinterface 250 2, 5)) {kp : (Option Nat) → Option ρ} (kk : ∀ (o : (Option Nat)) (H1 : Heap) (locs1 : List Loc), YW D clW ck ct N ad P A S w G0 G H1 → va_S A s.heap H1 locs1 → X p l e R s m args below meth c H1 locs1 (G.2.1 - G0.2.1) (G.2.2 - G0.2.2) Qf (kp o) (F0 m (pc + 5) ls (va_rf o :: rest))) : X p l e R s m args below meth c H locs (G.2.1 - G0.2.1) (G.2.2 - G0.2.2) Qf (hC G.1 q0 10 (callK (sL_get G.1 q0 p1) kp)) (F0 m pc ls (.int p1 :: .ref q0 :: rest)) := X.hC fun fs bw hq => gy_ro (val' := fun (o : (Option Nat)) => some (va_rf o)) (len := 5) hZ hY hS (fun o ho => rqF (As := [.int p1]) E (hY.1.1.to fun _ _ => trivial) (E.2.1.1 10 _ rfl).2 (recvA E.2.1 hY.1.1.2.1 hq rfl) (mHL_get l D ct ck N ad P S w G.1 q0 p1 _ o ho) (va_cwF 1 E.1.2.2.2.2 (lw_F q1219 q510 q512 q117 q514) rfl rfl rfl (E.2.2.2.2.2.1 ("java/util/ArrayList", ⟨"java/util/List", "get", "(I)Ljava/lang/Object;"⟩, ⟨"java/util/ArrayList", "get", "(I)Ljava/lang/Object;"⟩) (List.mem_of_getElem? (i := 3) rfl)) (by decide +kernel) hR) rfl hsize rfl hW hdg (hY.room0 hZ)) kk
theorem kzX5_S_equals {p1 : (Option Nat)} (E : ME p m c cc nL s args RX5 D clW ct) (hZ : YC ct R s A G0) (hY : YW D clW ck ct N ad P A S w G0 G H) (hS : va_S A s.heap H locs) (hR : 2 + 1 ≤ R.frames ∧ 8 + (3 + 11) + 62 ≤ R.locals) (hsize : ls.size = nL) (hW : (rest.map fun v => v.category).sum ≤ 8) (hdg : decode cc pc = .ok (.invokevirtual 254, 3)) {kp : Bool → Option ρ} (kk : ∀ (o : Bool) (H1 : Heap) (locs1 : List Loc), YW D clW ck ct N ad P A S w G0 G H1 → va_S A s.heap H1 locs1 → X p l e R s m args below meth c H1 locs1 (G.2.1 - G0.2.1) (G.2.2 - G0.2.2) Qf (kp o) (F0 m (pc + 3) ls (.int (bI o) :: rest))) : X p l e R s m args below meth c H locs (G.2.1 - G0.2.1) (G.2.2 - G0.2.2) Qf (hC G.1 q0 13 (callK (sS_equals G.1 q0 p1) kp)) (F0 m pc ls (va_rf p1 :: .ref q0 :: rest)) := X.hC fun fs bw hq => gy_ro (val' := fun (o : Bool) => some (.int (bI o))) (len := 3) hZ hY hS (fun o ho => rqV (As := [va_rf p1]) E (hY.1.1.to fun _ _ => trivial) (recvA E.2.1 hY.1.1.2.1 hq rfl) (mHS_equals l D ct ck N ad P S w G.1 q0 p1 _ o ho) (cwV 1 E.1.2.2.2.2 (lw_V q1220 q1221 q1222 q126 q1223) rfl rfl rfl (by decide +kernel) hR) rfl hsize rfl hW hdg (hY.room0 hZ)) kk
theorem kzX5_1_isOf {p1 : Int32} {p2 : Int32} (E : ME p m c cc nL s args RX5 D clW ct) (hZ : YC ct R s A G0) (hY : YW D clW ck ct N ad P A S w G0 G H) (hS : va_S A s.heap H locs) (hR : 1 + 1 ≤ R.frames ∧ 8 + (2 + 11) + 40 ≤ R.locals) (hsize : ls.size = nL) (hW : (rest.map fun v => v.category).sum ≤ 8) (hdg : decode cc pc = .ok (.invokestatic 260, 3)) {kp : Bool → Option ρ} (kk : ∀ (o : Bool) (H1 : Heap) (locs1 : List Loc), YW D clW ck ct N ad P A S w G0 G H1 → va_S A s.heap H1 locs1 → X p l e R s m args below meth c H1 locs1 (G.2.1 - G0.2.1) (G.2.2 - G0.2.2) Qf (kp o) (F0 m (pc + 3) ls (.int (bI o) :: rest))) : X p l e R s m args below meth c H locs (G.2.1 - G0.2.1) (G.2.2 - G0.2.2) Qf (callK (s1_isOf p1 p2) kp) (F0 m pc ls (.int p2 :: .int p1 :: rest)) := gy_ro (val' := fun (o : Bool) => some (.int (bI o))) (len := 3) hZ hY hS (fun o ho => rqSN (As := [.int p1, .int p2]) (B := fun _ => True) E trivial (mH1_isOf l D ct p1 p2 _ o ho) ⟨va_cnB 2 E.1.2.2.2.2 (lw_meth q957) rfl rfl rfl (E.2.2.nw q955 rfl) (E.1.2.2.2.2 _ q113) (by decide +kernel) hR, E.1.2.2.2.2 _ q956⟩ rfl hsize rfl hW hdg (hY.room0 hZ)) kk
end KZ

set_option maxHeartbeats 4000000 in
theorem mY5_want (l : Launch) (D : va_G) (ct : CT) (ad : Nat → Nat) (P : Nat → Nat → Option Nat) (S : US) (G0 : GS) (q0 : Nat) (p1 : Int32) (p2 : Int32) (o : GS) (ho : s5_want ct ad P S G0 q0 p1 p2 = some o) : Met l yX5_want (ws_ yX5_want cX5_want 3 none) { frames := 4, cells := nmax ct - G0.2.1, slots := zmax ct - G0.2.2, locals := 129 } (mP D clW ct [.ref q0, .int p1, .int p2] G0.2.1 (MW D clW ckH ct 26 ad P (fun _ => True) S 0 G0)) (yC (none) (MW D clW ckH ct 26 ad P (mA 26 ad G0) S 0 o) G0 o (mA 26 ad G0)) (nmax ct - G0.2.1) (zmax ct - G0.2.2) (mA 26 ad G0) := by
  refine Y.start (val := fun (o : GS) => none) (Bt := fun (o : GS) => MW D clW ckH ct 26 ad P (mA 26 ad G0) S 0 o) (Go := fun (o : GS) => o) ho (by decide) (Nat.le_of_ble_eq_true rfl) (lv := [(0, .ref q0), (1, .int p1), (2, .int p2)]) rfl ?_
  intro p e s m args below meth c E hr hlk hnm hZ hU hS ls hl
  obtain ⟨⟨hx, hb, hml, hown, hts⟩, hK, hJ⟩ := id E
  unfold s5_want
  refine x_iload_n hx hb dX5_want_0 rfl (lv_at hl 1 rfl) ?_
  refine x_if_ne (tgt := 13) hx hb dX5_want_1 (by decide) (fun hc => ?_) (fun hc => ?_)
  · exact y_vret hx hb hr hlk hZ hU hS rfl rfl hU.1 dX5_want_13
  · exact X.none
section VZ
variable {ρ : Type} {p : Program} {l : Launch} {e : Env} {R : Room} {s : State} {m : MethodId} {args : Array Value} {below : List Frame} {meth : Method} {c : Code} {H : Heap} {locs : List Loc} {Qf : ρ → State → Prop}
variable {cc : ByteArray} {pc nL q0 n : Nat} {ls : Array Slot} {rest : List Value}
variable {D : va_G} {ct : CT} {ad : Nat → Nat} {P : Nat → Nat → Option Nat} {A : Nat → Prop} {S : US} {G0 G : GS} {rcE : GS → Nat → Int32 → Option (Option Nat × GS)} {rcU : GS → Nat → Int32 → Option (Nat × GS)}
theorem kzX5_5_want {p1 : Int32} {p2 : Int32} (E : ME p m c cc nL s args RX5 D clW ct) (hZ : YC ct R s A G0) (hY : YW D clW ckH ct 26 ad P A S 0 G0 G H) (hS : va_S A s.heap H locs) (hR : 4 + 1 ≤ R.frames ∧ 8 + (3 + 11) + 129 ≤ R.locals) (hsize : ls.size = nL) (hW : (rest.map fun v => v.category).sum ≤ 8) (hdg : decode cc pc = .ok (.invokevirtual 130, 3)) {kp : GS → Option ρ} (kk : ∀ (o : GS) (H1 : Heap) (locs1 : List Loc), YW D clW ckH ct 26 ad P A S 0 G0 o H1 → va_S A s.heap H1 locs1 → X p l e R s m args below meth c H1 locs1 (o.2.1 - G0.2.1) (o.2.2 - G0.2.2) Qf (kp o) (F0 m (pc + 3) ls (rest))) : X p l e R s m args below meth c H locs (G.2.1 - G0.2.1) (G.2.2 - G0.2.2) Qf (hC G.1 q0 4 (callK (s5_want ct ad P S G q0 p1 p2) kp)) (F0 m pc ls (.int p2 :: .int p1 :: .ref q0 :: rest)) := X.hC fun fs bw hq => gy_mx (val' := fun (o : GS) => none) (len := 3) (So := fun (o : GS) => S) (Po := fun (o : GS) => P) (Gn := fun (o : GS) => o) hZ hY hS (fun o ho => rqV (As := [.int p1, .int p2]) E hY.1.any (recvA E.2.1 hY.1.1.2.1 hq rfl) (by rw [hY.1.2.1]; exact mY5_want l D ct ad P S G q0 p1 p2 o ho) (cwV 2 E.1.2.2.2.2 (lw_V q958 q960 qs17 q124 q961) rfl rfl rfl (by decide +kernel) hR) rfl hsize rfl hW hdg (hY.room hZ)) kk
end VZ

set_option maxHeartbeats 4000000 in
theorem mU5_want (l : Launch) (D : va_G) (ct : CT) (ad : Nat → Nat) (P : Nat → Nat → Option Nat) (S : US) (G0 : GS) (q0 : Nat) (p1 : Int32) (p2 : Int32) (o : Nat × GS) (ho : u5_want ct ad P S G0 q0 p1 p2 = some o) : vx_Met l yX5_want (ws_ yX5_want cX5_want 3 none) { frames := 4, cells := nmax ct - G0.2.1, slots := zmax ct - G0.2.2, locals := 129 } (mP D clW ct [.ref q0, .int p1, .int p2] G0.2.1 (MW D clW ckH ct 26 ad P (fun _ => True) S 0 G0)) nQ (uX D ct ad P S G0 o) (nmax ct - G0.2.1) (zmax ct - G0.2.2) (mA 26 ad G0) := by
  refine U.start ho (by decide) (Nat.le_of_ble_eq_true rfl) (lv := [(0, .ref q0), (1, .int p1), (2, .int p2)]) rfl ?_
  intro p e s m args below meth c E hlk hxt hZ hU hS ls hl
  obtain ⟨⟨hx, hb, hml, hown, hts⟩, hK, hJ⟩ := id E
  unfold u5_want
  refine x_iload_n hx hb dX5_want_0 rfl (lv_at hl 1 rfl) ?_
  refine x_if_ne (tgt := 13) hx hb dX5_want_1 (by decide) (fun hc => ?_) (fun hc => ?_)
  · exact X.none
  · refine gy_new (ty := tyX6) E hZ hU hS in_X6 tyX6_ok (hts _ q962) (hts _ q963) (hts _ q131) (ci := 5) rfl (by decide) dX5_want_4 (fun q1 G2 H hU hS => ?_)
    refine x_dup hx hb dX5_want_7 rfl ?_
    refine x_iload_n hx hb dX5_want_8 rfl (lv_at hl 2 rfl) ?_
    refine kzX5_6_init E hZ hU hS ⟨Nat.le_of_ble_eq_true rfl, Nat.le_of_ble_eq_true rfl⟩ hl.1 (Nat.le_of_ble_eq_true rfl) dX5_want_9 (fun o3 H locs hU hS => ?_)
    exact uy_throw E hU hS hxt hlk dX5_want_12
section VZ
variable {ρ : Type} {p : Program} {l : Launch} {e : Env} {R : Room} {s : State} {m : MethodId} {args : Array Value} {below : List Frame} {meth : Method} {c : Code} {H : Heap} {locs : List Loc} {Qf : ρ → State → Prop}
variable {cc : ByteArray} {pc nL q0 n : Nat} {ls : Array Slot} {rest : List Value}
variable {D : va_G} {ct : CT} {ad : Nat → Nat} {P : Nat → Nat → Option Nat} {A : Nat → Prop} {S : US} {G0 G : GS} {rcE : GS → Nat → Int32 → Option (Option Nat × GS)} {rcU : GS → Nat → Int32 → Option (Nat × GS)}
theorem uzX5_5_want {p1 : Int32} {p2 : Int32} (E : ME p m c cc nL s args RX5 D clW ct) (hZ : YC ct R s (mA 26 ad G0) G0) (hY : YW D clW ckH ct 26 ad P (mA 26 ad G0) S 0 G0 G H) (hS : va_S (mA 26 ad G0) s.heap H locs) (hxt : ∀ x ∈ c.exceptionTable.toList, False) (hlk : meth.locks = false) (hR : 4 + 1 ≤ R.frames ∧ 8 + (3 + 11) + 129 ≤ R.locals) (hsize : ls.size = nL) (hW : (rest.map fun v => v.category).sum ≤ 8) (hdg : decode cc pc = .ok (.invokevirtual 130, 3)) : X p l e R s m args below meth c H locs (G.2.1 - G0.2.1) (G.2.2 - G0.2.2) (uQ below args s D ct ad P S G0) (hC G.1 q0 4 (u5_want ct ad P S G q0 p1 p2)) (F0 m pc ls (.int p2 :: .int p1 :: .ref q0 :: rest)) := X.hC fun fs bw hq => uy_end hZ hY hS hxt hlk (fun o ho => rtV (As := [.int p1, .int p2]) E hY.1.any (recvA E.2.1 hY.1.1.2.1 hq rfl) (by rw [hY.1.2.1]; exact mU5_want l D ct ad P S G q0 p1 p2 o ho) (cwV 2 E.1.2.2.2.2 (lw_V q958 q960 qs17 q124 q961) rfl rfl rfl (by decide +kernel) hR) rfl hsize rfl hW hdg (hY.room hZ))
end VZ

set_option maxHeartbeats 4000000 in
theorem mY5_numberNow (l : Launch) (D : va_G) (ct : CT) (ad : Nat → Nat) (P : Nat → Nat → Option Nat) (S : US) (G0 : GS) (q0 : Nat) (p1 : Int32) (p2 : Int32) (o : (Int32 × GS)) (ho : s5_numberNow ct ad P S G0 q0 p1 p2 = some o) : Met l yX5_numberNow (ws_ yX5_numberNow cX5_numberNow 3 (some .int)) { frames := 5, cells := nmax ct - G0.2.1, slots := zmax ct - G0.2.2, locals := 151 } (mP D clW ct [.ref q0, .int p1, .int p2] G0.2.1 (MW D clW ckH ct 26 ad P (fun _ => True) S 0 G0)) (yC (some (.int o.1)) (MW D clW ckH ct 26 ad P (mA 26 ad G0) S 0 o.2) G0 o.2 (mA 26 ad G0)) (nmax ct - G0.2.1) (zmax ct - G0.2.2) (mA 26 ad G0) := by
  refine Y.start (val := fun (o : (Int32 × GS)) => some (.int o.1)) (Bt := fun (o : (Int32 × GS)) => MW D clW ckH ct 26 ad P (mA 26 ad G0) S 0 o.2) (Go := fun (o : (Int32 × GS)) => o.2) ho (by decide) (Nat.le_of_ble_eq_true rfl) (lv := [(0, .ref q0), (1, .int p1), (2, .int p2)]) rfl ?_
  intro p e s m args below meth c E hr hlk hnm hZ hU hS ls hl
  obtain ⟨⟨hx, hb, hml, hown, hts⟩, hK, hJ⟩ := id E
  unfold s5_numberNow
  refine x_aload_n hx hb dX5_numberNow_0 rfl (lv_at hl 0 rfl) ?_
  refine x_aload_n hx hb dX5_numberNow_1 rfl (lv_at hl 0 rfl) ?_
  refine fx_getI E hU.1.1.2.1 (ci := 4) rfl in_X5 6 (by decide) (hts _ q795) (fun _ h => h) dX5_numberNow_2 (fun v1 => ?_)
  refine x_iconst (v := 2) hx hb dX5_numberNow_5 (by decide) ?_
  refine X.join2Y (fun (x : Int32) g H locs => YW D clW ckH ct 26 ad P (mA 26 ad G0) S 0 G0 G0 H ∧ va_S (mA 26 ad G0) s.heap H locs ∧ ∃ ls : Array Slot, g = F0 m 14 ls [.int x, .ref q0] ∧ lv_has ls 3 [(0, .ref q0), (1, .int p1), (2, .int p2)]) (fun (x : Int32) => G0.2.1 - G0.2.1) (fun (x : Int32) => G0.2.2 - G0.2.2) ?_ (fun j3 hj3 => ?_)
  · rintro y2 _ H locs ⟨hU, hS, ls, rfl, hl⟩
    refine X.cs (cells2 := G0.2.1 - G0.2.1) (slots2 := G0.2.2 - G0.2.2) rfl rfl ?_
    refine X.eqs (sp2 := s5_numberNow_J14 q0 p1 p2 S P ad G0 ct y2) rfl ?_
    unfold s5_numberNow_J14
    refine x_iconst (v := 1) hx hb dX5_numberNow_14 (by decide) ?_
    refine kzX5_5_want E hZ hU hS ⟨by show 4 + 1 ≤ 5; omega, by show 8 + (3 + 11) + (129) ≤ 151; omega⟩ hl.1 (Nat.le_of_ble_eq_true rfl) dX5_numberNow_15 (fun o4 H locs hU hS => ?_)
    refine x_aload_n hx hb dX5_numberNow_18 rfl (lv_at hl 0 rfl) ?_
    refine x_aload_n hx hb dX5_numberNow_19 rfl (lv_at hl 0 rfl) ?_
    refine fx_getI E hU.1.1.2.1 (ci := 4) rfl in_X5 8 (by decide) (hts _ q798) (fun _ h => h) dX5_numberNow_20 (fun v5 => ?_)
    refine x_aload_n hx hb dX5_numberNow_23 rfl (lv_at hl 0 rfl) ?_
    refine fx_getI E hU.1.1.2.1 (ci := 4) rfl in_X5 7 (by decide) (hts _ q796) (fun _ h => h) dX5_numberNow_24 (fun v6 => ?_)
    refine x_isub hx hb dX5_numberNow_27 ?_
    refine x_iconst (v := 4) hx hb dX5_numberNow_28 (by decide) ?_
    refine x_icmp_gt (tgt := 52) hx hb dX5_numberNow_29 (by decide) (fun hc => ?_) (fun hc => ?_)
    · refine x_iconst (v := 0) hx hb dX5_numberNow_52 (by decide) ?_
      refine x_iconst (v := 2) hx hb dX5_numberNow_53 (by decide) ?_
      refine kzX5_5_want E hZ hU hS ⟨by show 4 + 1 ≤ 5; omega, by show 8 + (3 + 11) + (129) ≤ 151; omega⟩ hl.1 (Nat.le_of_ble_eq_true rfl) dX5_numberNow_54 (fun o7 H locs hU hS => ?_)
      refine x_aload_n hx hb dX5_numberNow_57 rfl (lv_at hl 0 rfl) ?_
      refine fx_getI E hU.1.1.2.1 (ci := 4) rfl in_X5 9 (by decide) (hts _ q799) (fun _ h => h) dX5_numberNow_58 (fun v8 => ?_)
      exact y_iret hx hb hr hlk hZ hU hS rfl rfl hU.1 dX5_numberNow_61
    · refine x_aload_n hx hb dX5_numberNow_32 rfl (lv_at hl 0 rfl) ?_
      refine fx_getI E hU.1.1.2.1 (ci := 4) rfl in_X5 9 (by decide) (hts _ q799) (fun _ h => h) dX5_numberNow_33 (fun v9 => ?_)
      refine x_iload_n hx hb dX5_numberNow_36 rfl (lv_at hl 1 rfl) ?_
      refine x_icmp_lt (tgt := 52) hx hb dX5_numberNow_37 (by decide) (fun hc => ?_) (fun hc => ?_)
      · refine x_iconst (v := 0) hx hb dX5_numberNow_52 (by decide) ?_
        refine x_iconst (v := 2) hx hb dX5_numberNow_53 (by decide) ?_
        refine kzX5_5_want E hZ hU hS ⟨by show 4 + 1 ≤ 5; omega, by show 8 + (3 + 11) + (129) ≤ 151; omega⟩ hl.1 (Nat.le_of_ble_eq_true rfl) dX5_numberNow_54 (fun o10 H locs hU hS => ?_)
        refine x_aload_n hx hb dX5_numberNow_57 rfl (lv_at hl 0 rfl) ?_
        refine fx_getI E hU.1.1.2.1 (ci := 4) rfl in_X5 9 (by decide) (hts _ q799) (fun _ h => h) dX5_numberNow_58 (fun v11 => ?_)
        exact y_iret hx hb hr hlk hZ hU hS rfl rfl hU.1 dX5_numberNow_61
      · refine x_aload_n hx hb dX5_numberNow_40 rfl (lv_at hl 0 rfl) ?_
        refine fx_getI E hU.1.1.2.1 (ci := 4) rfl in_X5 9 (by decide) (hts _ q799) (fun _ h => h) dX5_numberNow_41 (fun v12 => ?_)
        refine x_iload_n hx hb dX5_numberNow_44 rfl (lv_at hl 2 rfl) ?_
        refine x_icmp_gt (tgt := 52) hx hb dX5_numberNow_45 (by decide) (fun hc => ?_) (fun hc => ?_)
        · refine x_iconst (v := 0) hx hb dX5_numberNow_52 (by decide) ?_
          refine x_iconst (v := 2) hx hb dX5_numberNow_53 (by decide) ?_
          refine kzX5_5_want E hZ hU hS ⟨by show 4 + 1 ≤ 5; omega, by show 8 + (3 + 11) + (129) ≤ 151; omega⟩ hl.1 (Nat.le_of_ble_eq_true rfl) dX5_numberNow_54 (fun o13 H locs hU hS => ?_)
          refine x_aload_n hx hb dX5_numberNow_57 rfl (lv_at hl 0 rfl) ?_
          refine fx_getI E hU.1.1.2.1 (ci := 4) rfl in_X5 9 (by decide) (hts _ q799) (fun _ h => h) dX5_numberNow_58 (fun v14 => ?_)
          exact y_iret hx hb hr hlk hZ hU hS rfl rfl hU.1 dX5_numberNow_61
        · refine x_iconst (v := 1) hx hb dX5_numberNow_48 (by decide) ?_
          refine x_goto (tgt := 53) hx hb dX5_numberNow_49 (by decide) ?_
          refine x_iconst (v := 2) hx hb dX5_numberNow_53 (by decide) ?_
          refine kzX5_5_want E hZ hU hS ⟨by show 4 + 1 ≤ 5; omega, by show 8 + (3 + 11) + (129) ≤ 151; omega⟩ hl.1 (Nat.le_of_ble_eq_true rfl) dX5_numberNow_54 (fun o15 H locs hU hS => ?_)
          refine x_aload_n hx hb dX5_numberNow_57 rfl (lv_at hl 0 rfl) ?_
          refine fx_getI E hU.1.1.2.1 (ci := 4) rfl in_X5 9 (by decide) (hts _ q799) (fun _ h => h) dX5_numberNow_58 (fun v16 => ?_)
          exact y_iret hx hb hr hlk hZ hU hS rfl rfl hU.1 dX5_numberNow_61
  · refine x_icmp_ne (tgt := 13) hx hb dX5_numberNow_6 (by decide) (fun hc => ?_) (fun hc => ?_)
    · refine x_iconst (v := 0) hx hb dX5_numberNow_13 (by decide) ?_
      exact hj3 (0 : Int32) _ _ _ ⟨hU, hS, _, rfl, lv_sub hl [0, 1, 2] rfl⟩
    · refine x_iconst (v := 1) hx hb dX5_numberNow_9 (by decide) ?_
      refine x_goto (tgt := 14) hx hb dX5_numberNow_10 (by decide) ?_
      exact hj3 (1 : Int32) _ _ _ ⟨hU, hS, _, rfl, lv_sub hl [0, 1, 2] rfl⟩
section VZ
variable {ρ : Type} {p : Program} {l : Launch} {e : Env} {R : Room} {s : State} {m : MethodId} {args : Array Value} {below : List Frame} {meth : Method} {c : Code} {H : Heap} {locs : List Loc} {Qf : ρ → State → Prop}
variable {cc : ByteArray} {pc nL q0 n : Nat} {ls : Array Slot} {rest : List Value}
variable {D : va_G} {ct : CT} {ad : Nat → Nat} {P : Nat → Nat → Option Nat} {A : Nat → Prop} {S : US} {G0 G : GS} {rcE : GS → Nat → Int32 → Option (Option Nat × GS)} {rcU : GS → Nat → Int32 → Option (Nat × GS)}
theorem kzX5_5_numberNow {p1 : Int32} {p2 : Int32} (E : ME p m c cc nL s args RX5 D clW ct) (hZ : YC ct R s A G0) (hY : YW D clW ckH ct 26 ad P A S 0 G0 G H) (hS : va_S A s.heap H locs) (hR : 5 + 1 ≤ R.frames ∧ 8 + (3 + 11) + 151 ≤ R.locals) (hsize : ls.size = nL) (hW : (rest.map fun v => v.category).sum ≤ 8) (hdg : decode cc pc = .ok (.invokevirtual 134, 3)) {kp : (Int32 × GS) → Option ρ} (kk : ∀ (o : (Int32 × GS)) (H1 : Heap) (locs1 : List Loc), YW D clW ckH ct 26 ad P A S 0 G0 o.2 H1 → va_S A s.heap H1 locs1 → X p l e R s m args below meth c H1 locs1 (o.2.2.1 - G0.2.1) (o.2.2.2 - G0.2.2) Qf (kp o) (F0 m (pc + 3) ls (.int o.1 :: rest))) : X p l e R s m args below meth c H locs (G.2.1 - G0.2.1) (G.2.2 - G0.2.2) Qf (hC G.1 q0 4 (callK (s5_numberNow ct ad P S G q0 p1 p2) kp)) (F0 m pc ls (.int p2 :: .int p1 :: .ref q0 :: rest)) := X.hC fun fs bw hq => gy_mx (val' := fun (o : (Int32 × GS)) => some (.int o.1)) (len := 3) (So := fun (o : (Int32 × GS)) => S) (Po := fun (o : (Int32 × GS)) => P) (Gn := fun (o : (Int32 × GS)) => o.2) hZ hY hS (fun o ho => rqV (As := [.int p1, .int p2]) E hY.1.any (recvA E.2.1 hY.1.1.2.1 hq rfl) (by rw [hY.1.2.1]; exact mY5_numberNow l D ct ad P S G q0 p1 p2 o ho) (cwV 2 E.1.2.2.2.2 (lw_V q992 q994 qs19 q124 q995) rfl rfl rfl (by decide +kernel) hR) rfl hsize rfl hW hdg (hY.room hZ)) kk
end VZ

set_option maxHeartbeats 4000000 in
theorem mU5_numberNow (l : Launch) (D : va_G) (ct : CT) (ad : Nat → Nat) (P : Nat → Nat → Option Nat) (S : US) (G0 : GS) (q0 : Nat) (p1 : Int32) (p2 : Int32) (o : Nat × GS) (ho : u5_numberNow ct ad P S G0 q0 p1 p2 = some o) : vx_Met l yX5_numberNow (ws_ yX5_numberNow cX5_numberNow 3 (some .int)) { frames := 5, cells := nmax ct - G0.2.1, slots := zmax ct - G0.2.2, locals := 151 } (mP D clW ct [.ref q0, .int p1, .int p2] G0.2.1 (MW D clW ckH ct 26 ad P (fun _ => True) S 0 G0)) nQ (uX D ct ad P S G0 o) (nmax ct - G0.2.1) (zmax ct - G0.2.2) (mA 26 ad G0) := by
  refine U.start ho (by decide) (Nat.le_of_ble_eq_true rfl) (lv := [(0, .ref q0), (1, .int p1), (2, .int p2)]) rfl ?_
  intro p e s m args below meth c E hlk hxt hZ hU hS ls hl
  obtain ⟨⟨hx, hb, hml, hown, hts⟩, hK, hJ⟩ := id E
  unfold u5_numberNow
  refine x_aload_n hx hb dX5_numberNow_0 rfl (lv_at hl 0 rfl) ?_
  refine x_aload_n hx hb dX5_numberNow_1 rfl (lv_at hl 0 rfl) ?_
  refine fx_getI E hU.1.1.2.1 (ci := 4) rfl in_X5 6 (by decide) (hts _ q795) (fun _ h => h) dX5_numberNow_2 (fun v1 => ?_)
  refine x_iconst (v := 2) hx hb dX5_numberNow_5 (by decide) ?_
  refine X.join2Y (fun (x : Int32) g H locs => YW D clW ckH ct 26 ad P (mA 26 ad G0) S 0 G0 G0 H ∧ va_S (mA 26 ad G0) s.heap H locs ∧ ∃ ls : Array Slot, g = F0 m 14 ls [.int x, .ref q0] ∧ lv_has ls 3 [(0, .ref q0), (1, .int p1), (2, .int p2)]) (fun (x : Int32) => G0.2.1 - G0.2.1) (fun (x : Int32) => G0.2.2 - G0.2.2) ?_ (fun j3 hj3 => ?_)
  · rintro y2 _ H locs ⟨hU, hS, ls, rfl, hl⟩
    refine X.cs (cells2 := G0.2.1 - G0.2.1) (slots2 := G0.2.2 - G0.2.2) rfl rfl ?_
    refine X.eqs (sp2 := u5_numberNow_J14 q0 p1 p2 S P ad G0 ct y2) rfl ?_
    unfold u5_numberNow_J14
    refine x_iconst (v := 1) hx hb dX5_numberNow_14 (by decide) ?_
    refine X.tB (uzX5_5_want E hZ hU hS hxt hlk ⟨by show 4 + 1 ≤ 5; omega, by show 8 + (3 + 11) + (129) ≤ 151; omega⟩ hl.1 (Nat.le_of_ble_eq_true rfl) dX5_numberNow_15) ?_
    refine kzX5_5_want E hZ hU hS ⟨by show 4 + 1 ≤ 5; omega, by show 8 + (3 + 11) + (129) ≤ 151; omega⟩ hl.1 (Nat.le_of_ble_eq_true rfl) dX5_numberNow_15 (fun o4 H locs hU hS => ?_)
    refine x_aload_n hx hb dX5_numberNow_18 rfl (lv_at hl 0 rfl) ?_
    refine x_aload_n hx hb dX5_numberNow_19 rfl (lv_at hl 0 rfl) ?_
    refine fx_getI E hU.1.1.2.1 (ci := 4) rfl in_X5 8 (by decide) (hts _ q798) (fun _ h => h) dX5_numberNow_20 (fun v5 => ?_)
    refine x_aload_n hx hb dX5_numberNow_23 rfl (lv_at hl 0 rfl) ?_
    refine fx_getI E hU.1.1.2.1 (ci := 4) rfl in_X5 7 (by decide) (hts _ q796) (fun _ h => h) dX5_numberNow_24 (fun v6 => ?_)
    refine x_isub hx hb dX5_numberNow_27 ?_
    refine x_iconst (v := 4) hx hb dX5_numberNow_28 (by decide) ?_
    refine x_icmp_gt (tgt := 52) hx hb dX5_numberNow_29 (by decide) (fun hc => ?_) (fun hc => ?_)
    · refine x_iconst (v := 0) hx hb dX5_numberNow_52 (by decide) ?_
      refine x_iconst (v := 2) hx hb dX5_numberNow_53 (by decide) ?_
      exact uzX5_5_want E hZ hU hS hxt hlk ⟨by show 4 + 1 ≤ 5; omega, by show 8 + (3 + 11) + (129) ≤ 151; omega⟩ hl.1 (Nat.le_of_ble_eq_true rfl) dX5_numberNow_54
    · refine x_aload_n hx hb dX5_numberNow_32 rfl (lv_at hl 0 rfl) ?_
      refine fx_getI E hU.1.1.2.1 (ci := 4) rfl in_X5 9 (by decide) (hts _ q799) (fun _ h => h) dX5_numberNow_33 (fun v7 => ?_)
      refine x_iload_n hx hb dX5_numberNow_36 rfl (lv_at hl 1 rfl) ?_
      refine x_icmp_lt (tgt := 52) hx hb dX5_numberNow_37 (by decide) (fun hc => ?_) (fun hc => ?_)
      · refine x_iconst (v := 0) hx hb dX5_numberNow_52 (by decide) ?_
        refine x_iconst (v := 2) hx hb dX5_numberNow_53 (by decide) ?_
        exact uzX5_5_want E hZ hU hS hxt hlk ⟨by show 4 + 1 ≤ 5; omega, by show 8 + (3 + 11) + (129) ≤ 151; omega⟩ hl.1 (Nat.le_of_ble_eq_true rfl) dX5_numberNow_54
      · refine x_aload_n hx hb dX5_numberNow_40 rfl (lv_at hl 0 rfl) ?_
        refine fx_getI E hU.1.1.2.1 (ci := 4) rfl in_X5 9 (by decide) (hts _ q799) (fun _ h => h) dX5_numberNow_41 (fun v8 => ?_)
        refine x_iload_n hx hb dX5_numberNow_44 rfl (lv_at hl 2 rfl) ?_
        refine x_icmp_gt (tgt := 52) hx hb dX5_numberNow_45 (by decide) (fun hc => ?_) (fun hc => ?_)
        · refine x_iconst (v := 0) hx hb dX5_numberNow_52 (by decide) ?_
          refine x_iconst (v := 2) hx hb dX5_numberNow_53 (by decide) ?_
          exact uzX5_5_want E hZ hU hS hxt hlk ⟨by show 4 + 1 ≤ 5; omega, by show 8 + (3 + 11) + (129) ≤ 151; omega⟩ hl.1 (Nat.le_of_ble_eq_true rfl) dX5_numberNow_54
        · refine x_iconst (v := 1) hx hb dX5_numberNow_48 (by decide) ?_
          refine x_goto (tgt := 53) hx hb dX5_numberNow_49 (by decide) ?_
          refine x_iconst (v := 2) hx hb dX5_numberNow_53 (by decide) ?_
          exact uzX5_5_want E hZ hU hS hxt hlk ⟨by show 4 + 1 ≤ 5; omega, by show 8 + (3 + 11) + (129) ≤ 151; omega⟩ hl.1 (Nat.le_of_ble_eq_true rfl) dX5_numberNow_54
  · refine x_icmp_ne (tgt := 13) hx hb dX5_numberNow_6 (by decide) (fun hc => ?_) (fun hc => ?_)
    · refine x_iconst (v := 0) hx hb dX5_numberNow_13 (by decide) ?_
      exact hj3 (0 : Int32) _ _ _ ⟨hU, hS, _, rfl, lv_sub hl [0, 1, 2] rfl⟩
    · refine x_iconst (v := 1) hx hb dX5_numberNow_9 (by decide) ?_
      refine x_goto (tgt := 14) hx hb dX5_numberNow_10 (by decide) ?_
      exact hj3 (1 : Int32) _ _ _ ⟨hU, hS, _, rfl, lv_sub hl [0, 1, 2] rfl⟩
section VZ
variable {ρ : Type} {p : Program} {l : Launch} {e : Env} {R : Room} {s : State} {m : MethodId} {args : Array Value} {below : List Frame} {meth : Method} {c : Code} {H : Heap} {locs : List Loc} {Qf : ρ → State → Prop}
variable {cc : ByteArray} {pc nL q0 n : Nat} {ls : Array Slot} {rest : List Value}
variable {D : va_G} {ct : CT} {ad : Nat → Nat} {P : Nat → Nat → Option Nat} {A : Nat → Prop} {S : US} {G0 G : GS} {rcE : GS → Nat → Int32 → Option (Option Nat × GS)} {rcU : GS → Nat → Int32 → Option (Nat × GS)}
theorem uzX5_5_numberNow {p1 : Int32} {p2 : Int32} (E : ME p m c cc nL s args RX5 D clW ct) (hZ : YC ct R s (mA 26 ad G0) G0) (hY : YW D clW ckH ct 26 ad P (mA 26 ad G0) S 0 G0 G H) (hS : va_S (mA 26 ad G0) s.heap H locs) (hxt : ∀ x ∈ c.exceptionTable.toList, False) (hlk : meth.locks = false) (hR : 5 + 1 ≤ R.frames ∧ 8 + (3 + 11) + 151 ≤ R.locals) (hsize : ls.size = nL) (hW : (rest.map fun v => v.category).sum ≤ 8) (hdg : decode cc pc = .ok (.invokevirtual 134, 3)) : X p l e R s m args below meth c H locs (G.2.1 - G0.2.1) (G.2.2 - G0.2.2) (uQ below args s D ct ad P S G0) (hC G.1 q0 4 (u5_numberNow ct ad P S G q0 p1 p2)) (F0 m pc ls (.int p2 :: .int p1 :: .ref q0 :: rest)) := X.hC fun fs bw hq => uy_end hZ hY hS hxt hlk (fun o ho => rtV (As := [.int p1, .int p2]) E hY.1.any (recvA E.2.1 hY.1.1.2.1 hq rfl) (by rw [hY.1.2.1]; exact mU5_numberNow l D ct ad P S G q0 p1 p2 o ho) (cwV 2 E.1.2.2.2.2 (lw_V q992 q994 qs19 q124 q995) rfl rfl rfl (by decide +kernel) hR) rfl hsize rfl hW hdg (hY.room hZ))
end VZ

set_option maxHeartbeats 4000000 in
theorem mY5_number (l : Launch) (D : va_G) (ct : CT) (ad : Nat → Nat) (P : Nat → Nat → Option Nat) (S : US) (G0 : GS) (q0 : Nat) (p1 : Int32) (p2 : Int32) (o : (Int32 × GS)) (ho : s5_number ct ad P S G0 q0 p1 p2 = some o) : Met l yX5_number (ws_ yX5_number cX5_number 4 (some .int)) { frames := 6, cells := nmax ct - G0.2.1, slots := zmax ct - G0.2.2, locals := 173 } (mP D clW ct [.ref q0, .int p1, .int p2] G0.2.1 (MW D clW ckH ct 26 ad P (fun _ => True) S 0 G0)) (yC (some (.int o.1)) (MW D clW ckH ct 26 ad P (mA 26 ad G0) S 0 o.2) G0 o.2 (mA 26 ad G0)) (nmax ct - G0.2.1) (zmax ct - G0.2.2) (mA 26 ad G0) := by
  refine Y.start (val := fun (o : (Int32 × GS)) => some (.int o.1)) (Bt := fun (o : (Int32 × GS)) => MW D clW ckH ct 26 ad P (mA 26 ad G0) S 0 o.2) (Go := fun (o : (Int32 × GS)) => o.2) ho (by decide) (Nat.le_of_ble_eq_true rfl) (lv := [(0, .ref q0), (1, .int p1), (2, .int p2)]) rfl ?_
  intro p e s m args below meth c E hr hlk hnm hZ hU hS ls hl
  obtain ⟨⟨hx, hb, hml, hown, hts⟩, hK, hJ⟩ := id E
  unfold s5_number
  refine x_aload_n hx hb dX5_number_0 rfl (lv_at hl 0 rfl) ?_
  refine x_iload_n hx hb dX5_number_1 rfl (lv_at hl 1 rfl) ?_
  refine x_iload_n hx hb dX5_number_2 rfl (lv_at hl 2 rfl) ?_
  refine kzX5_5_numberNow E hZ hU hS ⟨by show 5 + 1 ≤ 6; omega, by show 8 + (3 + 11) + (151) ≤ 173; omega⟩ hl.1 (Nat.le_of_ble_eq_true rfl) dX5_number_3 (fun o1 H locs hU hS => ?_)
  refine x_istore_n (lv' := [(3, .int o1.1), (0, .ref q0), (1, .int p1), (2, .int p2)]) hx hb dX5_number_6 rfl hl (by decide) rfl (fun ls hl => ?_)
  refine x_aload_n hx hb dX5_number_7 rfl (lv_at hl 1 rfl) ?_
  refine kzX5_5_next E hZ hU hS ⟨Nat.le_of_ble_eq_true rfl, Nat.le_of_ble_eq_true rfl⟩ hl.1 (Nat.le_of_ble_eq_true rfl) dX5_number_8 (fun o2 H locs hU hS => ?_)
  refine x_iload_n hx hb dX5_number_11 rfl (lv_at hl 0 rfl) ?_
  exact y_iret hx hb hr hlk hZ hU hS rfl rfl hU.1 dX5_number_12
section VZ
variable {ρ : Type} {p : Program} {l : Launch} {e : Env} {R : Room} {s : State} {m : MethodId} {args : Array Value} {below : List Frame} {meth : Method} {c : Code} {H : Heap} {locs : List Loc} {Qf : ρ → State → Prop}
variable {cc : ByteArray} {pc nL q0 n : Nat} {ls : Array Slot} {rest : List Value}
variable {D : va_G} {ct : CT} {ad : Nat → Nat} {P : Nat → Nat → Option Nat} {A : Nat → Prop} {S : US} {G0 G : GS} {rcE : GS → Nat → Int32 → Option (Option Nat × GS)} {rcU : GS → Nat → Int32 → Option (Nat × GS)}
theorem kzX5_5_number {p1 : Int32} {p2 : Int32} (E : ME p m c cc nL s args RX5 D clW ct) (hZ : YC ct R s A G0) (hY : YW D clW ckH ct 26 ad P A S 0 G0 G H) (hS : va_S A s.heap H locs) (hR : 6 + 1 ≤ R.frames ∧ 8 + (4 + 11) + 173 ≤ R.locals) (hsize : ls.size = nL) (hW : (rest.map fun v => v.category).sum ≤ 8) (hdg : decode cc pc = .ok (.invokevirtual 139, 3)) {kp : (Int32 × GS) → Option ρ} (kk : ∀ (o : (Int32 × GS)) (H1 : Heap) (locs1 : List Loc), YW D clW ckH ct 26 ad P A S 0 G0 o.2 H1 → va_S A s.heap H1 locs1 → X p l e R s m args below meth c H1 locs1 (o.2.2.1 - G0.2.1) (o.2.2.2 - G0.2.2) Qf (kp o) (F0 m (pc + 3) ls (.int o.1 :: rest))) : X p l e R s m args below meth c H locs (G.2.1 - G0.2.1) (G.2.2 - G0.2.2) Qf (hC G.1 q0 4 (callK (s5_number ct ad P S G q0 p1 p2) kp)) (F0 m pc ls (.int p2 :: .int p1 :: .ref q0 :: rest)) := X.hC fun fs bw hq => gy_mx (val' := fun (o : (Int32 × GS)) => some (.int o.1)) (len := 3) (So := fun (o : (Int32 × GS)) => S) (Po := fun (o : (Int32 × GS)) => P) (Gn := fun (o : (Int32 × GS)) => o.2) hZ hY hS (fun o ho => rqV (As := [.int p1, .int p2]) E hY.1.any (recvA E.2.1 hY.1.1.2.1 hq rfl) (by rw [hY.1.2.1]; exact mY5_number l D ct ad P S G q0 p1 p2 o ho) (cwV 2 E.1.2.2.2.2 (lw_V q1230 q1232 qs21 q124 q1233) rfl rfl rfl (by decide +kernel) hR) rfl hsize rfl hW hdg (hY.room hZ)) kk
end VZ

set_option maxHeartbeats 4000000 in
theorem mU5_number (l : Launch) (D : va_G) (ct : CT) (ad : Nat → Nat) (P : Nat → Nat → Option Nat) (S : US) (G0 : GS) (q0 : Nat) (p1 : Int32) (p2 : Int32) (o : Nat × GS) (ho : u5_number ct ad P S G0 q0 p1 p2 = some o) : vx_Met l yX5_number (ws_ yX5_number cX5_number 4 (some .int)) { frames := 6, cells := nmax ct - G0.2.1, slots := zmax ct - G0.2.2, locals := 173 } (mP D clW ct [.ref q0, .int p1, .int p2] G0.2.1 (MW D clW ckH ct 26 ad P (fun _ => True) S 0 G0)) nQ (uX D ct ad P S G0 o) (nmax ct - G0.2.1) (zmax ct - G0.2.2) (mA 26 ad G0) := by
  refine U.start ho (by decide) (Nat.le_of_ble_eq_true rfl) (lv := [(0, .ref q0), (1, .int p1), (2, .int p2)]) rfl ?_
  intro p e s m args below meth c E hlk hxt hZ hU hS ls hl
  obtain ⟨⟨hx, hb, hml, hown, hts⟩, hK, hJ⟩ := id E
  unfold u5_number
  refine x_aload_n hx hb dX5_number_0 rfl (lv_at hl 0 rfl) ?_
  refine x_iload_n hx hb dX5_number_1 rfl (lv_at hl 1 rfl) ?_
  refine x_iload_n hx hb dX5_number_2 rfl (lv_at hl 2 rfl) ?_
  exact uzX5_5_numberNow E hZ hU hS hxt hlk ⟨by show 5 + 1 ≤ 6; omega, by show 8 + (3 + 11) + (151) ≤ 173; omega⟩ hl.1 (Nat.le_of_ble_eq_true rfl) dX5_number_3
section VZ
variable {ρ : Type} {p : Program} {l : Launch} {e : Env} {R : Room} {s : State} {m : MethodId} {args : Array Value} {below : List Frame} {meth : Method} {c : Code} {H : Heap} {locs : List Loc} {Qf : ρ → State → Prop}
variable {cc : ByteArray} {pc nL q0 n : Nat} {ls : Array Slot} {rest : List Value}
variable {D : va_G} {ct : CT} {ad : Nat → Nat} {P : Nat → Nat → Option Nat} {A : Nat → Prop} {S : US} {G0 G : GS} {rcE : GS → Nat → Int32 → Option (Option Nat × GS)} {rcU : GS → Nat → Int32 → Option (Nat × GS)}
theorem uzX5_5_number {p1 : Int32} {p2 : Int32} (E : ME p m c cc nL s args RX5 D clW ct) (hZ : YC ct R s (mA 26 ad G0) G0) (hY : YW D clW ckH ct 26 ad P (mA 26 ad G0) S 0 G0 G H) (hS : va_S (mA 26 ad G0) s.heap H locs) (hxt : ∀ x ∈ c.exceptionTable.toList, False) (hlk : meth.locks = false) (hR : 6 + 1 ≤ R.frames ∧ 8 + (4 + 11) + 173 ≤ R.locals) (hsize : ls.size = nL) (hW : (rest.map fun v => v.category).sum ≤ 8) (hdg : decode cc pc = .ok (.invokevirtual 139, 3)) : X p l e R s m args below meth c H locs (G.2.1 - G0.2.1) (G.2.2 - G0.2.2) (uQ below args s D ct ad P S G0) (hC G.1 q0 4 (u5_number ct ad P S G q0 p1 p2)) (F0 m pc ls (.int p2 :: .int p1 :: .ref q0 :: rest)) := X.hC fun fs bw hq => uy_end hZ hY hS hxt hlk (fun o ho => rtV (As := [.int p1, .int p2]) E hY.1.any (recvA E.2.1 hY.1.1.2.1 hq rfl) (by rw [hY.1.2.1]; exact mU5_number l D ct ad P S G q0 p1 p2 o ho) (cwV 2 E.1.2.2.2.2 (lw_V q1230 q1232 qs21 q124 q1233) rfl rfl rfl (by decide +kernel) hR) rfl hsize rfl hW hdg (hY.room hZ))
end VZ

set_option maxHeartbeats 4000000 in
theorem mY5_part (l : Launch) (D : va_G) (ct : CT) (ad : Nat → Nat) (P : Nat → Nat → Option Nat) (S : US) (n : Nat) (rcE : GS → Nat → Int32 → Option (Option Nat × GS)) (hrc : ∀ (G : GS) (q : Nat) (p : Int32) (o : Option Nat × GS), rcE G q p = some o → EMet l D ct ad P S n G q p o) (G0 : GS) (q0 : Nat) (p1 : Int32) (o : ((Option Nat) × GS)) (ho : s5_part ct ad P S rcE G0 q0 p1 = some o) : Met l yX5_part (ws_ yX5_part cX5_part 3 (some (.object "HorizonSeam$Form"))) { frames := 8 * n + 41, cells := nmax ct - G0.2.1, slots := zmax ct - G0.2.2, locals := 200 * n + 622 } (mP D clW ct [.ref q0, .int p1] G0.2.1 (MW D clW ckH ct 26 ad P (fun _ => True) S 0 G0)) (yC (some (va_rf o.1)) (MW D clW ckH ct 26 ad P (mA 26 ad G0) S 0 o.2) G0 o.2 (mA 26 ad G0)) (nmax ct - G0.2.1) (zmax ct - G0.2.2) (mA 26 ad G0) := by
  refine Y.start (val := fun (o : ((Option Nat) × GS)) => some (va_rf o.1)) (Bt := fun (o : ((Option Nat) × GS)) => MW D clW ckH ct 26 ad P (mA 26 ad G0) S 0 o.2) (Go := fun (o : ((Option Nat) × GS)) => o.2) ho (by decide) (Nat.le_of_ble_eq_true rfl) (lv := [(0, .ref q0), (1, .int p1)]) rfl ?_
  intro p e s m args below meth c E hr hlk hnm hZ hU hS ls hl
  obtain ⟨⟨hx, hb, hml, hown, hts⟩, hK, hJ⟩ := id E
  replace hr : meth.sig.returnType = some (FieldType.object "HorizonSeam$Form") ∧ ((∃ n, (FieldType.object "HorizonSeam$Form") = .object n) ∨ ∃ t, (FieldType.object "HorizonSeam$Form") = .array t) := ⟨hr, Or.inl ⟨_, rfl⟩⟩
  unfold s5_part
  refine x_aload_n hx hb dX5_part_0 rfl (lv_at hl 0 rfl) ?_
  refine fx_getI E hU.1.1.2.1 (ci := 4) rfl in_X5 6 (by decide) (hts _ q795) (fun _ h => h) dX5_part_1 (fun v1 => ?_)
  refine x_iconst (v := 2) hx hb dX5_part_4 (by decide) ?_
  refine x_icmp_ne (tgt := 24) hx hb dX5_part_5 (by decide) (fun hc => ?_) (fun hc => ?_)
  · refine x_aload_n hx hb dX5_part_24 rfl (lv_at hl 0 rfl) ?_
    refine x_bipush (v := 40) hx hb dX5_part_25 (by decide) ?_
    refine kzX5_5_isSign E hZ hU hS ⟨by show 1 + 1 ≤ 8 * n + 41; omega, by show 8 + (2 + 11) + 60 ≤ 200 * n + 622; omega⟩ hl.1 (Nat.le_of_ble_eq_true rfl) dX5_part_27 (fun o2 H locs hU hS => ?_)
    refine x_if_eq (tgt := 62) hx hb dX5_part_30 (by decide) (fun hc => ?_) (fun hc => ?_)
    · refine x_aload_n hx hb dX5_part_62 rfl (lv_at hl 0 rfl) ?_
      refine x_aload_n hx hb dX5_part_63 rfl (lv_at hl 0 rfl) ?_
      refine fx_getI E hU.1.1.2.1 (ci := 4) rfl in_X5 6 (by decide) (hts _ q795) (fun _ h => h) dX5_part_64 (fun v3 => ?_)
      refine x_iconst (v := 1) hx hb dX5_part_67 (by decide) ?_
      refine X.join2Y (fun (x : Int32) g H locs => YW D clW ckH ct 26 ad P (mA 26 ad G0) S 0 G0 o2.2 H ∧ va_S (mA 26 ad G0) s.heap H locs ∧ ∃ ls : Array Slot, g = F0 m 76 ls [.int x, .ref q0] ∧ lv_has ls 3 [(0, .ref q0)]) (fun (x : Int32) => o2.2.2.1 - G0.2.1) (fun (x : Int32) => o2.2.2.2 - G0.2.2) ?_ (fun j5 hj5 => ?_)
      · rintro y4 _ H locs ⟨hU, hS, ls, rfl, hl⟩
        refine X.cs (cells2 := o2.2.2.1 - G0.2.1) (slots2 := o2.2.2.2 - G0.2.2) rfl rfl ?_
        refine X.eqs (sp2 := s5_part_J76 q0 S P ad ct o2 y4) rfl ?_
        unfold s5_part_J76
        refine x_iconst (v := 1) hx hb dX5_part_76 (by decide) ?_
        refine kzX5_5_want E hZ hU hS ⟨by show 4 + 1 ≤ 8 * n + 41; omega, by show 8 + (3 + 11) + (129) ≤ 200 * n + 622; omega⟩ hl.1 (Nat.le_of_ble_eq_true rfl) dX5_part_77 (fun o6 H locs hU hS => ?_)
        refine x_aload_n hx hb dX5_part_80 rfl (lv_at hl 0 rfl) ?_
        refine x_aload_n hx hb dX5_part_81 rfl (lv_at hl 0 rfl) ?_
        refine fx_getR E hU.1.1.2.1 (ci := 4) rfl in_X5 4 (by decide) (hts _ q793) (fun _ h => h) dX5_part_82 (fun r7 => ?_)
        refine kzX5_5_which E hZ hU hS ⟨by show 6 + 1 ≤ 8 * n + 41; omega, by show 8 + (3 + 11) + 147 ≤ 200 * n + 622; omega⟩ hl.1 (Nat.le_of_ble_eq_true rfl) dX5_part_85 (fun o8 H locs hU hS => ?_)
        refine x_istore_n (lv' := [(2, .int o8.1), (0, .ref q0)]) hx hb dX5_part_88 rfl hl (by decide) rfl (fun ls hl => ?_)
        refine x_aload_n hx hb dX5_part_89 rfl (lv_at hl 1 rfl) ?_
        refine x_iload_n hx hb dX5_part_90 rfl (lv_at hl 0 rfl) ?_
        refine x_iconst (v := -1) hx hb dX5_part_91 (by decide) ?_
        refine x_icmp_eq (tgt := 99) hx hb dX5_part_92 (by decide) (fun hc => ?_) (fun hc => ?_)
        · refine x_iconst (v := 0) hx hb dX5_part_99 (by decide) ?_
          refine x_iconst (v := 3) hx hb dX5_part_100 (by decide) ?_
          refine kzX5_5_want E hZ hU hS ⟨by show 4 + 1 ≤ 8 * n + 41; omega, by show 8 + (3 + 11) + (129) ≤ 200 * n + 622; omega⟩ hl.1 (Nat.le_of_ble_eq_true rfl) dX5_part_101 (fun o9 H locs hU hS => ?_)
          refine x_aload_n hx hb dX5_part_104 rfl (lv_at hl 1 rfl) ?_
          refine kzX5_5_next E hZ hU hS ⟨by show 5 + 1 ≤ 8 * n + 41; omega, by show 8 + (1 + 11) + 131 ≤ 200 * n + 622; omega⟩ hl.1 (Nat.le_of_ble_eq_true rfl) dX5_part_105 (fun o10 H locs hU hS => ?_)
          refine gy_new (ty := tyX9) E hZ hU hS in_X9 tyX9_ok (hts _ q1275) (hts _ q1276) (hts _ q142) (ci := 8) rfl (by decide) dX5_part_108 (fun q11 G12 H hU hS => ?_)
          refine x_dup hx hb dX5_part_111 rfl ?_
          refine x_iload_n hx hb dX5_part_112 rfl (lv_at hl 0 rfl) ?_
          refine kzX5_9_init E hZ hU hS ⟨by show 1 + 1 ≤ 8 * n + 41; omega, by show 8 + (2 + 11) + 60 ≤ 200 * n + 622; omega⟩ hl.1 (Nat.le_of_ble_eq_true rfl) dX5_part_113 (fun o13 H locs hU hS => ?_)
          exact y_aret (r := (some q11)) hx hb hr hlk hZ hU hS rfl rfl hU.1 dX5_part_116
        · refine x_iconst (v := 1) hx hb dX5_part_95 (by decide) ?_
          refine x_goto (tgt := 100) hx hb dX5_part_96 (by decide) ?_
          refine x_iconst (v := 3) hx hb dX5_part_100 (by decide) ?_
          refine kzX5_5_want E hZ hU hS ⟨by show 4 + 1 ≤ 8 * n + 41; omega, by show 8 + (3 + 11) + (129) ≤ 200 * n + 622; omega⟩ hl.1 (Nat.le_of_ble_eq_true rfl) dX5_part_101 (fun o14 H locs hU hS => ?_)
          refine x_aload_n hx hb dX5_part_104 rfl (lv_at hl 1 rfl) ?_
          refine kzX5_5_next E hZ hU hS ⟨by show 5 + 1 ≤ 8 * n + 41; omega, by show 8 + (1 + 11) + 131 ≤ 200 * n + 622; omega⟩ hl.1 (Nat.le_of_ble_eq_true rfl) dX5_part_105 (fun o15 H locs hU hS => ?_)
          refine gy_new (ty := tyX9) E hZ hU hS in_X9 tyX9_ok (hts _ q1275) (hts _ q1276) (hts _ q142) (ci := 8) rfl (by decide) dX5_part_108 (fun q16 G17 H hU hS => ?_)
          refine x_dup hx hb dX5_part_111 rfl ?_
          refine x_iload_n hx hb dX5_part_112 rfl (lv_at hl 0 rfl) ?_
          refine kzX5_9_init E hZ hU hS ⟨by show 1 + 1 ≤ 8 * n + 41; omega, by show 8 + (2 + 11) + 60 ≤ 200 * n + 622; omega⟩ hl.1 (Nat.le_of_ble_eq_true rfl) dX5_part_113 (fun o18 H locs hU hS => ?_)
          exact y_aret (r := (some q16)) hx hb hr hlk hZ hU hS rfl rfl hU.1 dX5_part_116
      · refine x_icmp_ne (tgt := 75) hx hb dX5_part_68 (by decide) (fun hc => ?_) (fun hc => ?_)
        · refine x_iconst (v := 0) hx hb dX5_part_75 (by decide) ?_
          exact hj5 (0 : Int32) _ _ _ ⟨hU, hS, _, rfl, lv_sub hl [0] rfl⟩
        · refine x_iconst (v := 1) hx hb dX5_part_71 (by decide) ?_
          refine x_goto (tgt := 76) hx hb dX5_part_72 (by decide) ?_
          exact hj5 (1 : Int32) _ _ _ ⟨hU, hS, _, rfl, lv_sub hl [0] rfl⟩
    · refine x_aload_n hx hb dX5_part_33 rfl (lv_at hl 0 rfl) ?_
      refine kzX5_5_next E hZ hU hS ⟨by show 5 + 1 ≤ 8 * n + 41; omega, by show 8 + (1 + 11) + 131 ≤ 200 * n + 622; omega⟩ hl.1 (Nat.le_of_ble_eq_true rfl) dX5_part_34 (fun o19 H locs hU hS => ?_)
      refine x_aload_n hx hb dX5_part_37 rfl (lv_at hl 0 rfl) ?_
      refine x_iload_n hx hb dX5_part_38 rfl (lv_at hl 1 rfl) ?_
      refine x_iconst (v := 1) hx hb dX5_part_39 (by decide) ?_
      refine x_iadd hx hb dX5_part_40 ?_
      refine kzE (n := n) hrc E hZ hU hS ⟨by show 8 * n + 40 + 1 ≤ 8 * n + 41; omega, by show 8 + (3 + 11) + (200 * n + 600) ≤ 200 * n + 622; omega⟩ hl.1 (Nat.le_of_ble_eq_true rfl) dX5_part_41 (fun o20 H locs hU hS => ?_)
      refine X.onR (fun b21 hb_ => ?_)
      rw [hb_]
      try rw [hb_] at hl
      refine x_astore_n (lv' := [(2, .ref b21), (0, .ref q0), (1, .int p1)]) hx hb dX5_part_44 rfl hl (by decide) rfl (fun ls hl => ?_)
      refine x_aload_n hx hb dX5_part_45 rfl (lv_at hl 1 rfl) ?_
      refine x_aload_n hx hb dX5_part_46 rfl (lv_at hl 1 rfl) ?_
      refine x_bipush (v := 41) hx hb dX5_part_47 (by decide) ?_
      refine kzX5_5_isSign E hZ hU hS ⟨by show 1 + 1 ≤ 8 * n + 41; omega, by show 8 + (2 + 11) + 60 ≤ 200 * n + 622; omega⟩ hl.1 (Nat.le_of_ble_eq_true rfl) dX5_part_49 (fun o22 H locs hU hS => ?_)
      refine x_iconst (v := 1) hx hb dX5_part_52 (by decide) ?_
      refine kzX5_5_want E hZ hU hS ⟨by show 4 + 1 ≤ 8 * n + 41; omega, by show 8 + (3 + 11) + (129) ≤ 200 * n + 622; omega⟩ hl.1 (Nat.le_of_ble_eq_true rfl) dX5_part_53 (fun o23 H locs hU hS => ?_)
      refine x_aload_n hx hb dX5_part_56 rfl (lv_at hl 1 rfl) ?_
      refine kzX5_5_next E hZ hU hS ⟨by show 5 + 1 ≤ 8 * n + 41; omega, by show 8 + (1 + 11) + 131 ≤ 200 * n + 622; omega⟩ hl.1 (Nat.le_of_ble_eq_true rfl) dX5_part_57 (fun o24 H locs hU hS => ?_)
      refine x_aload_n hx hb dX5_part_60 rfl (lv_at hl 0 rfl) ?_
      exact y_aret (r := (some b21)) hx hb hr hlk hZ hU hS rfl rfl hU.1 dX5_part_61
  · refine gy_new (ty := tyX8) E hZ hU hS in_X8 tyX8_ok (hts _ q1265) (hts _ q1266) (hts _ q141) (ci := 7) rfl (by decide) dX5_part_8 (fun q25 G26 H hU hS => ?_)
    refine x_dup hx hb dX5_part_11 rfl ?_
    refine x_aload_n hx hb dX5_part_12 rfl (lv_at hl 0 rfl) ?_
    refine x_iconst (v := 0) hx hb dX5_part_13 (by decide) ?_
    refine x_sipush (v := 9999) hx hb dX5_part_14 (by decide) ?_
    refine kzX5_5_number E hZ hU hS ⟨by show 6 + 1 ≤ 8 * n + 41; omega, by show 8 + (4 + 11) + (173) ≤ 200 * n + 622; omega⟩ hl.1 (Nat.le_of_ble_eq_true rfl) dX5_part_17 (fun o27 H locs hU hS => ?_)
    refine kzX5_8_init E hZ hU hS ⟨by show 1 + 1 ≤ 8 * n + 41; omega, by show 8 + (2 + 11) + 60 ≤ 200 * n + 622; omega⟩ hl.1 (Nat.le_of_ble_eq_true rfl) dX5_part_20 (fun o28 H locs hU hS => ?_)
    exact y_aret (r := (some q25)) hx hb hr hlk hZ hU hS rfl rfl hU.1 dX5_part_23
section VZ
variable {ρ : Type} {p : Program} {l : Launch} {e : Env} {R : Room} {s : State} {m : MethodId} {args : Array Value} {below : List Frame} {meth : Method} {c : Code} {H : Heap} {locs : List Loc} {Qf : ρ → State → Prop}
variable {cc : ByteArray} {pc nL q0 n : Nat} {ls : Array Slot} {rest : List Value}
variable {D : va_G} {ct : CT} {ad : Nat → Nat} {P : Nat → Nat → Option Nat} {A : Nat → Prop} {S : US} {G0 G : GS} {rcE : GS → Nat → Int32 → Option (Option Nat × GS)} {rcU : GS → Nat → Int32 → Option (Nat × GS)}
theorem kzX5_5_part {p1 : Int32} {n : Nat} (hrc : ∀ (G : GS) (q : Nat) (p : Int32) (o : Option Nat × GS), rcE G q p = some o → EMet l D ct ad P S n G q p o) (E : ME p m c cc nL s args RX5 D clW ct) (hZ : YC ct R s A G0) (hY : YW D clW ckH ct 26 ad P A S 0 G0 G H) (hS : va_S A s.heap H locs) (hR : 8 * n + 41 + 1 ≤ R.frames ∧ 8 + (3 + 11) + (200 * n + 622) ≤ R.locals) (hsize : ls.size = nL) (hW : (rest.map fun v => v.category).sum ≤ 8) (hdg : decode cc pc = .ok (.invokevirtual 159, 3)) {kp : ((Option Nat) × GS) → Option ρ} (kk : ∀ (o : ((Option Nat) × GS)) (H1 : Heap) (locs1 : List Loc), YW D clW ckH ct 26 ad P A S 0 G0 o.2 H1 → va_S A s.heap H1 locs1 → X p l e R s m args below meth c H1 locs1 (o.2.2.1 - G0.2.1) (o.2.2.2 - G0.2.2) Qf (kp o) (F0 m (pc + 3) ls (va_rf o.1 :: rest))) : X p l e R s m args below meth c H locs (G.2.1 - G0.2.1) (G.2.2 - G0.2.2) Qf (hC G.1 q0 4 (callK (s5_part ct ad P S rcE G q0 p1) kp)) (F0 m pc ls (.int p1 :: .ref q0 :: rest)) := X.hC fun fs bw hq => gy_mx (val' := fun (o : ((Option Nat) × GS)) => some (va_rf o.1)) (len := 3) (So := fun (o : ((Option Nat) × GS)) => S) (Po := fun (o : ((Option Nat) × GS)) => P) (Gn := fun (o : ((Option Nat) × GS)) => o.2) hZ hY hS (fun o ho => rqV (As := [.int p1]) E hY.1.any (recvA E.2.1 hY.1.1.2.1 hq rfl) (by rw [hY.1.2.1]; exact mY5_part l D ct ad P S n rcE hrc G q0 p1 o ho) (cwV 1 E.1.2.2.2.2 (lw_V q1261 q1263 qs28 q124 q1264) rfl rfl rfl (by decide +kernel) hR) rfl hsize rfl hW hdg (hY.room hZ)) kk
end VZ

set_option maxHeartbeats 4000000 in
theorem mU5_part (l : Launch) (D : va_G) (ct : CT) (ad : Nat → Nat) (P : Nat → Nat → Option Nat) (S : US) (n : Nat) (rcE : GS → Nat → Int32 → Option (Option Nat × GS)) (hrc : ∀ (G : GS) (q : Nat) (p : Int32) (o : Option Nat × GS), rcE G q p = some o → EMet l D ct ad P S n G q p o) (rcU : GS → Nat → Int32 → Option (Nat × GS)) (hrcU : ∀ (G : GS) (q : Nat) (p : Int32) (o : Nat × GS), rcU G q p = some o → EThr l D ct ad P S n G q p o) (G0 : GS) (q0 : Nat) (p1 : Int32) (o : Nat × GS) (ho : u5_part ct ad P S rcE rcU G0 q0 p1 = some o) : vx_Met l yX5_part (ws_ yX5_part cX5_part 3 (some (.object "HorizonSeam$Form"))) { frames := 8 * n + 41, cells := nmax ct - G0.2.1, slots := zmax ct - G0.2.2, locals := 200 * n + 622 } (mP D clW ct [.ref q0, .int p1] G0.2.1 (MW D clW ckH ct 26 ad P (fun _ => True) S 0 G0)) nQ (uX D ct ad P S G0 o) (nmax ct - G0.2.1) (zmax ct - G0.2.2) (mA 26 ad G0) := by
  refine U.start ho (by decide) (Nat.le_of_ble_eq_true rfl) (lv := [(0, .ref q0), (1, .int p1)]) rfl ?_
  intro p e s m args below meth c E hlk hxt hZ hU hS ls hl
  obtain ⟨⟨hx, hb, hml, hown, hts⟩, hK, hJ⟩ := id E
  unfold u5_part
  refine x_aload_n hx hb dX5_part_0 rfl (lv_at hl 0 rfl) ?_
  refine fx_getI E hU.1.1.2.1 (ci := 4) rfl in_X5 6 (by decide) (hts _ q795) (fun _ h => h) dX5_part_1 (fun v1 => ?_)
  refine x_iconst (v := 2) hx hb dX5_part_4 (by decide) ?_
  refine x_icmp_ne (tgt := 24) hx hb dX5_part_5 (by decide) (fun hc => ?_) (fun hc => ?_)
  · refine x_aload_n hx hb dX5_part_24 rfl (lv_at hl 0 rfl) ?_
    refine x_bipush (v := 40) hx hb dX5_part_25 (by decide) ?_
    refine kzX5_5_isSign E hZ hU hS ⟨by show 1 + 1 ≤ 8 * n + 41; omega, by show 8 + (2 + 11) + 60 ≤ 200 * n + 622; omega⟩ hl.1 (Nat.le_of_ble_eq_true rfl) dX5_part_27 (fun o2 H locs hU hS => ?_)
    refine x_if_eq (tgt := 62) hx hb dX5_part_30 (by decide) (fun hc => ?_) (fun hc => ?_)
    · refine x_aload_n hx hb dX5_part_62 rfl (lv_at hl 0 rfl) ?_
      refine x_aload_n hx hb dX5_part_63 rfl (lv_at hl 0 rfl) ?_
      refine fx_getI E hU.1.1.2.1 (ci := 4) rfl in_X5 6 (by decide) (hts _ q795) (fun _ h => h) dX5_part_64 (fun v3 => ?_)
      refine x_iconst (v := 1) hx hb dX5_part_67 (by decide) ?_
      refine X.join2Y (fun (x : Int32) g H locs => YW D clW ckH ct 26 ad P (mA 26 ad G0) S 0 G0 o2.2 H ∧ va_S (mA 26 ad G0) s.heap H locs ∧ ∃ ls : Array Slot, g = F0 m 76 ls [.int x, .ref q0] ∧ lv_has ls 3 [(0, .ref q0)]) (fun (x : Int32) => o2.2.2.1 - G0.2.1) (fun (x : Int32) => o2.2.2.2 - G0.2.2) ?_ (fun j5 hj5 => ?_)
      · rintro y4 _ H locs ⟨hU, hS, ls, rfl, hl⟩
        refine X.cs (cells2 := o2.2.2.1 - G0.2.1) (slots2 := o2.2.2.2 - G0.2.2) rfl rfl ?_
        refine X.eqs (sp2 := u5_part_J76 q0 S P ad ct o2 y4) rfl ?_
        unfold u5_part_J76
        refine x_iconst (v := 1) hx hb dX5_part_76 (by decide) ?_
        refine X.tB (uzX5_5_want E hZ hU hS hxt hlk ⟨by show 4 + 1 ≤ 8 * n + 41; omega, by show 8 + (3 + 11) + (129) ≤ 200 * n + 622; omega⟩ hl.1 (Nat.le_of_ble_eq_true rfl) dX5_part_77) ?_
        refine kzX5_5_want E hZ hU hS ⟨by show 4 + 1 ≤ 8 * n + 41; omega, by show 8 + (3 + 11) + (129) ≤ 200 * n + 622; omega⟩ hl.1 (Nat.le_of_ble_eq_true rfl) dX5_part_77 (fun o6 H locs hU hS => ?_)
        refine x_aload_n hx hb dX5_part_80 rfl (lv_at hl 0 rfl) ?_
        refine x_aload_n hx hb dX5_part_81 rfl (lv_at hl 0 rfl) ?_
        refine fx_getR E hU.1.1.2.1 (ci := 4) rfl in_X5 4 (by decide) (hts _ q793) (fun _ h => h) dX5_part_82 (fun r7 => ?_)
        refine kzX5_5_which E hZ hU hS ⟨by show 6 + 1 ≤ 8 * n + 41; omega, by show 8 + (3 + 11) + 147 ≤ 200 * n + 622; omega⟩ hl.1 (Nat.le_of_ble_eq_true rfl) dX5_part_85 (fun o8 H locs hU hS => ?_)
        refine x_istore_n (lv' := [(2, .int o8.1), (0, .ref q0)]) hx hb dX5_part_88 rfl hl (by decide) rfl (fun ls hl => ?_)
        refine x_aload_n hx hb dX5_part_89 rfl (lv_at hl 1 rfl) ?_
        refine x_iload_n hx hb dX5_part_90 rfl (lv_at hl 0 rfl) ?_
        refine x_iconst (v := -1) hx hb dX5_part_91 (by decide) ?_
        refine x_icmp_eq (tgt := 99) hx hb dX5_part_92 (by decide) (fun hc => ?_) (fun hc => ?_)
        · refine x_iconst (v := 0) hx hb dX5_part_99 (by decide) ?_
          refine x_iconst (v := 3) hx hb dX5_part_100 (by decide) ?_
          exact uzX5_5_want E hZ hU hS hxt hlk ⟨by show 4 + 1 ≤ 8 * n + 41; omega, by show 8 + (3 + 11) + (129) ≤ 200 * n + 622; omega⟩ hl.1 (Nat.le_of_ble_eq_true rfl) dX5_part_101
        · refine x_iconst (v := 1) hx hb dX5_part_95 (by decide) ?_
          refine x_goto (tgt := 100) hx hb dX5_part_96 (by decide) ?_
          refine x_iconst (v := 3) hx hb dX5_part_100 (by decide) ?_
          exact uzX5_5_want E hZ hU hS hxt hlk ⟨by show 4 + 1 ≤ 8 * n + 41; omega, by show 8 + (3 + 11) + (129) ≤ 200 * n + 622; omega⟩ hl.1 (Nat.le_of_ble_eq_true rfl) dX5_part_101
      · refine x_icmp_ne (tgt := 75) hx hb dX5_part_68 (by decide) (fun hc => ?_) (fun hc => ?_)
        · refine x_iconst (v := 0) hx hb dX5_part_75 (by decide) ?_
          exact hj5 (0 : Int32) _ _ _ ⟨hU, hS, _, rfl, lv_sub hl [0] rfl⟩
        · refine x_iconst (v := 1) hx hb dX5_part_71 (by decide) ?_
          refine x_goto (tgt := 76) hx hb dX5_part_72 (by decide) ?_
          exact hj5 (1 : Int32) _ _ _ ⟨hU, hS, _, rfl, lv_sub hl [0] rfl⟩
    · refine x_aload_n hx hb dX5_part_33 rfl (lv_at hl 0 rfl) ?_
      refine kzX5_5_next E hZ hU hS ⟨by show 5 + 1 ≤ 8 * n + 41; omega, by show 8 + (1 + 11) + 131 ≤ 200 * n + 622; omega⟩ hl.1 (Nat.le_of_ble_eq_true rfl) dX5_part_34 (fun o9 H locs hU hS => ?_)
      refine x_aload_n hx hb dX5_part_37 rfl (lv_at hl 0 rfl) ?_
      refine x_iload_n hx hb dX5_part_38 rfl (lv_at hl 1 rfl) ?_
      refine x_iconst (v := 1) hx hb dX5_part_39 (by decide) ?_
      refine x_iadd hx hb dX5_part_40 ?_
      refine X.tB (uzE (n := n) hrcU E hZ hU hS hxt hlk ⟨by show 8 * n + 40 + 1 ≤ 8 * n + 41; omega, by show 8 + (3 + 11) + (200 * n + 600) ≤ 200 * n + 622; omega⟩ hl.1 (Nat.le_of_ble_eq_true rfl) dX5_part_41) ?_
      refine kzE (n := n) hrc E hZ hU hS ⟨by show 8 * n + 40 + 1 ≤ 8 * n + 41; omega, by show 8 + (3 + 11) + (200 * n + 600) ≤ 200 * n + 622; omega⟩ hl.1 (Nat.le_of_ble_eq_true rfl) dX5_part_41 (fun o10 H locs hU hS => ?_)
      refine X.onR (fun b11 hb_ => ?_)
      rw [hb_]
      try rw [hb_] at hl
      refine x_astore_n (lv' := [(2, .ref b11), (0, .ref q0), (1, .int p1)]) hx hb dX5_part_44 rfl hl (by decide) rfl (fun ls hl => ?_)
      refine x_aload_n hx hb dX5_part_45 rfl (lv_at hl 1 rfl) ?_
      refine x_aload_n hx hb dX5_part_46 rfl (lv_at hl 1 rfl) ?_
      refine x_bipush (v := 41) hx hb dX5_part_47 (by decide) ?_
      refine kzX5_5_isSign E hZ hU hS ⟨by show 1 + 1 ≤ 8 * n + 41; omega, by show 8 + (2 + 11) + 60 ≤ 200 * n + 622; omega⟩ hl.1 (Nat.le_of_ble_eq_true rfl) dX5_part_49 (fun o12 H locs hU hS => ?_)
      refine x_iconst (v := 1) hx hb dX5_part_52 (by decide) ?_
      exact uzX5_5_want E hZ hU hS hxt hlk ⟨by show 4 + 1 ≤ 8 * n + 41; omega, by show 8 + (3 + 11) + (129) ≤ 200 * n + 622; omega⟩ hl.1 (Nat.le_of_ble_eq_true rfl) dX5_part_53
  · refine gy_new (ty := tyX8) E hZ hU hS in_X8 tyX8_ok (hts _ q1265) (hts _ q1266) (hts _ q141) (ci := 7) rfl (by decide) dX5_part_8 (fun q13 G14 H hU hS => ?_)
    refine x_dup hx hb dX5_part_11 rfl ?_
    refine x_aload_n hx hb dX5_part_12 rfl (lv_at hl 0 rfl) ?_
    refine x_iconst (v := 0) hx hb dX5_part_13 (by decide) ?_
    refine x_sipush (v := 9999) hx hb dX5_part_14 (by decide) ?_
    exact uzX5_5_number E hZ hU hS hxt hlk ⟨by show 6 + 1 ≤ 8 * n + 41; omega, by show 8 + (4 + 11) + (173) ≤ 200 * n + 622; omega⟩ hl.1 (Nat.le_of_ble_eq_true rfl) dX5_part_17
section VZ
variable {ρ : Type} {p : Program} {l : Launch} {e : Env} {R : Room} {s : State} {m : MethodId} {args : Array Value} {below : List Frame} {meth : Method} {c : Code} {H : Heap} {locs : List Loc} {Qf : ρ → State → Prop}
variable {cc : ByteArray} {pc nL q0 n : Nat} {ls : Array Slot} {rest : List Value}
variable {D : va_G} {ct : CT} {ad : Nat → Nat} {P : Nat → Nat → Option Nat} {A : Nat → Prop} {S : US} {G0 G : GS} {rcE : GS → Nat → Int32 → Option (Option Nat × GS)} {rcU : GS → Nat → Int32 → Option (Nat × GS)}
theorem uzX5_5_part {p1 : Int32} {n : Nat} (hrc : ∀ (G : GS) (q : Nat) (p : Int32) (o : Option Nat × GS), rcE G q p = some o → EMet l D ct ad P S n G q p o) (hrcU : ∀ (G : GS) (q : Nat) (p : Int32) (o : Nat × GS), rcU G q p = some o → EThr l D ct ad P S n G q p o) (E : ME p m c cc nL s args RX5 D clW ct) (hZ : YC ct R s (mA 26 ad G0) G0) (hY : YW D clW ckH ct 26 ad P (mA 26 ad G0) S 0 G0 G H) (hS : va_S (mA 26 ad G0) s.heap H locs) (hxt : ∀ x ∈ c.exceptionTable.toList, False) (hlk : meth.locks = false) (hR : 8 * n + 41 + 1 ≤ R.frames ∧ 8 + (3 + 11) + (200 * n + 622) ≤ R.locals) (hsize : ls.size = nL) (hW : (rest.map fun v => v.category).sum ≤ 8) (hdg : decode cc pc = .ok (.invokevirtual 159, 3)) : X p l e R s m args below meth c H locs (G.2.1 - G0.2.1) (G.2.2 - G0.2.2) (uQ below args s D ct ad P S G0) (hC G.1 q0 4 (u5_part ct ad P S rcE rcU G q0 p1)) (F0 m pc ls (.int p1 :: .ref q0 :: rest)) := X.hC fun fs bw hq => uy_end hZ hY hS hxt hlk (fun o ho => rtV (As := [.int p1]) E hY.1.any (recvA E.2.1 hY.1.1.2.1 hq rfl) (by rw [hY.1.2.1]; exact mU5_part l D ct ad P S n rcE hrc rcU hrcU G q0 p1 o ho) (cwV 1 E.1.2.2.2.2 (lw_V q1261 q1263 qs28 q124 q1264) rfl rfl rfl (by decide +kernel) hR) rfl hsize rfl hW hdg (hY.room hZ))
end VZ

set_option maxHeartbeats 4000000 in
theorem mY5_product (l : Launch) (D : va_G) (ct : CT) (ad : Nat → Nat) (P : Nat → Nat → Option Nat) (S : US) (n : Nat) (rcE : GS → Nat → Int32 → Option (Option Nat × GS)) (hrc : ∀ (G : GS) (q : Nat) (p : Int32) (o : Option Nat × GS), rcE G q p = some o → EMet l D ct ad P S n G q p o) (G0 : GS) (q0 : Nat) (p1 : Int32) (o : ((Option Nat) × GS)) (ho : s5_product ct ad P S rcE G0 q0 p1 = some o) : Met l yX5_product (ws_ yX5_product cX5_product 4 (some (.object "HorizonSeam$Form"))) { frames := 8 * n + 42, cells := nmax ct - G0.2.1, slots := zmax ct - G0.2.2, locals := 200 * n + 644 } (mP D clW ct [.ref q0, .int p1] G0.2.1 (MW D clW ckH ct 26 ad P (fun _ => True) S 0 G0)) (yC (some (va_rf o.1)) (MW D clW ckH ct 26 ad P (mA 26 ad G0) S 0 o.2) G0 o.2 (mA 26 ad G0)) (nmax ct - G0.2.1) (zmax ct - G0.2.2) (mA 26 ad G0) := by
  refine Y.start (val := fun (o : ((Option Nat) × GS)) => some (va_rf o.1)) (Bt := fun (o : ((Option Nat) × GS)) => MW D clW ckH ct 26 ad P (mA 26 ad G0) S 0 o.2) (Go := fun (o : ((Option Nat) × GS)) => o.2) ho (by decide) (Nat.le_of_ble_eq_true rfl) (lv := [(0, .ref q0), (1, .int p1)]) rfl ?_
  intro p e s m args below meth c E hr hlk hnm hZ hU hS ls hl
  obtain ⟨⟨hx, hb, hml, hown, hts⟩, hK, hJ⟩ := id E
  replace hr : meth.sig.returnType = some (FieldType.object "HorizonSeam$Form") ∧ ((∃ n, (FieldType.object "HorizonSeam$Form") = .object n) ∨ ∃ t, (FieldType.object "HorizonSeam$Form") = .array t) := ⟨hr, Or.inl ⟨_, rfl⟩⟩
  unfold s5_product
  refine gy_new (ty := tyX7) E hZ hU hS in_X7 tyX7_ok (hts _ q1242) (hts _ q1243) (hts _ q140) (ci := 6) rfl (by decide) dX5_product_0 (fun q1 G2 H hU hS => ?_)
  refine x_dup hx hb dX5_product_3 rfl ?_
  refine x_aload_n hx hb dX5_product_4 rfl (lv_at hl 0 rfl) ?_
  refine x_iload_n hx hb dX5_product_5 rfl (lv_at hl 1 rfl) ?_
  refine kzX5_5_part hrc E hZ hU hS ⟨by show 8 * n + 41 + 1 ≤ 8 * n + 42; omega, by show 8 + (3 + 11) + (200 * n + 622) ≤ 200 * n + 644; omega⟩ hl.1 (Nat.le_of_ble_eq_true rfl) dX5_product_6 (fun o3 H locs hU hS => ?_)
  refine kzX5_7_init E hZ hU hS ⟨by show 7 + 1 ≤ 8 * n + 42; omega, by show 8 + (2 + 11) + 191 ≤ 200 * n + 644; omega⟩ hl.1 (Nat.le_of_ble_eq_true rfl) dX5_product_9 (fun o4 H locs hU hS => ?_)
  refine x_astore_n (lv' := [(2, .ref q1), (0, .ref q0), (1, .int p1)]) hx hb dX5_product_12 rfl hl (by decide) rfl (fun ls hl => ?_)
  refine X.loopY (I := fun (x : GS) g H locs => YW D clW ckH ct 26 ad P (mA 26 ad G0) S 0 G0 x H ∧ va_S (mA 26 ad G0) s.heap H locs ∧ ∃ ls : Array Slot, g = F0 m 13 ls [] ∧ lv_has ls 4 [(0, .ref q0), (1, .int p1), (2, .ref q1)]) (cf := (fun (x : GS) => x.2.1 - G0.2.1)) (sf := (fun (x : GS) => x.2.2 - G0.2.2)) (fun rc6 ih6 => ?_) FUEL o4 _ _ _ ⟨hU, hS, _, rfl, lv_sub hl [1, 2, 0] rfl⟩
  rintro G5 _ H locs ⟨hU, hS, ls, rfl, hl⟩
  refine X.cs (cells2 := G5.2.1 - G0.2.1) (slots2 := G5.2.2 - G0.2.2) rfl rfl ?_
  refine X.eqs (sp2 := s5_product_L13 q0 p1 S P ad ct rcE q1 rc6 G5) rfl ?_
  unfold s5_product_L13
  refine x_aload_n hx hb dX5_product_13 rfl (lv_at hl 0 rfl) ?_
  refine x_bipush (v := 42) hx hb dX5_product_14 (by decide) ?_
  refine kzX5_5_isSign E hZ hU hS ⟨by show 1 + 1 ≤ 8 * n + 42; omega, by show 8 + (2 + 11) + 60 ≤ 200 * n + 644; omega⟩ hl.1 (Nat.le_of_ble_eq_true rfl) dX5_product_16 (fun o7 H locs hU hS => ?_)
  refine x_if_ne (tgt := 31) hx hb dX5_product_19 (by decide) (fun hc => ?_) (fun hc => ?_)
  · refine x_aload_n hx hb dX5_product_31 rfl (lv_at hl 0 rfl) ?_
    refine kzX5_5_sign E hZ hU hS ⟨by show 6 + 1 ≤ 8 * n + 42; omega, by show 8 + (2 + 11) + 151 ≤ 200 * n + 644; omega⟩ hl.1 (Nat.le_of_ble_eq_true rfl) dX5_product_32 (fun o8 H locs hU hS => ?_)
    refine x_istore_n (lv' := [(3, .int o8.1), (0, .ref q0), (1, .int p1), (2, .ref q1)]) hx hb dX5_product_35 rfl hl (by decide) rfl (fun ls hl => ?_)
    refine x_aload_n hx hb dX5_product_36 rfl (lv_at hl 3 rfl) ?_
    refine x_iload_n hx hb dX5_product_37 rfl (lv_at hl 0 rfl) ?_
    refine x_aload_n hx hb dX5_product_38 rfl (lv_at hl 1 rfl) ?_
    refine x_iload_n hx hb dX5_product_39 rfl (lv_at hl 2 rfl) ?_
    refine kzX5_5_part hrc E hZ hU hS ⟨by show 8 * n + 41 + 1 ≤ 8 * n + 42; omega, by show 8 + (3 + 11) + (200 * n + 622) ≤ 200 * n + 644; omega⟩ hl.1 (Nat.le_of_ble_eq_true rfl) dX5_product_40 (fun o9 H locs hU hS => ?_)
    refine kzX5_7_add E hZ hU hS ⟨by show 7 + 1 ≤ 8 * n + 42; omega, by show 8 + (3 + 11) + 191 ≤ 200 * n + 644; omega⟩ hl.1 (Nat.le_of_ble_eq_true rfl) dX5_product_43 (fun o10 H locs hU hS => ?_)
    refine x_goto (tgt := 13) hx hb dX5_product_46 (by decide) ?_
    exact ih6 o10 _ _ _ ⟨hU, hS, _, rfl, lv_sub hl [1, 2, 3] rfl⟩
  · refine x_aload_n hx hb dX5_product_22 rfl (lv_at hl 0 rfl) ?_
    refine x_bipush (v := 47) hx hb dX5_product_23 (by decide) ?_
    refine kzX5_5_isSign E hZ hU hS ⟨by show 1 + 1 ≤ 8 * n + 42; omega, by show 8 + (2 + 11) + 60 ≤ 200 * n + 644; omega⟩ hl.1 (Nat.le_of_ble_eq_true rfl) dX5_product_25 (fun o11 H locs hU hS => ?_)
    refine x_if_eq (tgt := 49) hx hb dX5_product_28 (by decide) (fun hc => ?_) (fun hc => ?_)
    · refine x_aload_n hx hb dX5_product_49 rfl (lv_at hl 2 rfl) ?_
      refine kzX5_7_plain E hZ hU hS ⟨by show 4 + 1 ≤ 8 * n + 42; omega, by show 8 + (1 + 11) + 104 ≤ 200 * n + 644; omega⟩ hl.1 (Nat.le_of_ble_eq_true rfl) dX5_product_50 (fun o12 H locs hU hS => ?_)
      exact y_aret (r := o12.1) hx hb hr hlk hZ hU hS rfl rfl hU.1 dX5_product_53
    · refine x_aload_n hx hb dX5_product_31 rfl (lv_at hl 0 rfl) ?_
      refine kzX5_5_sign E hZ hU hS ⟨by show 6 + 1 ≤ 8 * n + 42; omega, by show 8 + (2 + 11) + 151 ≤ 200 * n + 644; omega⟩ hl.1 (Nat.le_of_ble_eq_true rfl) dX5_product_32 (fun o13 H locs hU hS => ?_)
      refine x_istore_n (lv' := [(3, .int o13.1), (0, .ref q0), (1, .int p1), (2, .ref q1)]) hx hb dX5_product_35 rfl hl (by decide) rfl (fun ls hl => ?_)
      refine x_aload_n hx hb dX5_product_36 rfl (lv_at hl 3 rfl) ?_
      refine x_iload_n hx hb dX5_product_37 rfl (lv_at hl 0 rfl) ?_
      refine x_aload_n hx hb dX5_product_38 rfl (lv_at hl 1 rfl) ?_
      refine x_iload_n hx hb dX5_product_39 rfl (lv_at hl 2 rfl) ?_
      refine kzX5_5_part hrc E hZ hU hS ⟨by show 8 * n + 41 + 1 ≤ 8 * n + 42; omega, by show 8 + (3 + 11) + (200 * n + 622) ≤ 200 * n + 644; omega⟩ hl.1 (Nat.le_of_ble_eq_true rfl) dX5_product_40 (fun o14 H locs hU hS => ?_)
      refine kzX5_7_add E hZ hU hS ⟨by show 7 + 1 ≤ 8 * n + 42; omega, by show 8 + (3 + 11) + 191 ≤ 200 * n + 644; omega⟩ hl.1 (Nat.le_of_ble_eq_true rfl) dX5_product_43 (fun o15 H locs hU hS => ?_)
      refine x_goto (tgt := 13) hx hb dX5_product_46 (by decide) ?_
      exact ih6 o15 _ _ _ ⟨hU, hS, _, rfl, lv_sub hl [1, 2, 3] rfl⟩
section VZ
variable {ρ : Type} {p : Program} {l : Launch} {e : Env} {R : Room} {s : State} {m : MethodId} {args : Array Value} {below : List Frame} {meth : Method} {c : Code} {H : Heap} {locs : List Loc} {Qf : ρ → State → Prop}
variable {cc : ByteArray} {pc nL q0 n : Nat} {ls : Array Slot} {rest : List Value}
variable {D : va_G} {ct : CT} {ad : Nat → Nat} {P : Nat → Nat → Option Nat} {A : Nat → Prop} {S : US} {G0 G : GS} {rcE : GS → Nat → Int32 → Option (Option Nat × GS)} {rcU : GS → Nat → Int32 → Option (Nat × GS)}
theorem kzX5_5_product {p1 : Int32} {n : Nat} (hrc : ∀ (G : GS) (q : Nat) (p : Int32) (o : Option Nat × GS), rcE G q p = some o → EMet l D ct ad P S n G q p o) (E : ME p m c cc nL s args RX5 D clW ct) (hZ : YC ct R s A G0) (hY : YW D clW ckH ct 26 ad P A S 0 G0 G H) (hS : va_S A s.heap H locs) (hR : 8 * n + 42 + 1 ≤ R.frames ∧ 8 + (4 + 11) + (200 * n + 644) ≤ R.locals) (hsize : ls.size = nL) (hW : (rest.map fun v => v.category).sum ≤ 8) (hdg : decode cc pc = .ok (.invokevirtual 177, 3)) {kp : ((Option Nat) × GS) → Option ρ} (kk : ∀ (o : ((Option Nat) × GS)) (H1 : Heap) (locs1 : List Loc), YW D clW ckH ct 26 ad P A S 0 G0 o.2 H1 → va_S A s.heap H1 locs1 → X p l e R s m args below meth c H1 locs1 (o.2.2.1 - G0.2.1) (o.2.2.2 - G0.2.2) Qf (kp o) (F0 m (pc + 3) ls (va_rf o.1 :: rest))) : X p l e R s m args below meth c H locs (G.2.1 - G0.2.1) (G.2.2 - G0.2.2) Qf (hC G.1 q0 4 (callK (s5_product ct ad P S rcE G q0 p1) kp)) (F0 m pc ls (.int p1 :: .ref q0 :: rest)) := X.hC fun fs bw hq => gy_mx (val' := fun (o : ((Option Nat) × GS)) => some (va_rf o.1)) (len := 3) (So := fun (o : ((Option Nat) × GS)) => S) (Po := fun (o : ((Option Nat) × GS)) => P) (Gn := fun (o : ((Option Nat) × GS)) => o.2) hZ hY hS (fun o ho => rqV (As := [.int p1]) E hY.1.any (recvA E.2.1 hY.1.1.2.1 hq rfl) (by rw [hY.1.2.1]; exact mY5_product l D ct ad P S n rcE hrc G q0 p1 o ho) (cwV 1 E.1.2.2.2.2 (lw_V q1257 q1259 qs27 q124 q1260) rfl rfl rfl (by decide +kernel) hR) rfl hsize rfl hW hdg (hY.room hZ)) kk
end VZ

set_option maxHeartbeats 4000000 in
theorem mU5_product (l : Launch) (D : va_G) (ct : CT) (ad : Nat → Nat) (P : Nat → Nat → Option Nat) (S : US) (n : Nat) (rcE : GS → Nat → Int32 → Option (Option Nat × GS)) (hrc : ∀ (G : GS) (q : Nat) (p : Int32) (o : Option Nat × GS), rcE G q p = some o → EMet l D ct ad P S n G q p o) (rcU : GS → Nat → Int32 → Option (Nat × GS)) (hrcU : ∀ (G : GS) (q : Nat) (p : Int32) (o : Nat × GS), rcU G q p = some o → EThr l D ct ad P S n G q p o) (G0 : GS) (q0 : Nat) (p1 : Int32) (o : Nat × GS) (ho : u5_product ct ad P S rcE rcU G0 q0 p1 = some o) : vx_Met l yX5_product (ws_ yX5_product cX5_product 4 (some (.object "HorizonSeam$Form"))) { frames := 8 * n + 42, cells := nmax ct - G0.2.1, slots := zmax ct - G0.2.2, locals := 200 * n + 644 } (mP D clW ct [.ref q0, .int p1] G0.2.1 (MW D clW ckH ct 26 ad P (fun _ => True) S 0 G0)) nQ (uX D ct ad P S G0 o) (nmax ct - G0.2.1) (zmax ct - G0.2.2) (mA 26 ad G0) := by
  refine U.start ho (by decide) (Nat.le_of_ble_eq_true rfl) (lv := [(0, .ref q0), (1, .int p1)]) rfl ?_
  intro p e s m args below meth c E hlk hxt hZ hU hS ls hl
  obtain ⟨⟨hx, hb, hml, hown, hts⟩, hK, hJ⟩ := id E
  unfold u5_product
  refine gy_new (ty := tyX7) E hZ hU hS in_X7 tyX7_ok (hts _ q1242) (hts _ q1243) (hts _ q140) (ci := 6) rfl (by decide) dX5_product_0 (fun q1 G2 H hU hS => ?_)
  refine x_dup hx hb dX5_product_3 rfl ?_
  refine x_aload_n hx hb dX5_product_4 rfl (lv_at hl 0 rfl) ?_
  refine x_iload_n hx hb dX5_product_5 rfl (lv_at hl 1 rfl) ?_
  refine X.tB (uzX5_5_part hrc hrcU E hZ hU hS hxt hlk ⟨by show 8 * n + 41 + 1 ≤ 8 * n + 42; omega, by show 8 + (3 + 11) + (200 * n + 622) ≤ 200 * n + 644; omega⟩ hl.1 (Nat.le_of_ble_eq_true rfl) dX5_product_6) ?_
  refine kzX5_5_part hrc E hZ hU hS ⟨by show 8 * n + 41 + 1 ≤ 8 * n + 42; omega, by show 8 + (3 + 11) + (200 * n + 622) ≤ 200 * n + 644; omega⟩ hl.1 (Nat.le_of_ble_eq_true rfl) dX5_product_6 (fun o3 H locs hU hS => ?_)
  refine kzX5_7_init E hZ hU hS ⟨by show 7 + 1 ≤ 8 * n + 42; omega, by show 8 + (2 + 11) + 191 ≤ 200 * n + 644; omega⟩ hl.1 (Nat.le_of_ble_eq_true rfl) dX5_product_9 (fun o4 H locs hU hS => ?_)
  refine x_astore_n (lv' := [(2, .ref q1), (0, .ref q0), (1, .int p1)]) hx hb dX5_product_12 rfl hl (by decide) rfl (fun ls hl => ?_)
  refine X.loopY (I := fun (x : GS) g H locs => YW D clW ckH ct 26 ad P (mA 26 ad G0) S 0 G0 x H ∧ va_S (mA 26 ad G0) s.heap H locs ∧ ∃ ls : Array Slot, g = F0 m 13 ls [] ∧ lv_has ls 4 [(0, .ref q0), (1, .int p1), (2, .ref q1)]) (cf := (fun (x : GS) => x.2.1 - G0.2.1)) (sf := (fun (x : GS) => x.2.2 - G0.2.2)) (fun rc6 ih6 => ?_) FUEL o4 _ _ _ ⟨hU, hS, _, rfl, lv_sub hl [1, 2, 0] rfl⟩
  rintro G5 _ H locs ⟨hU, hS, ls, rfl, hl⟩
  refine X.cs (cells2 := G5.2.1 - G0.2.1) (slots2 := G5.2.2 - G0.2.2) rfl rfl ?_
  refine X.eqs (sp2 := u5_product_L13 q0 p1 S P ad ct rcE rcU q1 rc6 G5) rfl ?_
  unfold u5_product_L13
  refine x_aload_n hx hb dX5_product_13 rfl (lv_at hl 0 rfl) ?_
  refine x_bipush (v := 42) hx hb dX5_product_14 (by decide) ?_
  refine kzX5_5_isSign E hZ hU hS ⟨by show 1 + 1 ≤ 8 * n + 42; omega, by show 8 + (2 + 11) + 60 ≤ 200 * n + 644; omega⟩ hl.1 (Nat.le_of_ble_eq_true rfl) dX5_product_16 (fun o7 H locs hU hS => ?_)
  refine x_if_ne (tgt := 31) hx hb dX5_product_19 (by decide) (fun hc => ?_) (fun hc => ?_)
  · refine x_aload_n hx hb dX5_product_31 rfl (lv_at hl 0 rfl) ?_
    refine kzX5_5_sign E hZ hU hS ⟨by show 6 + 1 ≤ 8 * n + 42; omega, by show 8 + (2 + 11) + 151 ≤ 200 * n + 644; omega⟩ hl.1 (Nat.le_of_ble_eq_true rfl) dX5_product_32 (fun o8 H locs hU hS => ?_)
    refine x_istore_n (lv' := [(3, .int o8.1), (0, .ref q0), (1, .int p1), (2, .ref q1)]) hx hb dX5_product_35 rfl hl (by decide) rfl (fun ls hl => ?_)
    refine x_aload_n hx hb dX5_product_36 rfl (lv_at hl 3 rfl) ?_
    refine x_iload_n hx hb dX5_product_37 rfl (lv_at hl 0 rfl) ?_
    refine x_aload_n hx hb dX5_product_38 rfl (lv_at hl 1 rfl) ?_
    refine x_iload_n hx hb dX5_product_39 rfl (lv_at hl 2 rfl) ?_
    refine X.tB (uzX5_5_part hrc hrcU E hZ hU hS hxt hlk ⟨by show 8 * n + 41 + 1 ≤ 8 * n + 42; omega, by show 8 + (3 + 11) + (200 * n + 622) ≤ 200 * n + 644; omega⟩ hl.1 (Nat.le_of_ble_eq_true rfl) dX5_product_40) ?_
    refine kzX5_5_part hrc E hZ hU hS ⟨by show 8 * n + 41 + 1 ≤ 8 * n + 42; omega, by show 8 + (3 + 11) + (200 * n + 622) ≤ 200 * n + 644; omega⟩ hl.1 (Nat.le_of_ble_eq_true rfl) dX5_product_40 (fun o9 H locs hU hS => ?_)
    refine kzX5_7_add E hZ hU hS ⟨by show 7 + 1 ≤ 8 * n + 42; omega, by show 8 + (3 + 11) + 191 ≤ 200 * n + 644; omega⟩ hl.1 (Nat.le_of_ble_eq_true rfl) dX5_product_43 (fun o10 H locs hU hS => ?_)
    refine x_goto (tgt := 13) hx hb dX5_product_46 (by decide) ?_
    exact ih6 o10 _ _ _ ⟨hU, hS, _, rfl, lv_sub hl [1, 2, 3] rfl⟩
  · refine x_aload_n hx hb dX5_product_22 rfl (lv_at hl 0 rfl) ?_
    refine x_bipush (v := 47) hx hb dX5_product_23 (by decide) ?_
    refine kzX5_5_isSign E hZ hU hS ⟨by show 1 + 1 ≤ 8 * n + 42; omega, by show 8 + (2 + 11) + 60 ≤ 200 * n + 644; omega⟩ hl.1 (Nat.le_of_ble_eq_true rfl) dX5_product_25 (fun o11 H locs hU hS => ?_)
    refine x_if_eq (tgt := 49) hx hb dX5_product_28 (by decide) (fun hc => ?_) (fun hc => ?_)
    · exact X.none
    · refine x_aload_n hx hb dX5_product_31 rfl (lv_at hl 0 rfl) ?_
      refine kzX5_5_sign E hZ hU hS ⟨by show 6 + 1 ≤ 8 * n + 42; omega, by show 8 + (2 + 11) + 151 ≤ 200 * n + 644; omega⟩ hl.1 (Nat.le_of_ble_eq_true rfl) dX5_product_32 (fun o12 H locs hU hS => ?_)
      refine x_istore_n (lv' := [(3, .int o12.1), (0, .ref q0), (1, .int p1), (2, .ref q1)]) hx hb dX5_product_35 rfl hl (by decide) rfl (fun ls hl => ?_)
      refine x_aload_n hx hb dX5_product_36 rfl (lv_at hl 3 rfl) ?_
      refine x_iload_n hx hb dX5_product_37 rfl (lv_at hl 0 rfl) ?_
      refine x_aload_n hx hb dX5_product_38 rfl (lv_at hl 1 rfl) ?_
      refine x_iload_n hx hb dX5_product_39 rfl (lv_at hl 2 rfl) ?_
      refine X.tB (uzX5_5_part hrc hrcU E hZ hU hS hxt hlk ⟨by show 8 * n + 41 + 1 ≤ 8 * n + 42; omega, by show 8 + (3 + 11) + (200 * n + 622) ≤ 200 * n + 644; omega⟩ hl.1 (Nat.le_of_ble_eq_true rfl) dX5_product_40) ?_
      refine kzX5_5_part hrc E hZ hU hS ⟨by show 8 * n + 41 + 1 ≤ 8 * n + 42; omega, by show 8 + (3 + 11) + (200 * n + 622) ≤ 200 * n + 644; omega⟩ hl.1 (Nat.le_of_ble_eq_true rfl) dX5_product_40 (fun o13 H locs hU hS => ?_)
      refine kzX5_7_add E hZ hU hS ⟨by show 7 + 1 ≤ 8 * n + 42; omega, by show 8 + (3 + 11) + 191 ≤ 200 * n + 644; omega⟩ hl.1 (Nat.le_of_ble_eq_true rfl) dX5_product_43 (fun o14 H locs hU hS => ?_)
      refine x_goto (tgt := 13) hx hb dX5_product_46 (by decide) ?_
      exact ih6 o14 _ _ _ ⟨hU, hS, _, rfl, lv_sub hl [1, 2, 3] rfl⟩
section VZ
variable {ρ : Type} {p : Program} {l : Launch} {e : Env} {R : Room} {s : State} {m : MethodId} {args : Array Value} {below : List Frame} {meth : Method} {c : Code} {H : Heap} {locs : List Loc} {Qf : ρ → State → Prop}
variable {cc : ByteArray} {pc nL q0 n : Nat} {ls : Array Slot} {rest : List Value}
variable {D : va_G} {ct : CT} {ad : Nat → Nat} {P : Nat → Nat → Option Nat} {A : Nat → Prop} {S : US} {G0 G : GS} {rcE : GS → Nat → Int32 → Option (Option Nat × GS)} {rcU : GS → Nat → Int32 → Option (Nat × GS)}
theorem uzX5_5_product {p1 : Int32} {n : Nat} (hrc : ∀ (G : GS) (q : Nat) (p : Int32) (o : Option Nat × GS), rcE G q p = some o → EMet l D ct ad P S n G q p o) (hrcU : ∀ (G : GS) (q : Nat) (p : Int32) (o : Nat × GS), rcU G q p = some o → EThr l D ct ad P S n G q p o) (E : ME p m c cc nL s args RX5 D clW ct) (hZ : YC ct R s (mA 26 ad G0) G0) (hY : YW D clW ckH ct 26 ad P (mA 26 ad G0) S 0 G0 G H) (hS : va_S (mA 26 ad G0) s.heap H locs) (hxt : ∀ x ∈ c.exceptionTable.toList, False) (hlk : meth.locks = false) (hR : 8 * n + 42 + 1 ≤ R.frames ∧ 8 + (4 + 11) + (200 * n + 644) ≤ R.locals) (hsize : ls.size = nL) (hW : (rest.map fun v => v.category).sum ≤ 8) (hdg : decode cc pc = .ok (.invokevirtual 177, 3)) : X p l e R s m args below meth c H locs (G.2.1 - G0.2.1) (G.2.2 - G0.2.2) (uQ below args s D ct ad P S G0) (hC G.1 q0 4 (u5_product ct ad P S rcE rcU G q0 p1)) (F0 m pc ls (.int p1 :: .ref q0 :: rest)) := X.hC fun fs bw hq => uy_end hZ hY hS hxt hlk (fun o ho => rtV (As := [.int p1]) E hY.1.any (recvA E.2.1 hY.1.1.2.1 hq rfl) (by rw [hY.1.2.1]; exact mU5_product l D ct ad P S n rcE hrc rcU hrcU G q0 p1 o ho) (cwV 1 E.1.2.2.2.2 (lw_V q1257 q1259 qs27 q124 q1260) rfl rfl rfl (by decide +kernel) hR) rfl hsize rfl hW hdg (hY.room hZ))
end VZ

set_option maxHeartbeats 4000000 in
theorem mY5_sum (l : Launch) (D : va_G) (ct : CT) (ad : Nat → Nat) (P : Nat → Nat → Option Nat) (S : US) (n : Nat) (rcE : GS → Nat → Int32 → Option (Option Nat × GS)) (hrc : ∀ (G : GS) (q : Nat) (p : Int32) (o : Option Nat × GS), rcE G q p = some o → EMet l D ct ad P S n G q p o) (G0 : GS) (q0 : Nat) (p1 : Int32) (o : ((Option Nat) × GS)) (ho : s5_sum ct ad P S rcE G0 q0 p1 = some o) : Met l yX5_sum (ws_ yX5_sum cX5_sum 4 (some (.object "HorizonSeam$Form"))) { frames := 8 * n + 43, cells := nmax ct - G0.2.1, slots := zmax ct - G0.2.2, locals := 200 * n + 667 } (mP D clW ct [.ref q0, .int p1] G0.2.1 (MW D clW ckH ct 26 ad P (fun _ => True) S 0 G0)) (yC (some (va_rf o.1)) (MW D clW ckH ct 26 ad P (mA 26 ad G0) S 0 o.2) G0 o.2 (mA 26 ad G0)) (nmax ct - G0.2.1) (zmax ct - G0.2.2) (mA 26 ad G0) := by
  refine Y.start (val := fun (o : ((Option Nat) × GS)) => some (va_rf o.1)) (Bt := fun (o : ((Option Nat) × GS)) => MW D clW ckH ct 26 ad P (mA 26 ad G0) S 0 o.2) (Go := fun (o : ((Option Nat) × GS)) => o.2) ho (by decide) (Nat.le_of_ble_eq_true rfl) (lv := [(0, .ref q0), (1, .int p1)]) rfl ?_
  intro p e s m args below meth c E hr hlk hnm hZ hU hS ls hl
  obtain ⟨⟨hx, hb, hml, hown, hts⟩, hK, hJ⟩ := id E
  replace hr : meth.sig.returnType = some (FieldType.object "HorizonSeam$Form") ∧ ((∃ n, (FieldType.object "HorizonSeam$Form") = .object n) ∨ ∃ t, (FieldType.object "HorizonSeam$Form") = .array t) := ⟨hr, Or.inl ⟨_, rfl⟩⟩
  unfold s5_sum
  refine gy_new (ty := tyX7) E hZ hU hS in_X7 tyX7_ok (hts _ q1242) (hts _ q1243) (hts _ q140) (ci := 6) rfl (by decide) dX5_sum_0 (fun q1 G2 H hU hS => ?_)
  refine x_dup hx hb dX5_sum_3 rfl ?_
  refine x_aload_n hx hb dX5_sum_4 rfl (lv_at hl 0 rfl) ?_
  refine x_iload_n hx hb dX5_sum_5 rfl (lv_at hl 1 rfl) ?_
  refine kzX5_5_product hrc E hZ hU hS ⟨by show 8 * n + 42 + 1 ≤ 8 * n + 43; omega, by show 8 + (4 + 11) + (200 * n + 644) ≤ 200 * n + 667; omega⟩ hl.1 (Nat.le_of_ble_eq_true rfl) dX5_sum_6 (fun o3 H locs hU hS => ?_)
  refine kzX5_7_init E hZ hU hS ⟨by show 7 + 1 ≤ 8 * n + 43; omega, by show 8 + (2 + 11) + 191 ≤ 200 * n + 667; omega⟩ hl.1 (Nat.le_of_ble_eq_true rfl) dX5_sum_9 (fun o4 H locs hU hS => ?_)
  refine x_astore_n (lv' := [(2, .ref q1), (0, .ref q0), (1, .int p1)]) hx hb dX5_sum_12 rfl hl (by decide) rfl (fun ls hl => ?_)
  refine X.loopY (I := fun (x : GS) g H locs => YW D clW ckH ct 26 ad P (mA 26 ad G0) S 0 G0 x H ∧ va_S (mA 26 ad G0) s.heap H locs ∧ ∃ ls : Array Slot, g = F0 m 13 ls [] ∧ lv_has ls 4 [(0, .ref q0), (1, .int p1), (2, .ref q1)]) (cf := (fun (x : GS) => x.2.1 - G0.2.1)) (sf := (fun (x : GS) => x.2.2 - G0.2.2)) (fun rc6 ih6 => ?_) FUEL o4 _ _ _ ⟨hU, hS, _, rfl, lv_sub hl [1, 2, 0] rfl⟩
  rintro G5 _ H locs ⟨hU, hS, ls, rfl, hl⟩
  refine X.cs (cells2 := G5.2.1 - G0.2.1) (slots2 := G5.2.2 - G0.2.2) rfl rfl ?_
  refine X.eqs (sp2 := s5_sum_L13 q0 p1 S P ad ct rcE q1 rc6 G5) rfl ?_
  unfold s5_sum_L13
  refine x_aload_n hx hb dX5_sum_13 rfl (lv_at hl 0 rfl) ?_
  refine x_bipush (v := 43) hx hb dX5_sum_14 (by decide) ?_
  refine kzX5_5_isSign E hZ hU hS ⟨by show 1 + 1 ≤ 8 * n + 43; omega, by show 8 + (2 + 11) + 60 ≤ 200 * n + 667; omega⟩ hl.1 (Nat.le_of_ble_eq_true rfl) dX5_sum_16 (fun o7 H locs hU hS => ?_)
  refine x_if_ne (tgt := 31) hx hb dX5_sum_19 (by decide) (fun hc => ?_) (fun hc => ?_)
  · refine x_aload_n hx hb dX5_sum_31 rfl (lv_at hl 0 rfl) ?_
    refine kzX5_5_sign E hZ hU hS ⟨by show 6 + 1 ≤ 8 * n + 43; omega, by show 8 + (2 + 11) + 151 ≤ 200 * n + 667; omega⟩ hl.1 (Nat.le_of_ble_eq_true rfl) dX5_sum_32 (fun o8 H locs hU hS => ?_)
    refine x_istore_n (lv' := [(3, .int o8.1), (0, .ref q0), (1, .int p1), (2, .ref q1)]) hx hb dX5_sum_35 rfl hl (by decide) rfl (fun ls hl => ?_)
    refine x_aload_n hx hb dX5_sum_36 rfl (lv_at hl 3 rfl) ?_
    refine x_iload_n hx hb dX5_sum_37 rfl (lv_at hl 0 rfl) ?_
    refine x_aload_n hx hb dX5_sum_38 rfl (lv_at hl 1 rfl) ?_
    refine x_iload_n hx hb dX5_sum_39 rfl (lv_at hl 2 rfl) ?_
    refine kzX5_5_product hrc E hZ hU hS ⟨by show 8 * n + 42 + 1 ≤ 8 * n + 43; omega, by show 8 + (4 + 11) + (200 * n + 644) ≤ 200 * n + 667; omega⟩ hl.1 (Nat.le_of_ble_eq_true rfl) dX5_sum_40 (fun o9 H locs hU hS => ?_)
    refine kzX5_7_add E hZ hU hS ⟨by show 7 + 1 ≤ 8 * n + 43; omega, by show 8 + (3 + 11) + 191 ≤ 200 * n + 667; omega⟩ hl.1 (Nat.le_of_ble_eq_true rfl) dX5_sum_43 (fun o10 H locs hU hS => ?_)
    refine x_goto (tgt := 13) hx hb dX5_sum_46 (by decide) ?_
    exact ih6 o10 _ _ _ ⟨hU, hS, _, rfl, lv_sub hl [1, 2, 3] rfl⟩
  · refine x_aload_n hx hb dX5_sum_22 rfl (lv_at hl 0 rfl) ?_
    refine x_bipush (v := 45) hx hb dX5_sum_23 (by decide) ?_
    refine kzX5_5_isSign E hZ hU hS ⟨by show 1 + 1 ≤ 8 * n + 43; omega, by show 8 + (2 + 11) + 60 ≤ 200 * n + 667; omega⟩ hl.1 (Nat.le_of_ble_eq_true rfl) dX5_sum_25 (fun o11 H locs hU hS => ?_)
    refine x_if_eq (tgt := 49) hx hb dX5_sum_28 (by decide) (fun hc => ?_) (fun hc => ?_)
    · refine x_aload_n hx hb dX5_sum_49 rfl (lv_at hl 2 rfl) ?_
      refine kzX5_7_plain E hZ hU hS ⟨by show 4 + 1 ≤ 8 * n + 43; omega, by show 8 + (1 + 11) + 104 ≤ 200 * n + 667; omega⟩ hl.1 (Nat.le_of_ble_eq_true rfl) dX5_sum_50 (fun o12 H locs hU hS => ?_)
      exact y_aret (r := o12.1) hx hb hr hlk hZ hU hS rfl rfl hU.1 dX5_sum_53
    · refine x_aload_n hx hb dX5_sum_31 rfl (lv_at hl 0 rfl) ?_
      refine kzX5_5_sign E hZ hU hS ⟨by show 6 + 1 ≤ 8 * n + 43; omega, by show 8 + (2 + 11) + 151 ≤ 200 * n + 667; omega⟩ hl.1 (Nat.le_of_ble_eq_true rfl) dX5_sum_32 (fun o13 H locs hU hS => ?_)
      refine x_istore_n (lv' := [(3, .int o13.1), (0, .ref q0), (1, .int p1), (2, .ref q1)]) hx hb dX5_sum_35 rfl hl (by decide) rfl (fun ls hl => ?_)
      refine x_aload_n hx hb dX5_sum_36 rfl (lv_at hl 3 rfl) ?_
      refine x_iload_n hx hb dX5_sum_37 rfl (lv_at hl 0 rfl) ?_
      refine x_aload_n hx hb dX5_sum_38 rfl (lv_at hl 1 rfl) ?_
      refine x_iload_n hx hb dX5_sum_39 rfl (lv_at hl 2 rfl) ?_
      refine kzX5_5_product hrc E hZ hU hS ⟨by show 8 * n + 42 + 1 ≤ 8 * n + 43; omega, by show 8 + (4 + 11) + (200 * n + 644) ≤ 200 * n + 667; omega⟩ hl.1 (Nat.le_of_ble_eq_true rfl) dX5_sum_40 (fun o14 H locs hU hS => ?_)
      refine kzX5_7_add E hZ hU hS ⟨by show 7 + 1 ≤ 8 * n + 43; omega, by show 8 + (3 + 11) + 191 ≤ 200 * n + 667; omega⟩ hl.1 (Nat.le_of_ble_eq_true rfl) dX5_sum_43 (fun o15 H locs hU hS => ?_)
      refine x_goto (tgt := 13) hx hb dX5_sum_46 (by decide) ?_
      exact ih6 o15 _ _ _ ⟨hU, hS, _, rfl, lv_sub hl [1, 2, 3] rfl⟩
section VZ
variable {ρ : Type} {p : Program} {l : Launch} {e : Env} {R : Room} {s : State} {m : MethodId} {args : Array Value} {below : List Frame} {meth : Method} {c : Code} {H : Heap} {locs : List Loc} {Qf : ρ → State → Prop}
variable {cc : ByteArray} {pc nL q0 n : Nat} {ls : Array Slot} {rest : List Value}
variable {D : va_G} {ct : CT} {ad : Nat → Nat} {P : Nat → Nat → Option Nat} {A : Nat → Prop} {S : US} {G0 G : GS} {rcE : GS → Nat → Int32 → Option (Option Nat × GS)} {rcU : GS → Nat → Int32 → Option (Nat × GS)}
theorem kzX5_5_sum {p1 : Int32} {n : Nat} (hrc : ∀ (G : GS) (q : Nat) (p : Int32) (o : Option Nat × GS), rcE G q p = some o → EMet l D ct ad P S n G q p o) (E : ME p m c cc nL s args RX5 D clW ct) (hZ : YC ct R s A G0) (hY : YW D clW ckH ct 26 ad P A S 0 G0 G H) (hS : va_S A s.heap H locs) (hR : 8 * n + 43 + 1 ≤ R.frames ∧ 8 + (4 + 11) + (200 * n + 667) ≤ R.locals) (hsize : ls.size = nL) (hW : (rest.map fun v => v.category).sum ≤ 8) (hdg : decode cc pc = .ok (.invokevirtual 182, 3)) {kp : ((Option Nat) × GS) → Option ρ} (kk : ∀ (o : ((Option Nat) × GS)) (H1 : Heap) (locs1 : List Loc), YW D clW ckH ct 26 ad P A S 0 G0 o.2 H1 → va_S A s.heap H1 locs1 → X p l e R s m args below meth c H1 locs1 (o.2.2.1 - G0.2.1) (o.2.2.2 - G0.2.2) Qf (kp o) (F0 m (pc + 3) ls (va_rf o.1 :: rest))) : X p l e R s m args below meth c H locs (G.2.1 - G0.2.1) (G.2.2 - G0.2.2) Qf (hC G.1 q0 4 (callK (s5_sum ct ad P S rcE G q0 p1) kp)) (F0 m pc ls (.int p1 :: .ref q0 :: rest)) := X.hC fun fs bw hq => gy_mx (val' := fun (o : ((Option Nat) × GS)) => some (va_rf o.1)) (len := 3) (So := fun (o : ((Option Nat) × GS)) => S) (Po := fun (o : ((Option Nat) × GS)) => P) (Gn := fun (o : ((Option Nat) × GS)) => o.2) hZ hY hS (fun o ho => rqV (As := [.int p1]) E hY.1.any (recvA E.2.1 hY.1.1.2.1 hq rfl) (by rw [hY.1.2.1]; exact mY5_sum l D ct ad P S n rcE hrc G q0 p1 o ho) (cwV 1 E.1.2.2.2.2 (lw_V q1253 q1255 qs26 q124 q1256) rfl rfl rfl (by decide +kernel) hR) rfl hsize rfl hW hdg (hY.room hZ)) kk
end VZ

set_option maxHeartbeats 4000000 in
theorem mU5_sum (l : Launch) (D : va_G) (ct : CT) (ad : Nat → Nat) (P : Nat → Nat → Option Nat) (S : US) (n : Nat) (rcE : GS → Nat → Int32 → Option (Option Nat × GS)) (hrc : ∀ (G : GS) (q : Nat) (p : Int32) (o : Option Nat × GS), rcE G q p = some o → EMet l D ct ad P S n G q p o) (rcU : GS → Nat → Int32 → Option (Nat × GS)) (hrcU : ∀ (G : GS) (q : Nat) (p : Int32) (o : Nat × GS), rcU G q p = some o → EThr l D ct ad P S n G q p o) (G0 : GS) (q0 : Nat) (p1 : Int32) (o : Nat × GS) (ho : u5_sum ct ad P S rcE rcU G0 q0 p1 = some o) : vx_Met l yX5_sum (ws_ yX5_sum cX5_sum 4 (some (.object "HorizonSeam$Form"))) { frames := 8 * n + 43, cells := nmax ct - G0.2.1, slots := zmax ct - G0.2.2, locals := 200 * n + 667 } (mP D clW ct [.ref q0, .int p1] G0.2.1 (MW D clW ckH ct 26 ad P (fun _ => True) S 0 G0)) nQ (uX D ct ad P S G0 o) (nmax ct - G0.2.1) (zmax ct - G0.2.2) (mA 26 ad G0) := by
  refine U.start ho (by decide) (Nat.le_of_ble_eq_true rfl) (lv := [(0, .ref q0), (1, .int p1)]) rfl ?_
  intro p e s m args below meth c E hlk hxt hZ hU hS ls hl
  obtain ⟨⟨hx, hb, hml, hown, hts⟩, hK, hJ⟩ := id E
  unfold u5_sum
  refine gy_new (ty := tyX7) E hZ hU hS in_X7 tyX7_ok (hts _ q1242) (hts _ q1243) (hts _ q140) (ci := 6) rfl (by decide) dX5_sum_0 (fun q1 G2 H hU hS => ?_)
  refine x_dup hx hb dX5_sum_3 rfl ?_
  refine x_aload_n hx hb dX5_sum_4 rfl (lv_at hl 0 rfl) ?_
  refine x_iload_n hx hb dX5_sum_5 rfl (lv_at hl 1 rfl) ?_
  refine X.tB (uzX5_5_product hrc hrcU E hZ hU hS hxt hlk ⟨by show 8 * n + 42 + 1 ≤ 8 * n + 43; omega, by show 8 + (4 + 11) + (200 * n + 644) ≤ 200 * n + 667; omega⟩ hl.1 (Nat.le_of_ble_eq_true rfl) dX5_sum_6) ?_
  refine kzX5_5_product hrc E hZ hU hS ⟨by show 8 * n + 42 + 1 ≤ 8 * n + 43; omega, by show 8 + (4 + 11) + (200 * n + 644) ≤ 200 * n + 667; omega⟩ hl.1 (Nat.le_of_ble_eq_true rfl) dX5_sum_6 (fun o3 H locs hU hS => ?_)
  refine kzX5_7_init E hZ hU hS ⟨by show 7 + 1 ≤ 8 * n + 43; omega, by show 8 + (2 + 11) + 191 ≤ 200 * n + 667; omega⟩ hl.1 (Nat.le_of_ble_eq_true rfl) dX5_sum_9 (fun o4 H locs hU hS => ?_)
  refine x_astore_n (lv' := [(2, .ref q1), (0, .ref q0), (1, .int p1)]) hx hb dX5_sum_12 rfl hl (by decide) rfl (fun ls hl => ?_)
  refine X.loopY (I := fun (x : GS) g H locs => YW D clW ckH ct 26 ad P (mA 26 ad G0) S 0 G0 x H ∧ va_S (mA 26 ad G0) s.heap H locs ∧ ∃ ls : Array Slot, g = F0 m 13 ls [] ∧ lv_has ls 4 [(0, .ref q0), (1, .int p1), (2, .ref q1)]) (cf := (fun (x : GS) => x.2.1 - G0.2.1)) (sf := (fun (x : GS) => x.2.2 - G0.2.2)) (fun rc6 ih6 => ?_) FUEL o4 _ _ _ ⟨hU, hS, _, rfl, lv_sub hl [1, 2, 0] rfl⟩
  rintro G5 _ H locs ⟨hU, hS, ls, rfl, hl⟩
  refine X.cs (cells2 := G5.2.1 - G0.2.1) (slots2 := G5.2.2 - G0.2.2) rfl rfl ?_
  refine X.eqs (sp2 := u5_sum_L13 q0 p1 S P ad ct rcE rcU q1 rc6 G5) rfl ?_
  unfold u5_sum_L13
  refine x_aload_n hx hb dX5_sum_13 rfl (lv_at hl 0 rfl) ?_
  refine x_bipush (v := 43) hx hb dX5_sum_14 (by decide) ?_
  refine kzX5_5_isSign E hZ hU hS ⟨by show 1 + 1 ≤ 8 * n + 43; omega, by show 8 + (2 + 11) + 60 ≤ 200 * n + 667; omega⟩ hl.1 (Nat.le_of_ble_eq_true rfl) dX5_sum_16 (fun o7 H locs hU hS => ?_)
  refine x_if_ne (tgt := 31) hx hb dX5_sum_19 (by decide) (fun hc => ?_) (fun hc => ?_)
  · refine x_aload_n hx hb dX5_sum_31 rfl (lv_at hl 0 rfl) ?_
    refine kzX5_5_sign E hZ hU hS ⟨by show 6 + 1 ≤ 8 * n + 43; omega, by show 8 + (2 + 11) + 151 ≤ 200 * n + 667; omega⟩ hl.1 (Nat.le_of_ble_eq_true rfl) dX5_sum_32 (fun o8 H locs hU hS => ?_)
    refine x_istore_n (lv' := [(3, .int o8.1), (0, .ref q0), (1, .int p1), (2, .ref q1)]) hx hb dX5_sum_35 rfl hl (by decide) rfl (fun ls hl => ?_)
    refine x_aload_n hx hb dX5_sum_36 rfl (lv_at hl 3 rfl) ?_
    refine x_iload_n hx hb dX5_sum_37 rfl (lv_at hl 0 rfl) ?_
    refine x_aload_n hx hb dX5_sum_38 rfl (lv_at hl 1 rfl) ?_
    refine x_iload_n hx hb dX5_sum_39 rfl (lv_at hl 2 rfl) ?_
    refine X.tB (uzX5_5_product hrc hrcU E hZ hU hS hxt hlk ⟨by show 8 * n + 42 + 1 ≤ 8 * n + 43; omega, by show 8 + (4 + 11) + (200 * n + 644) ≤ 200 * n + 667; omega⟩ hl.1 (Nat.le_of_ble_eq_true rfl) dX5_sum_40) ?_
    refine kzX5_5_product hrc E hZ hU hS ⟨by show 8 * n + 42 + 1 ≤ 8 * n + 43; omega, by show 8 + (4 + 11) + (200 * n + 644) ≤ 200 * n + 667; omega⟩ hl.1 (Nat.le_of_ble_eq_true rfl) dX5_sum_40 (fun o9 H locs hU hS => ?_)
    refine kzX5_7_add E hZ hU hS ⟨by show 7 + 1 ≤ 8 * n + 43; omega, by show 8 + (3 + 11) + 191 ≤ 200 * n + 667; omega⟩ hl.1 (Nat.le_of_ble_eq_true rfl) dX5_sum_43 (fun o10 H locs hU hS => ?_)
    refine x_goto (tgt := 13) hx hb dX5_sum_46 (by decide) ?_
    exact ih6 o10 _ _ _ ⟨hU, hS, _, rfl, lv_sub hl [1, 2, 3] rfl⟩
  · refine x_aload_n hx hb dX5_sum_22 rfl (lv_at hl 0 rfl) ?_
    refine x_bipush (v := 45) hx hb dX5_sum_23 (by decide) ?_
    refine kzX5_5_isSign E hZ hU hS ⟨by show 1 + 1 ≤ 8 * n + 43; omega, by show 8 + (2 + 11) + 60 ≤ 200 * n + 667; omega⟩ hl.1 (Nat.le_of_ble_eq_true rfl) dX5_sum_25 (fun o11 H locs hU hS => ?_)
    refine x_if_eq (tgt := 49) hx hb dX5_sum_28 (by decide) (fun hc => ?_) (fun hc => ?_)
    · exact X.none
    · refine x_aload_n hx hb dX5_sum_31 rfl (lv_at hl 0 rfl) ?_
      refine kzX5_5_sign E hZ hU hS ⟨by show 6 + 1 ≤ 8 * n + 43; omega, by show 8 + (2 + 11) + 151 ≤ 200 * n + 667; omega⟩ hl.1 (Nat.le_of_ble_eq_true rfl) dX5_sum_32 (fun o12 H locs hU hS => ?_)
      refine x_istore_n (lv' := [(3, .int o12.1), (0, .ref q0), (1, .int p1), (2, .ref q1)]) hx hb dX5_sum_35 rfl hl (by decide) rfl (fun ls hl => ?_)
      refine x_aload_n hx hb dX5_sum_36 rfl (lv_at hl 3 rfl) ?_
      refine x_iload_n hx hb dX5_sum_37 rfl (lv_at hl 0 rfl) ?_
      refine x_aload_n hx hb dX5_sum_38 rfl (lv_at hl 1 rfl) ?_
      refine x_iload_n hx hb dX5_sum_39 rfl (lv_at hl 2 rfl) ?_
      refine X.tB (uzX5_5_product hrc hrcU E hZ hU hS hxt hlk ⟨by show 8 * n + 42 + 1 ≤ 8 * n + 43; omega, by show 8 + (4 + 11) + (200 * n + 644) ≤ 200 * n + 667; omega⟩ hl.1 (Nat.le_of_ble_eq_true rfl) dX5_sum_40) ?_
      refine kzX5_5_product hrc E hZ hU hS ⟨by show 8 * n + 42 + 1 ≤ 8 * n + 43; omega, by show 8 + (4 + 11) + (200 * n + 644) ≤ 200 * n + 667; omega⟩ hl.1 (Nat.le_of_ble_eq_true rfl) dX5_sum_40 (fun o13 H locs hU hS => ?_)
      refine kzX5_7_add E hZ hU hS ⟨by show 7 + 1 ≤ 8 * n + 43; omega, by show 8 + (3 + 11) + 191 ≤ 200 * n + 667; omega⟩ hl.1 (Nat.le_of_ble_eq_true rfl) dX5_sum_43 (fun o14 H locs hU hS => ?_)
      refine x_goto (tgt := 13) hx hb dX5_sum_46 (by decide) ?_
      exact ih6 o14 _ _ _ ⟨hU, hS, _, rfl, lv_sub hl [1, 2, 3] rfl⟩
section VZ
variable {ρ : Type} {p : Program} {l : Launch} {e : Env} {R : Room} {s : State} {m : MethodId} {args : Array Value} {below : List Frame} {meth : Method} {c : Code} {H : Heap} {locs : List Loc} {Qf : ρ → State → Prop}
variable {cc : ByteArray} {pc nL q0 n : Nat} {ls : Array Slot} {rest : List Value}
variable {D : va_G} {ct : CT} {ad : Nat → Nat} {P : Nat → Nat → Option Nat} {A : Nat → Prop} {S : US} {G0 G : GS} {rcE : GS → Nat → Int32 → Option (Option Nat × GS)} {rcU : GS → Nat → Int32 → Option (Nat × GS)}
theorem uzX5_5_sum {p1 : Int32} {n : Nat} (hrc : ∀ (G : GS) (q : Nat) (p : Int32) (o : Option Nat × GS), rcE G q p = some o → EMet l D ct ad P S n G q p o) (hrcU : ∀ (G : GS) (q : Nat) (p : Int32) (o : Nat × GS), rcU G q p = some o → EThr l D ct ad P S n G q p o) (E : ME p m c cc nL s args RX5 D clW ct) (hZ : YC ct R s (mA 26 ad G0) G0) (hY : YW D clW ckH ct 26 ad P (mA 26 ad G0) S 0 G0 G H) (hS : va_S (mA 26 ad G0) s.heap H locs) (hxt : ∀ x ∈ c.exceptionTable.toList, False) (hlk : meth.locks = false) (hR : 8 * n + 43 + 1 ≤ R.frames ∧ 8 + (4 + 11) + (200 * n + 667) ≤ R.locals) (hsize : ls.size = nL) (hW : (rest.map fun v => v.category).sum ≤ 8) (hdg : decode cc pc = .ok (.invokevirtual 182, 3)) : X p l e R s m args below meth c H locs (G.2.1 - G0.2.1) (G.2.2 - G0.2.2) (uQ below args s D ct ad P S G0) (hC G.1 q0 4 (u5_sum ct ad P S rcE rcU G q0 p1)) (F0 m pc ls (.int p1 :: .ref q0 :: rest)) := X.hC fun fs bw hq => uy_end hZ hY hS hxt hlk (fun o ho => rtV (As := [.int p1]) E hY.1.any (recvA E.2.1 hY.1.1.2.1 hq rfl) (by rw [hY.1.2.1]; exact mU5_sum l D ct ad P S n rcE hrc rcU hrcU G q0 p1 o ho) (cwV 1 E.1.2.2.2.2 (lw_V q1253 q1255 qs26 q124 q1256) rfl rfl rfl (by decide +kernel) hR) rfl hsize rfl hW hdg (hY.room hZ))
end VZ

set_option maxHeartbeats 4000000 in
theorem mY5_not (l : Launch) (D : va_G) (ct : CT) (ad : Nat → Nat) (P : Nat → Nat → Option Nat) (S : US) (n : Nat) (rcE : GS → Nat → Int32 → Option (Option Nat × GS)) (hrc : ∀ (G : GS) (q : Nat) (p : Int32) (o : Option Nat × GS), rcE G q p = some o → EMet l D ct ad P S n G q p o) (G0 : GS) (q0 : Nat) (p1 : Int32) (o : ((Option Nat) × GS)) (ho : s5_not ct ad P S rcE G0 q0 p1 = some o) : Met l yX5_not (ws_ yX5_not cX5_not 6 (some (.object "HorizonSeam$Form"))) { frames := 8 * n + 44, cells := nmax ct - G0.2.1, slots := zmax ct - G0.2.2, locals := 200 * n + 690 } (mP D clW ct [.ref q0, .int p1] G0.2.1 (MW D clW ckH ct 26 ad P (fun _ => True) S 0 G0)) (yC (some (va_rf o.1)) (MW D clW ckH ct 26 ad P (mA 26 ad G0) S 0 o.2) G0 o.2 (mA 26 ad G0)) (nmax ct - G0.2.1) (zmax ct - G0.2.2) (mA 26 ad G0) := by
  refine Y.start (val := fun (o : ((Option Nat) × GS)) => some (va_rf o.1)) (Bt := fun (o : ((Option Nat) × GS)) => MW D clW ckH ct 26 ad P (mA 26 ad G0) S 0 o.2) (Go := fun (o : ((Option Nat) × GS)) => o.2) ho (by decide) (Nat.le_of_ble_eq_true rfl) (lv := [(0, .ref q0), (1, .int p1)]) rfl ?_
  intro p e s m args below meth c E hr hlk hnm hZ hU hS ls hl
  obtain ⟨⟨hx, hb, hml, hown, hts⟩, hK, hJ⟩ := id E
  replace hr : meth.sig.returnType = some (FieldType.object "HorizonSeam$Form") ∧ ((∃ n, (FieldType.object "HorizonSeam$Form") = .object n) ∨ ∃ t, (FieldType.object "HorizonSeam$Form") = .array t) := ⟨hr, Or.inl ⟨_, rfl⟩⟩
  unfold s5_not
  refine x_iconst (v := 0) hx hb dX5_not_0 (by decide) ?_
  refine x_istore_n (lv' := [(2, .int (0 : Int32)), (0, .ref q0), (1, .int p1)]) hx hb dX5_not_1 rfl hl (by decide) rfl (fun ls hl => ?_)
  refine X.loopY (I := fun (x : (GS × Int32)) g H locs => YW D clW ckH ct 26 ad P (mA 26 ad G0) S 0 G0 x.1 H ∧ va_S (mA 26 ad G0) s.heap H locs ∧ ∃ ls : Array Slot, g = F0 m 2 ls [] ∧ lv_has ls 6 [(0, .ref q0), (1, .int p1), (2, .int x.2)]) (cf := (fun (x : (GS × Int32)) => x.1.2.1 - G0.2.1)) (sf := (fun (x : (GS × Int32)) => x.1.2.2 - G0.2.2)) (fun rc3 ih3 => ?_) FUEL (G0, (0 : Int32)) _ _ _ ⟨hU, hS, _, rfl, lv_sub hl [1, 2, 0] rfl⟩
  rintro ⟨G1, v2⟩ _ H locs ⟨hU, hS, ls, rfl, hl⟩
  have hU : YW D clW ckH ct 26 ad P (mA 26 ad G0) S 0 G0 G1 H := hU
  have hl : lv_has ls 6 [(0, .ref q0), (1, .int p1), (2, .int v2)] := hl
  refine X.cs (cells2 := G1.2.1 - G0.2.1) (slots2 := G1.2.2 - G0.2.2) rfl rfl ?_
  refine X.eqs (sp2 := s5_not_L2 q0 p1 S P ad ct rcE rc3 G1 v2) rfl ?_
  unfold s5_not_L2
  refine x_aload_n hx hb dX5_not_2 rfl (lv_at hl 0 rfl) ?_
  refine gx_ldcS (tx := "not") (z := 51) E (List.mem_of_getElem? (i := 11) rfl) dX5_not_3 ?_
  refine kzX5_5_is E hZ hU hS ⟨by show 5 + 1 ≤ 8 * n + 44; omega, by show 8 + (3 + 11) + 125 ≤ 200 * n + 690; omega⟩ hl.1 (Nat.le_of_ble_eq_true rfl) dX5_not_5 (fun o4 H locs hU hS => ?_)
  refine x_if_eq (tgt := 37) hx hb dX5_not_8 (by decide) (fun hc => ?_) (fun hc => ?_)
  · refine gy_new (ty := tyX7) E hZ hU hS in_X7 tyX7_ok (hts _ q1242) (hts _ q1243) (hts _ q140) (ci := 6) rfl (by decide) dX5_not_37 (fun q5 G6 H hU hS => ?_)
    refine x_dup hx hb dX5_not_40 rfl ?_
    refine x_aload_n hx hb dX5_not_41 rfl (lv_at hl 0 rfl) ?_
    refine x_iload_n hx hb dX5_not_42 rfl (lv_at hl 1 rfl) ?_
    refine kzX5_5_sum hrc E hZ hU hS ⟨by show 8 * n + 43 + 1 ≤ 8 * n + 44; omega, by show 8 + (4 + 11) + (200 * n + 667) ≤ 200 * n + 690; omega⟩ hl.1 (Nat.le_of_ble_eq_true rfl) dX5_not_43 (fun o7 H locs hU hS => ?_)
    refine kzX5_7_init E hZ hU hS ⟨by show 7 + 1 ≤ 8 * n + 44; omega, by show 8 + (2 + 11) + 191 ≤ 200 * n + 690; omega⟩ hl.1 (Nat.le_of_ble_eq_true rfl) dX5_not_46 (fun o8 H locs hU hS => ?_)
    refine x_astore_n (lv' := [(3, .ref q5), (0, .ref q0), (1, .int p1), (2, .int v2)]) hx hb dX5_not_49 rfl hl (by decide) rfl (fun ls hl => ?_)
    refine x_aload_n hx hb dX5_not_50 rfl (lv_at hl 1 rfl) ?_
    refine x_bipush (v := 60) hx hb dX5_not_51 (by decide) ?_
    refine kzX5_5_isSign E hZ hU hS ⟨by show 1 + 1 ≤ 8 * n + 44; omega, by show 8 + (2 + 11) + 60 ≤ 200 * n + 690; omega⟩ hl.1 (Nat.le_of_ble_eq_true rfl) dX5_not_53 (fun o9 H locs hU hS => ?_)
    refine X.join2Y (fun (x : GS) g H locs => YW D clW ckH ct 26 ad P (mA 26 ad G0) S 0 G0 x H ∧ va_S (mA 26 ad G0) s.heap H locs ∧ ∃ ls : Array Slot, g = F0 m 85 ls [] ∧ lv_has ls 6 [(2, .int v2), (3, .ref q5)]) (fun (x : GS) => x.2.1 - G0.2.1) (fun (x : GS) => x.2.2 - G0.2.2) ?_ (fun j11 hj11 => ?_)
    · rintro G10 _ H locs ⟨hU, hS, ls, rfl, hl⟩
      refine X.cs (cells2 := G10.2.1 - G0.2.1) (slots2 := G10.2.2 - G0.2.2) rfl rfl ?_
      refine X.eqs (sp2 := s5_not_J85 ct v2 q5 G10) rfl ?_
      unfold s5_not_J85
      refine x_aload_n hx hb dX5_not_85 rfl (lv_at hl 1 rfl) ?_
      refine kzX5_7_plain E hZ hU hS ⟨by show 4 + 1 ≤ 8 * n + 44; omega, by show 8 + (1 + 11) + 104 ≤ 200 * n + 690; omega⟩ hl.1 (Nat.le_of_ble_eq_true rfl) dX5_not_86 (fun o19 H locs hU hS => ?_)
      refine X.onR (fun b20 hb_ => ?_)
      rw [hb_]
      try rw [hb_] at hl
      refine x_astore (lv' := [(4, .ref b20), (2, .int v2), (3, .ref q5)]) hx hb dX5_not_89 hl (by decide) rfl (fun ls hl => ?_)
      refine x_iconst (v := 0) hx hb dX5_not_91 (by decide) ?_
      refine x_istore (lv' := [(5, .int (0 : Int32)), (4, .ref b20), (2, .int v2), (3, .ref q5)]) hx hb dX5_not_92 hl (by decide) rfl (fun ls hl => ?_)
      refine X.loopY (I := fun (x : (GS × (Option Nat) × Int32)) g H locs => YW D clW ckH ct 26 ad P (mA 26 ad G0) S 0 G0 x.1 H ∧ va_S (mA 26 ad G0) s.heap H locs ∧ ∃ ls : Array Slot, g = F0 m 94 ls [] ∧ lv_has ls 6 [(2, .int v2), (4, va_rf x.2.1), (5, .int x.2.2)]) (cf := (fun (x : (GS × (Option Nat) × Int32)) => x.1.2.1 - G0.2.1)) (sf := (fun (x : (GS × (Option Nat) × Int32)) => x.1.2.2 - G0.2.2)) (fun rc24 ih24 => ?_) FUEL (o19.2, (some b20), (0 : Int32)) _ _ _ ⟨hU, hS, _, rfl, lv_sub hl [2, 1, 0] rfl⟩
      rintro ⟨G21, v22, v23⟩ _ H locs ⟨hU, hS, ls, rfl, hl⟩
      have hU : YW D clW ckH ct 26 ad P (mA 26 ad G0) S 0 G0 G21 H := hU
      have hl : lv_has ls 6 [(2, .int v2), (4, va_rf v22), (5, .int v23)] := hl
      refine X.cs (cells2 := G21.2.1 - G0.2.1) (slots2 := G21.2.2 - G0.2.2) rfl rfl ?_
      refine X.eqs (sp2 := s5_not_L94 ct v2 rc24 G21 v22 v23) rfl ?_
      unfold s5_not_L94
      refine x_iload hx hb dX5_not_94 (lv_at hl 2 rfl) ?_
      refine x_iload_n hx hb dX5_not_96 rfl (lv_at hl 0 rfl) ?_
      refine x_icmp_ge (tgt := 117) hx hb dX5_not_97 (by decide) (fun hc => ?_) (fun hc => ?_)
      · refine x_aloadO hx hb dX5_not_117 (lv_at hl 1 rfl) ?_
        exact y_aret (r := v22) hx hb hr hlk hZ hU hS rfl rfl hU.1 dX5_not_119
      · refine gy_new (ty := tyX10) E hZ hU hS in_X10 tyX10_ok (hts _ q1315) (hts _ q1316) (hts _ q143) (ci := 9) rfl (by decide) dX5_not_100 (fun q25 G26 H hU hS => ?_)
        refine x_dup hx hb dX5_not_103 rfl ?_
        refine x_aloadO hx hb dX5_not_104 (lv_at hl 1 rfl) ?_
        refine kzX5_10_init E hZ hU hS ⟨by show 1 + 1 ≤ 8 * n + 44; omega, by show 8 + (2 + 11) + 60 ≤ 200 * n + 690; omega⟩ hl.1 (Nat.le_of_ble_eq_true rfl) dX5_not_106 (fun o27 H locs hU hS => ?_)
        refine x_astore (lv' := [(4, .ref q25), (2, .int v2), (5, .int v23)]) hx hb dX5_not_109 hl (by decide) rfl (fun ls hl => ?_)
        refine x_iinc (v := (v23 + (1 : Int32))) (lv' := [(5, .int (v23 + (1 : Int32))), (4, .ref q25), (2, .int v2)]) (k := 2) hx hb dX5_not_111 hl rfl rfl (by decide) rfl (fun ls hl => ?_)
        refine x_goto (tgt := 94) hx hb dX5_not_114 (by decide) ?_
        exact ih24 (o27, (some q25), (v23 + (1 : Int32))) _ _ _ ⟨hU, hS, _, rfl, lv_sub hl [2, 1, 0] rfl⟩
    · refine x_if_ne (tgt := 68) hx hb dX5_not_56 (by decide) (fun hc => ?_) (fun hc => ?_)
      · refine x_aload_n hx hb dX5_not_68 rfl (lv_at hl 1 rfl) ?_
        refine kzX5_5_sign E hZ hU hS ⟨by show 6 + 1 ≤ 8 * n + 44; omega, by show 8 + (2 + 11) + 151 ≤ 200 * n + 690; omega⟩ hl.1 (Nat.le_of_ble_eq_true rfl) dX5_not_69 (fun o12 H locs hU hS => ?_)
        refine x_istore (lv' := [(4, .int o12.1), (3, .ref q5), (0, .ref q0), (1, .int p1), (2, .int v2)]) hx hb dX5_not_72 hl (by decide) rfl (fun ls hl => ?_)
        refine x_aload_n hx hb dX5_not_74 rfl (lv_at hl 1 rfl) ?_
        refine x_iload hx hb dX5_not_75 (lv_at hl 0 rfl) ?_
        refine x_aload_n hx hb dX5_not_77 rfl (lv_at hl 2 rfl) ?_
        refine x_iload_n hx hb dX5_not_78 rfl (lv_at hl 3 rfl) ?_
        refine kzX5_5_sum hrc E hZ hU hS ⟨by show 8 * n + 43 + 1 ≤ 8 * n + 44; omega, by show 8 + (4 + 11) + (200 * n + 667) ≤ 200 * n + 690; omega⟩ hl.1 (Nat.le_of_ble_eq_true rfl) dX5_not_79 (fun o13 H locs hU hS => ?_)
        refine kzX5_7_add E hZ hU hS ⟨by show 7 + 1 ≤ 8 * n + 44; omega, by show 8 + (3 + 11) + 191 ≤ 200 * n + 690; omega⟩ hl.1 (Nat.le_of_ble_eq_true rfl) dX5_not_82 (fun o14 H locs hU hS => ?_)
        exact hj11 o14 _ _ _ ⟨hU, hS, _, rfl, lv_sub hl [4, 1] rfl⟩
      · refine x_aload_n hx hb dX5_not_59 rfl (lv_at hl 1 rfl) ?_
        refine x_bipush (v := 61) hx hb dX5_not_60 (by decide) ?_
        refine kzX5_5_isSign E hZ hU hS ⟨by show 1 + 1 ≤ 8 * n + 44; omega, by show 8 + (2 + 11) + 60 ≤ 200 * n + 690; omega⟩ hl.1 (Nat.le_of_ble_eq_true rfl) dX5_not_62 (fun o15 H locs hU hS => ?_)
        refine x_if_eq (tgt := 85) hx hb dX5_not_65 (by decide) (fun hc => ?_) (fun hc => ?_)
        · exact hj11 o15.2 _ _ _ ⟨hU, hS, _, rfl, lv_sub hl [3, 0] rfl⟩
        · refine x_aload_n hx hb dX5_not_68 rfl (lv_at hl 1 rfl) ?_
          refine kzX5_5_sign E hZ hU hS ⟨by show 6 + 1 ≤ 8 * n + 44; omega, by show 8 + (2 + 11) + 151 ≤ 200 * n + 690; omega⟩ hl.1 (Nat.le_of_ble_eq_true rfl) dX5_not_69 (fun o16 H locs hU hS => ?_)
          refine x_istore (lv' := [(4, .int o16.1), (3, .ref q5), (0, .ref q0), (1, .int p1), (2, .int v2)]) hx hb dX5_not_72 hl (by decide) rfl (fun ls hl => ?_)
          refine x_aload_n hx hb dX5_not_74 rfl (lv_at hl 1 rfl) ?_
          refine x_iload hx hb dX5_not_75 (lv_at hl 0 rfl) ?_
          refine x_aload_n hx hb dX5_not_77 rfl (lv_at hl 2 rfl) ?_
          refine x_iload_n hx hb dX5_not_78 rfl (lv_at hl 3 rfl) ?_
          refine kzX5_5_sum hrc E hZ hU hS ⟨by show 8 * n + 43 + 1 ≤ 8 * n + 44; omega, by show 8 + (4 + 11) + (200 * n + 667) ≤ 200 * n + 690; omega⟩ hl.1 (Nat.le_of_ble_eq_true rfl) dX5_not_79 (fun o17 H locs hU hS => ?_)
          refine kzX5_7_add E hZ hU hS ⟨by show 7 + 1 ≤ 8 * n + 44; omega, by show 8 + (3 + 11) + 191 ≤ 200 * n + 690; omega⟩ hl.1 (Nat.le_of_ble_eq_true rfl) dX5_not_82 (fun o18 H locs hU hS => ?_)
          exact hj11 o18 _ _ _ ⟨hU, hS, _, rfl, lv_sub hl [4, 1] rfl⟩
  · refine x_aload_n hx hb dX5_not_11 rfl (lv_at hl 0 rfl) ?_
    refine x_iload_n hx hb dX5_not_12 rfl (lv_at hl 2 rfl) ?_
    refine x_bipush (v := 6) hx hb dX5_not_13 (by decide) ?_
    refine x_icmp_ge (tgt := 22) hx hb dX5_not_15 (by decide) (fun hc => ?_) (fun hc => ?_)
    · refine x_iconst (v := 0) hx hb dX5_not_22 (by decide) ?_
      refine x_iconst (v := 2) hx hb dX5_not_23 (by decide) ?_
      refine kzX5_5_want E hZ hU hS ⟨by show 4 + 1 ≤ 8 * n + 44; omega, by show 8 + (3 + 11) + (129) ≤ 200 * n + 690; omega⟩ hl.1 (Nat.le_of_ble_eq_true rfl) dX5_not_24 (fun o28 H locs hU hS => ?_)
      refine x_iinc (v := (v2 + (1 : Int32))) (lv' := [(2, .int (v2 + (1 : Int32))), (0, .ref q0), (1, .int p1)]) (k := 2) hx hb dX5_not_27 hl rfl rfl (by decide) rfl (fun ls hl => ?_)
      refine x_aload_n hx hb dX5_not_30 rfl (lv_at hl 1 rfl) ?_
      refine kzX5_5_next E hZ hU hS ⟨by show 5 + 1 ≤ 8 * n + 44; omega, by show 8 + (1 + 11) + 131 ≤ 200 * n + 690; omega⟩ hl.1 (Nat.le_of_ble_eq_true rfl) dX5_not_31 (fun o29 H locs hU hS => ?_)
      refine x_goto (tgt := 2) hx hb dX5_not_34 (by decide) ?_
      exact ih3 (o29, (v2 + (1 : Int32))) _ _ _ ⟨hU, hS, _, rfl, lv_sub hl [1, 2, 0] rfl⟩
    · refine x_iconst (v := 1) hx hb dX5_not_18 (by decide) ?_
      refine x_goto (tgt := 23) hx hb dX5_not_19 (by decide) ?_
      refine x_iconst (v := 2) hx hb dX5_not_23 (by decide) ?_
      refine kzX5_5_want E hZ hU hS ⟨by show 4 + 1 ≤ 8 * n + 44; omega, by show 8 + (3 + 11) + (129) ≤ 200 * n + 690; omega⟩ hl.1 (Nat.le_of_ble_eq_true rfl) dX5_not_24 (fun o30 H locs hU hS => ?_)
      refine x_iinc (v := (v2 + (1 : Int32))) (lv' := [(2, .int (v2 + (1 : Int32))), (0, .ref q0), (1, .int p1)]) (k := 2) hx hb dX5_not_27 hl rfl rfl (by decide) rfl (fun ls hl => ?_)
      refine x_aload_n hx hb dX5_not_30 rfl (lv_at hl 1 rfl) ?_
      refine kzX5_5_next E hZ hU hS ⟨by show 5 + 1 ≤ 8 * n + 44; omega, by show 8 + (1 + 11) + 131 ≤ 200 * n + 690; omega⟩ hl.1 (Nat.le_of_ble_eq_true rfl) dX5_not_31 (fun o31 H locs hU hS => ?_)
      refine x_goto (tgt := 2) hx hb dX5_not_34 (by decide) ?_
      exact ih3 (o31, (v2 + (1 : Int32))) _ _ _ ⟨hU, hS, _, rfl, lv_sub hl [1, 2, 0] rfl⟩
section VZ
variable {ρ : Type} {p : Program} {l : Launch} {e : Env} {R : Room} {s : State} {m : MethodId} {args : Array Value} {below : List Frame} {meth : Method} {c : Code} {H : Heap} {locs : List Loc} {Qf : ρ → State → Prop}
variable {cc : ByteArray} {pc nL q0 n : Nat} {ls : Array Slot} {rest : List Value}
variable {D : va_G} {ct : CT} {ad : Nat → Nat} {P : Nat → Nat → Option Nat} {A : Nat → Prop} {S : US} {G0 G : GS} {rcE : GS → Nat → Int32 → Option (Option Nat × GS)} {rcU : GS → Nat → Int32 → Option (Nat × GS)}
theorem kzX5_5_not {p1 : Int32} {n : Nat} (hrc : ∀ (G : GS) (q : Nat) (p : Int32) (o : Option Nat × GS), rcE G q p = some o → EMet l D ct ad P S n G q p o) (E : ME p m c cc nL s args RX5 D clW ct) (hZ : YC ct R s A G0) (hY : YW D clW ckH ct 26 ad P A S 0 G0 G H) (hS : va_S A s.heap H locs) (hR : 8 * n + 44 + 1 ≤ R.frames ∧ 8 + (6 + 11) + (200 * n + 690) ≤ R.locals) (hsize : ls.size = nL) (hW : (rest.map fun v => v.category).sum ≤ 8) (hdg : decode cc pc = .ok (.invokevirtual 188, 3)) {kp : ((Option Nat) × GS) → Option ρ} (kk : ∀ (o : ((Option Nat) × GS)) (H1 : Heap) (locs1 : List Loc), YW D clW ckH ct 26 ad P A S 0 G0 o.2 H1 → va_S A s.heap H1 locs1 → X p l e R s m args below meth c H1 locs1 (o.2.2.1 - G0.2.1) (o.2.2.2 - G0.2.2) Qf (kp o) (F0 m (pc + 3) ls (va_rf o.1 :: rest))) : X p l e R s m args below meth c H locs (G.2.1 - G0.2.1) (G.2.2 - G0.2.2) Qf (hC G.1 q0 4 (callK (s5_not ct ad P S rcE G q0 p1) kp)) (F0 m pc ls (.int p1 :: .ref q0 :: rest)) := X.hC fun fs bw hq => gy_mx (val' := fun (o : ((Option Nat) × GS)) => some (va_rf o.1)) (len := 3) (So := fun (o : ((Option Nat) × GS)) => S) (Po := fun (o : ((Option Nat) × GS)) => P) (Gn := fun (o : ((Option Nat) × GS)) => o.2) hZ hY hS (fun o ho => rqV (As := [.int p1]) E hY.1.any (recvA E.2.1 hY.1.1.2.1 hq rfl) (by rw [hY.1.2.1]; exact mY5_not l D ct ad P S n rcE hrc G q0 p1 o ho) (cwV 1 E.1.2.2.2.2 (lw_V q1248 q1250 qs25 q124 q1251) rfl rfl rfl (by decide +kernel) hR) rfl hsize rfl hW hdg (hY.room hZ)) kk
end VZ

set_option maxHeartbeats 4000000 in
theorem mU5_not (l : Launch) (D : va_G) (ct : CT) (ad : Nat → Nat) (P : Nat → Nat → Option Nat) (S : US) (n : Nat) (rcE : GS → Nat → Int32 → Option (Option Nat × GS)) (hrc : ∀ (G : GS) (q : Nat) (p : Int32) (o : Option Nat × GS), rcE G q p = some o → EMet l D ct ad P S n G q p o) (rcU : GS → Nat → Int32 → Option (Nat × GS)) (hrcU : ∀ (G : GS) (q : Nat) (p : Int32) (o : Nat × GS), rcU G q p = some o → EThr l D ct ad P S n G q p o) (G0 : GS) (q0 : Nat) (p1 : Int32) (o : Nat × GS) (ho : u5_not ct ad P S rcE rcU G0 q0 p1 = some o) : vx_Met l yX5_not (ws_ yX5_not cX5_not 6 (some (.object "HorizonSeam$Form"))) { frames := 8 * n + 44, cells := nmax ct - G0.2.1, slots := zmax ct - G0.2.2, locals := 200 * n + 690 } (mP D clW ct [.ref q0, .int p1] G0.2.1 (MW D clW ckH ct 26 ad P (fun _ => True) S 0 G0)) nQ (uX D ct ad P S G0 o) (nmax ct - G0.2.1) (zmax ct - G0.2.2) (mA 26 ad G0) := by
  refine U.start ho (by decide) (Nat.le_of_ble_eq_true rfl) (lv := [(0, .ref q0), (1, .int p1)]) rfl ?_
  intro p e s m args below meth c E hlk hxt hZ hU hS ls hl
  obtain ⟨⟨hx, hb, hml, hown, hts⟩, hK, hJ⟩ := id E
  unfold u5_not
  refine x_iconst (v := 0) hx hb dX5_not_0 (by decide) ?_
  refine x_istore_n (lv' := [(2, .int (0 : Int32)), (0, .ref q0), (1, .int p1)]) hx hb dX5_not_1 rfl hl (by decide) rfl (fun ls hl => ?_)
  refine X.loopY (I := fun (x : (GS × Int32)) g H locs => YW D clW ckH ct 26 ad P (mA 26 ad G0) S 0 G0 x.1 H ∧ va_S (mA 26 ad G0) s.heap H locs ∧ ∃ ls : Array Slot, g = F0 m 2 ls [] ∧ lv_has ls 6 [(0, .ref q0), (1, .int p1), (2, .int x.2)]) (cf := (fun (x : (GS × Int32)) => x.1.2.1 - G0.2.1)) (sf := (fun (x : (GS × Int32)) => x.1.2.2 - G0.2.2)) (fun rc3 ih3 => ?_) FUEL (G0, (0 : Int32)) _ _ _ ⟨hU, hS, _, rfl, lv_sub hl [1, 2, 0] rfl⟩
  rintro ⟨G1, v2⟩ _ H locs ⟨hU, hS, ls, rfl, hl⟩
  have hU : YW D clW ckH ct 26 ad P (mA 26 ad G0) S 0 G0 G1 H := hU
  have hl : lv_has ls 6 [(0, .ref q0), (1, .int p1), (2, .int v2)] := hl
  refine X.cs (cells2 := G1.2.1 - G0.2.1) (slots2 := G1.2.2 - G0.2.2) rfl rfl ?_
  refine X.eqs (sp2 := u5_not_L2 q0 p1 S P ad ct rcE rcU rc3 G1 v2) rfl ?_
  unfold u5_not_L2
  refine x_aload_n hx hb dX5_not_2 rfl (lv_at hl 0 rfl) ?_
  refine gx_ldcS (tx := "not") (z := 51) E (List.mem_of_getElem? (i := 11) rfl) dX5_not_3 ?_
  refine kzX5_5_is E hZ hU hS ⟨by show 5 + 1 ≤ 8 * n + 44; omega, by show 8 + (3 + 11) + 125 ≤ 200 * n + 690; omega⟩ hl.1 (Nat.le_of_ble_eq_true rfl) dX5_not_5 (fun o4 H locs hU hS => ?_)
  refine x_if_eq (tgt := 37) hx hb dX5_not_8 (by decide) (fun hc => ?_) (fun hc => ?_)
  · refine gy_new (ty := tyX7) E hZ hU hS in_X7 tyX7_ok (hts _ q1242) (hts _ q1243) (hts _ q140) (ci := 6) rfl (by decide) dX5_not_37 (fun q5 G6 H hU hS => ?_)
    refine x_dup hx hb dX5_not_40 rfl ?_
    refine x_aload_n hx hb dX5_not_41 rfl (lv_at hl 0 rfl) ?_
    refine x_iload_n hx hb dX5_not_42 rfl (lv_at hl 1 rfl) ?_
    refine X.tB (uzX5_5_sum hrc hrcU E hZ hU hS hxt hlk ⟨by show 8 * n + 43 + 1 ≤ 8 * n + 44; omega, by show 8 + (4 + 11) + (200 * n + 667) ≤ 200 * n + 690; omega⟩ hl.1 (Nat.le_of_ble_eq_true rfl) dX5_not_43) ?_
    refine kzX5_5_sum hrc E hZ hU hS ⟨by show 8 * n + 43 + 1 ≤ 8 * n + 44; omega, by show 8 + (4 + 11) + (200 * n + 667) ≤ 200 * n + 690; omega⟩ hl.1 (Nat.le_of_ble_eq_true rfl) dX5_not_43 (fun o7 H locs hU hS => ?_)
    refine kzX5_7_init E hZ hU hS ⟨by show 7 + 1 ≤ 8 * n + 44; omega, by show 8 + (2 + 11) + 191 ≤ 200 * n + 690; omega⟩ hl.1 (Nat.le_of_ble_eq_true rfl) dX5_not_46 (fun o8 H locs hU hS => ?_)
    refine x_astore_n (lv' := [(3, .ref q5), (0, .ref q0), (1, .int p1), (2, .int v2)]) hx hb dX5_not_49 rfl hl (by decide) rfl (fun ls hl => ?_)
    refine x_aload_n hx hb dX5_not_50 rfl (lv_at hl 1 rfl) ?_
    refine x_bipush (v := 60) hx hb dX5_not_51 (by decide) ?_
    refine kzX5_5_isSign E hZ hU hS ⟨by show 1 + 1 ≤ 8 * n + 44; omega, by show 8 + (2 + 11) + 60 ≤ 200 * n + 690; omega⟩ hl.1 (Nat.le_of_ble_eq_true rfl) dX5_not_53 (fun o9 H locs hU hS => ?_)
    refine X.join2Y (fun (x : GS) g H locs => YW D clW ckH ct 26 ad P (mA 26 ad G0) S 0 G0 x H ∧ va_S (mA 26 ad G0) s.heap H locs ∧ ∃ ls : Array Slot, g = F0 m 85 ls [] ∧ lv_has ls 6 [(2, .int v2), (3, .ref q5)]) (fun (x : GS) => x.2.1 - G0.2.1) (fun (x : GS) => x.2.2 - G0.2.2) ?_ (fun j11 hj11 => ?_)
    · rintro G10 _ H locs ⟨hU, hS, ls, rfl, hl⟩
      refine X.cs (cells2 := G10.2.1 - G0.2.1) (slots2 := G10.2.2 - G0.2.2) rfl rfl ?_
      refine X.eqs (sp2 := u5_not_J85 ct q5 G10) rfl ?_
      unfold u5_not_J85
      refine x_aload_n hx hb dX5_not_85 rfl (lv_at hl 1 rfl) ?_
      refine kzX5_7_plain E hZ hU hS ⟨by show 4 + 1 ≤ 8 * n + 44; omega, by show 8 + (1 + 11) + 104 ≤ 200 * n + 690; omega⟩ hl.1 (Nat.le_of_ble_eq_true rfl) dX5_not_86 (fun o15 H locs hU hS => ?_)
      refine X.onR (fun b16 hb_ => ?_)
      rw [hb_]
      try rw [hb_] at hl
      refine x_astore (lv' := [(4, .ref b16), (2, .int v2), (3, .ref q5)]) hx hb dX5_not_89 hl (by decide) rfl (fun ls hl => ?_)
      refine x_iconst (v := 0) hx hb dX5_not_91 (by decide) ?_
      refine x_istore (lv' := [(5, .int (0 : Int32)), (4, .ref b16), (2, .int v2), (3, .ref q5)]) hx hb dX5_not_92 hl (by decide) rfl (fun ls hl => ?_)
      exact X.none
    · refine x_if_ne (tgt := 68) hx hb dX5_not_56 (by decide) (fun hc => ?_) (fun hc => ?_)
      · refine x_aload_n hx hb dX5_not_68 rfl (lv_at hl 1 rfl) ?_
        refine kzX5_5_sign E hZ hU hS ⟨by show 6 + 1 ≤ 8 * n + 44; omega, by show 8 + (2 + 11) + 151 ≤ 200 * n + 690; omega⟩ hl.1 (Nat.le_of_ble_eq_true rfl) dX5_not_69 (fun o12 H locs hU hS => ?_)
        refine x_istore (lv' := [(4, .int o12.1), (3, .ref q5), (0, .ref q0), (1, .int p1), (2, .int v2)]) hx hb dX5_not_72 hl (by decide) rfl (fun ls hl => ?_)
        refine x_aload_n hx hb dX5_not_74 rfl (lv_at hl 1 rfl) ?_
        refine x_iload hx hb dX5_not_75 (lv_at hl 0 rfl) ?_
        refine x_aload_n hx hb dX5_not_77 rfl (lv_at hl 2 rfl) ?_
        refine x_iload_n hx hb dX5_not_78 rfl (lv_at hl 3 rfl) ?_
        exact uzX5_5_sum hrc hrcU E hZ hU hS hxt hlk ⟨by show 8 * n + 43 + 1 ≤ 8 * n + 44; omega, by show 8 + (4 + 11) + (200 * n + 667) ≤ 200 * n + 690; omega⟩ hl.1 (Nat.le_of_ble_eq_true rfl) dX5_not_79
      · refine x_aload_n hx hb dX5_not_59 rfl (lv_at hl 1 rfl) ?_
        refine x_bipush (v := 61) hx hb dX5_not_60 (by decide) ?_
        refine kzX5_5_isSign E hZ hU hS ⟨by show 1 + 1 ≤ 8 * n + 44; omega, by show 8 + (2 + 11) + 60 ≤ 200 * n + 690; omega⟩ hl.1 (Nat.le_of_ble_eq_true rfl) dX5_not_62 (fun o13 H locs hU hS => ?_)
        refine x_if_eq (tgt := 85) hx hb dX5_not_65 (by decide) (fun hc => ?_) (fun hc => ?_)
        · exact hj11 o13.2 _ _ _ ⟨hU, hS, _, rfl, lv_sub hl [3, 0] rfl⟩
        · refine x_aload_n hx hb dX5_not_68 rfl (lv_at hl 1 rfl) ?_
          refine kzX5_5_sign E hZ hU hS ⟨by show 6 + 1 ≤ 8 * n + 44; omega, by show 8 + (2 + 11) + 151 ≤ 200 * n + 690; omega⟩ hl.1 (Nat.le_of_ble_eq_true rfl) dX5_not_69 (fun o14 H locs hU hS => ?_)
          refine x_istore (lv' := [(4, .int o14.1), (3, .ref q5), (0, .ref q0), (1, .int p1), (2, .int v2)]) hx hb dX5_not_72 hl (by decide) rfl (fun ls hl => ?_)
          refine x_aload_n hx hb dX5_not_74 rfl (lv_at hl 1 rfl) ?_
          refine x_iload hx hb dX5_not_75 (lv_at hl 0 rfl) ?_
          refine x_aload_n hx hb dX5_not_77 rfl (lv_at hl 2 rfl) ?_
          refine x_iload_n hx hb dX5_not_78 rfl (lv_at hl 3 rfl) ?_
          exact uzX5_5_sum hrc hrcU E hZ hU hS hxt hlk ⟨by show 8 * n + 43 + 1 ≤ 8 * n + 44; omega, by show 8 + (4 + 11) + (200 * n + 667) ≤ 200 * n + 690; omega⟩ hl.1 (Nat.le_of_ble_eq_true rfl) dX5_not_79
  · refine x_aload_n hx hb dX5_not_11 rfl (lv_at hl 0 rfl) ?_
    refine x_iload_n hx hb dX5_not_12 rfl (lv_at hl 2 rfl) ?_
    refine x_bipush (v := 6) hx hb dX5_not_13 (by decide) ?_
    refine x_icmp_ge (tgt := 22) hx hb dX5_not_15 (by decide) (fun hc => ?_) (fun hc => ?_)
    · refine x_iconst (v := 0) hx hb dX5_not_22 (by decide) ?_
      refine x_iconst (v := 2) hx hb dX5_not_23 (by decide) ?_
      refine X.tB (uzX5_5_want E hZ hU hS hxt hlk ⟨by show 4 + 1 ≤ 8 * n + 44; omega, by show 8 + (3 + 11) + (129) ≤ 200 * n + 690; omega⟩ hl.1 (Nat.le_of_ble_eq_true rfl) dX5_not_24) ?_
      refine kzX5_5_want E hZ hU hS ⟨by show 4 + 1 ≤ 8 * n + 44; omega, by show 8 + (3 + 11) + (129) ≤ 200 * n + 690; omega⟩ hl.1 (Nat.le_of_ble_eq_true rfl) dX5_not_24 (fun o17 H locs hU hS => ?_)
      refine x_iinc (v := (v2 + (1 : Int32))) (lv' := [(2, .int (v2 + (1 : Int32))), (0, .ref q0), (1, .int p1)]) (k := 2) hx hb dX5_not_27 hl rfl rfl (by decide) rfl (fun ls hl => ?_)
      refine x_aload_n hx hb dX5_not_30 rfl (lv_at hl 1 rfl) ?_
      refine kzX5_5_next E hZ hU hS ⟨by show 5 + 1 ≤ 8 * n + 44; omega, by show 8 + (1 + 11) + 131 ≤ 200 * n + 690; omega⟩ hl.1 (Nat.le_of_ble_eq_true rfl) dX5_not_31 (fun o18 H locs hU hS => ?_)
      refine x_goto (tgt := 2) hx hb dX5_not_34 (by decide) ?_
      exact ih3 (o18, (v2 + (1 : Int32))) _ _ _ ⟨hU, hS, _, rfl, lv_sub hl [1, 2, 0] rfl⟩
    · refine x_iconst (v := 1) hx hb dX5_not_18 (by decide) ?_
      refine x_goto (tgt := 23) hx hb dX5_not_19 (by decide) ?_
      refine x_iconst (v := 2) hx hb dX5_not_23 (by decide) ?_
      refine X.tB (uzX5_5_want E hZ hU hS hxt hlk ⟨by show 4 + 1 ≤ 8 * n + 44; omega, by show 8 + (3 + 11) + (129) ≤ 200 * n + 690; omega⟩ hl.1 (Nat.le_of_ble_eq_true rfl) dX5_not_24) ?_
      refine kzX5_5_want E hZ hU hS ⟨by show 4 + 1 ≤ 8 * n + 44; omega, by show 8 + (3 + 11) + (129) ≤ 200 * n + 690; omega⟩ hl.1 (Nat.le_of_ble_eq_true rfl) dX5_not_24 (fun o19 H locs hU hS => ?_)
      refine x_iinc (v := (v2 + (1 : Int32))) (lv' := [(2, .int (v2 + (1 : Int32))), (0, .ref q0), (1, .int p1)]) (k := 2) hx hb dX5_not_27 hl rfl rfl (by decide) rfl (fun ls hl => ?_)
      refine x_aload_n hx hb dX5_not_30 rfl (lv_at hl 1 rfl) ?_
      refine kzX5_5_next E hZ hU hS ⟨by show 5 + 1 ≤ 8 * n + 44; omega, by show 8 + (1 + 11) + 131 ≤ 200 * n + 690; omega⟩ hl.1 (Nat.le_of_ble_eq_true rfl) dX5_not_31 (fun o20 H locs hU hS => ?_)
      refine x_goto (tgt := 2) hx hb dX5_not_34 (by decide) ?_
      exact ih3 (o20, (v2 + (1 : Int32))) _ _ _ ⟨hU, hS, _, rfl, lv_sub hl [1, 2, 0] rfl⟩
section VZ
variable {ρ : Type} {p : Program} {l : Launch} {e : Env} {R : Room} {s : State} {m : MethodId} {args : Array Value} {below : List Frame} {meth : Method} {c : Code} {H : Heap} {locs : List Loc} {Qf : ρ → State → Prop}
variable {cc : ByteArray} {pc nL q0 n : Nat} {ls : Array Slot} {rest : List Value}
variable {D : va_G} {ct : CT} {ad : Nat → Nat} {P : Nat → Nat → Option Nat} {A : Nat → Prop} {S : US} {G0 G : GS} {rcE : GS → Nat → Int32 → Option (Option Nat × GS)} {rcU : GS → Nat → Int32 → Option (Nat × GS)}
theorem uzX5_5_not {p1 : Int32} {n : Nat} (hrc : ∀ (G : GS) (q : Nat) (p : Int32) (o : Option Nat × GS), rcE G q p = some o → EMet l D ct ad P S n G q p o) (hrcU : ∀ (G : GS) (q : Nat) (p : Int32) (o : Nat × GS), rcU G q p = some o → EThr l D ct ad P S n G q p o) (E : ME p m c cc nL s args RX5 D clW ct) (hZ : YC ct R s (mA 26 ad G0) G0) (hY : YW D clW ckH ct 26 ad P (mA 26 ad G0) S 0 G0 G H) (hS : va_S (mA 26 ad G0) s.heap H locs) (hxt : ∀ x ∈ c.exceptionTable.toList, False) (hlk : meth.locks = false) (hR : 8 * n + 44 + 1 ≤ R.frames ∧ 8 + (6 + 11) + (200 * n + 690) ≤ R.locals) (hsize : ls.size = nL) (hW : (rest.map fun v => v.category).sum ≤ 8) (hdg : decode cc pc = .ok (.invokevirtual 188, 3)) : X p l e R s m args below meth c H locs (G.2.1 - G0.2.1) (G.2.2 - G0.2.2) (uQ below args s D ct ad P S G0) (hC G.1 q0 4 (u5_not ct ad P S rcE rcU G q0 p1)) (F0 m pc ls (.int p1 :: .ref q0 :: rest)) := X.hC fun fs bw hq => uy_end hZ hY hS hxt hlk (fun o ho => rtV (As := [.int p1]) E hY.1.any (recvA E.2.1 hY.1.1.2.1 hq rfl) (by rw [hY.1.2.1]; exact mU5_not l D ct ad P S n rcE hrc rcU hrcU G q0 p1 o ho) (cwV 1 E.1.2.2.2.2 (lw_V q1248 q1250 qs25 q124 q1251) rfl rfl rfl (by decide +kernel) hR) rfl hsize rfl hW hdg (hY.room hZ))
end VZ

set_option maxHeartbeats 4000000 in
theorem mY5_and (l : Launch) (D : va_G) (ct : CT) (ad : Nat → Nat) (P : Nat → Nat → Option Nat) (S : US) (n : Nat) (rcE : GS → Nat → Int32 → Option (Option Nat × GS)) (hrc : ∀ (G : GS) (q : Nat) (p : Int32) (o : Option Nat × GS), rcE G q p = some o → EMet l D ct ad P S n G q p o) (G0 : GS) (q0 : Nat) (p1 : Int32) (o : ((Option Nat) × GS)) (ho : s5_and ct ad P S rcE G0 q0 p1 = some o) : Met l yX5_and (ws_ yX5_and cX5_and 3 (some (.object "HorizonSeam$Form"))) { frames := 8 * n + 45, cells := nmax ct - G0.2.1, slots := zmax ct - G0.2.2, locals := 200 * n + 715 } (mP D clW ct [.ref q0, .int p1] G0.2.1 (MW D clW ckH ct 26 ad P (fun _ => True) S 0 G0)) (yC (some (va_rf o.1)) (MW D clW ckH ct 26 ad P (mA 26 ad G0) S 0 o.2) G0 o.2 (mA 26 ad G0)) (nmax ct - G0.2.1) (zmax ct - G0.2.2) (mA 26 ad G0) := by
  refine Y.start (val := fun (o : ((Option Nat) × GS)) => some (va_rf o.1)) (Bt := fun (o : ((Option Nat) × GS)) => MW D clW ckH ct 26 ad P (mA 26 ad G0) S 0 o.2) (Go := fun (o : ((Option Nat) × GS)) => o.2) ho (by decide) (Nat.le_of_ble_eq_true rfl) (lv := [(0, .ref q0), (1, .int p1)]) rfl ?_
  intro p e s m args below meth c E hr hlk hnm hZ hU hS ls hl
  obtain ⟨⟨hx, hb, hml, hown, hts⟩, hK, hJ⟩ := id E
  replace hr : meth.sig.returnType = some (FieldType.object "HorizonSeam$Form") ∧ ((∃ n, (FieldType.object "HorizonSeam$Form") = .object n) ∨ ∃ t, (FieldType.object "HorizonSeam$Form") = .array t) := ⟨hr, Or.inl ⟨_, rfl⟩⟩
  unfold s5_and
  refine gy_new (ty := tyX7) E hZ hU hS in_X7 tyX7_ok (hts _ q1242) (hts _ q1243) (hts _ q140) (ci := 6) rfl (by decide) dX5_and_0 (fun q1 G2 H hU hS => ?_)
  refine x_dup hx hb dX5_and_3 rfl ?_
  refine x_aload_n hx hb dX5_and_4 rfl (lv_at hl 0 rfl) ?_
  refine x_iload_n hx hb dX5_and_5 rfl (lv_at hl 1 rfl) ?_
  refine kzX5_5_not hrc E hZ hU hS ⟨by show 8 * n + 44 + 1 ≤ 8 * n + 45; omega, by show 8 + (6 + 11) + (200 * n + 690) ≤ 200 * n + 715; omega⟩ hl.1 (Nat.le_of_ble_eq_true rfl) dX5_and_6 (fun o3 H locs hU hS => ?_)
  refine kzX5_7_init E hZ hU hS ⟨by show 7 + 1 ≤ 8 * n + 45; omega, by show 8 + (2 + 11) + 191 ≤ 200 * n + 715; omega⟩ hl.1 (Nat.le_of_ble_eq_true rfl) dX5_and_9 (fun o4 H locs hU hS => ?_)
  refine x_astore_n (lv' := [(2, .ref q1), (0, .ref q0), (1, .int p1)]) hx hb dX5_and_12 rfl hl (by decide) rfl (fun ls hl => ?_)
  refine X.loopY (I := fun (x : GS) g H locs => YW D clW ckH ct 26 ad P (mA 26 ad G0) S 0 G0 x H ∧ va_S (mA 26 ad G0) s.heap H locs ∧ ∃ ls : Array Slot, g = F0 m 13 ls [] ∧ lv_has ls 3 [(0, .ref q0), (1, .int p1), (2, .ref q1)]) (cf := (fun (x : GS) => x.2.1 - G0.2.1)) (sf := (fun (x : GS) => x.2.2 - G0.2.2)) (fun rc6 ih6 => ?_) FUEL o4 _ _ _ ⟨hU, hS, _, rfl, lv_sub hl [1, 2, 0] rfl⟩
  rintro G5 _ H locs ⟨hU, hS, ls, rfl, hl⟩
  refine X.cs (cells2 := G5.2.1 - G0.2.1) (slots2 := G5.2.2 - G0.2.2) rfl rfl ?_
  refine X.eqs (sp2 := s5_and_L13 q0 p1 S P ad ct rcE q1 rc6 G5) rfl ?_
  unfold s5_and_L13
  refine x_aload_n hx hb dX5_and_13 rfl (lv_at hl 0 rfl) ?_
  refine gx_ldcS (tx := "and") (z := 52) E (List.mem_of_getElem? (i := 12) rfl) dX5_and_14 ?_
  refine kzX5_5_passes E hZ hU hS ⟨by show 6 + 1 ≤ 8 * n + 45; omega, by show 8 + (3 + 11) + 151 ≤ 200 * n + 715; omega⟩ hl.1 (Nat.le_of_ble_eq_true rfl) dX5_and_16 (fun o7 H locs hU hS => ?_)
  refine x_if_eq (tgt := 36) hx hb dX5_and_19 (by decide) (fun hc => ?_) (fun hc => ?_)
  · refine x_aload_n hx hb dX5_and_36 rfl (lv_at hl 2 rfl) ?_
    refine kzX5_7_plain E hZ hU hS ⟨by show 4 + 1 ≤ 8 * n + 45; omega, by show 8 + (1 + 11) + 104 ≤ 200 * n + 715; omega⟩ hl.1 (Nat.le_of_ble_eq_true rfl) dX5_and_37 (fun o8 H locs hU hS => ?_)
    exact y_aret (r := o8.1) hx hb hr hlk hZ hU hS rfl rfl hU.1 dX5_and_40
  · refine x_aload_n hx hb dX5_and_22 rfl (lv_at hl 2 rfl) ?_
    refine x_bipush (v := 38) hx hb dX5_and_23 (by decide) ?_
    refine x_aload_n hx hb dX5_and_25 rfl (lv_at hl 0 rfl) ?_
    refine x_iload_n hx hb dX5_and_26 rfl (lv_at hl 1 rfl) ?_
    refine kzX5_5_not hrc E hZ hU hS ⟨by show 8 * n + 44 + 1 ≤ 8 * n + 45; omega, by show 8 + (6 + 11) + (200 * n + 690) ≤ 200 * n + 715; omega⟩ hl.1 (Nat.le_of_ble_eq_true rfl) dX5_and_27 (fun o9 H locs hU hS => ?_)
    refine kzX5_7_add E hZ hU hS ⟨by show 7 + 1 ≤ 8 * n + 45; omega, by show 8 + (3 + 11) + 191 ≤ 200 * n + 715; omega⟩ hl.1 (Nat.le_of_ble_eq_true rfl) dX5_and_30 (fun o10 H locs hU hS => ?_)
    refine x_goto (tgt := 13) hx hb dX5_and_33 (by decide) ?_
    exact ih6 o10 _ _ _ ⟨hU, hS, _, rfl, lv_sub hl [0, 1, 2] rfl⟩
section VZ
variable {ρ : Type} {p : Program} {l : Launch} {e : Env} {R : Room} {s : State} {m : MethodId} {args : Array Value} {below : List Frame} {meth : Method} {c : Code} {H : Heap} {locs : List Loc} {Qf : ρ → State → Prop}
variable {cc : ByteArray} {pc nL q0 n : Nat} {ls : Array Slot} {rest : List Value}
variable {D : va_G} {ct : CT} {ad : Nat → Nat} {P : Nat → Nat → Option Nat} {A : Nat → Prop} {S : US} {G0 G : GS} {rcE : GS → Nat → Int32 → Option (Option Nat × GS)} {rcU : GS → Nat → Int32 → Option (Nat × GS)}
theorem kzX5_5_and {p1 : Int32} {n : Nat} (hrc : ∀ (G : GS) (q : Nat) (p : Int32) (o : Option Nat × GS), rcE G q p = some o → EMet l D ct ad P S n G q p o) (E : ME p m c cc nL s args RX5 D clW ct) (hZ : YC ct R s A G0) (hY : YW D clW ckH ct 26 ad P A S 0 G0 G H) (hS : va_S A s.heap H locs) (hR : 8 * n + 45 + 1 ≤ R.frames ∧ 8 + (3 + 11) + (200 * n + 715) ≤ R.locals) (hsize : ls.size = nL) (hW : (rest.map fun v => v.category).sum ≤ 8) (hdg : decode cc pc = .ok (.invokevirtual 195, 3)) {kp : ((Option Nat) × GS) → Option ρ} (kk : ∀ (o : ((Option Nat) × GS)) (H1 : Heap) (locs1 : List Loc), YW D clW ckH ct 26 ad P A S 0 G0 o.2 H1 → va_S A s.heap H1 locs1 → X p l e R s m args below meth c H1 locs1 (o.2.2.1 - G0.2.1) (o.2.2.2 - G0.2.2) Qf (kp o) (F0 m (pc + 3) ls (va_rf o.1 :: rest))) : X p l e R s m args below meth c H locs (G.2.1 - G0.2.1) (G.2.2 - G0.2.2) Qf (hC G.1 q0 4 (callK (s5_and ct ad P S rcE G q0 p1) kp)) (F0 m pc ls (.int p1 :: .ref q0 :: rest)) := X.hC fun fs bw hq => gy_mx (val' := fun (o : ((Option Nat) × GS)) => some (va_rf o.1)) (len := 3) (So := fun (o : ((Option Nat) × GS)) => S) (Po := fun (o : ((Option Nat) × GS)) => P) (Gn := fun (o : ((Option Nat) × GS)) => o.2) hZ hY hS (fun o ho => rqV (As := [.int p1]) E hY.1.any (recvA E.2.1 hY.1.1.2.1 hq rfl) (by rw [hY.1.2.1]; exact mY5_and l D ct ad P S n rcE hrc G q0 p1 o ho) (cwV 1 E.1.2.2.2.2 (lw_V q1244 q1246 qs24 q124 q1247) rfl rfl rfl (by decide +kernel) hR) rfl hsize rfl hW hdg (hY.room hZ)) kk
end VZ

set_option maxHeartbeats 4000000 in
theorem mU5_and (l : Launch) (D : va_G) (ct : CT) (ad : Nat → Nat) (P : Nat → Nat → Option Nat) (S : US) (n : Nat) (rcE : GS → Nat → Int32 → Option (Option Nat × GS)) (hrc : ∀ (G : GS) (q : Nat) (p : Int32) (o : Option Nat × GS), rcE G q p = some o → EMet l D ct ad P S n G q p o) (rcU : GS → Nat → Int32 → Option (Nat × GS)) (hrcU : ∀ (G : GS) (q : Nat) (p : Int32) (o : Nat × GS), rcU G q p = some o → EThr l D ct ad P S n G q p o) (G0 : GS) (q0 : Nat) (p1 : Int32) (o : Nat × GS) (ho : u5_and ct ad P S rcE rcU G0 q0 p1 = some o) : vx_Met l yX5_and (ws_ yX5_and cX5_and 3 (some (.object "HorizonSeam$Form"))) { frames := 8 * n + 45, cells := nmax ct - G0.2.1, slots := zmax ct - G0.2.2, locals := 200 * n + 715 } (mP D clW ct [.ref q0, .int p1] G0.2.1 (MW D clW ckH ct 26 ad P (fun _ => True) S 0 G0)) nQ (uX D ct ad P S G0 o) (nmax ct - G0.2.1) (zmax ct - G0.2.2) (mA 26 ad G0) := by
  refine U.start ho (by decide) (Nat.le_of_ble_eq_true rfl) (lv := [(0, .ref q0), (1, .int p1)]) rfl ?_
  intro p e s m args below meth c E hlk hxt hZ hU hS ls hl
  obtain ⟨⟨hx, hb, hml, hown, hts⟩, hK, hJ⟩ := id E
  unfold u5_and
  refine gy_new (ty := tyX7) E hZ hU hS in_X7 tyX7_ok (hts _ q1242) (hts _ q1243) (hts _ q140) (ci := 6) rfl (by decide) dX5_and_0 (fun q1 G2 H hU hS => ?_)
  refine x_dup hx hb dX5_and_3 rfl ?_
  refine x_aload_n hx hb dX5_and_4 rfl (lv_at hl 0 rfl) ?_
  refine x_iload_n hx hb dX5_and_5 rfl (lv_at hl 1 rfl) ?_
  refine X.tB (uzX5_5_not hrc hrcU E hZ hU hS hxt hlk ⟨by show 8 * n + 44 + 1 ≤ 8 * n + 45; omega, by show 8 + (6 + 11) + (200 * n + 690) ≤ 200 * n + 715; omega⟩ hl.1 (Nat.le_of_ble_eq_true rfl) dX5_and_6) ?_
  refine kzX5_5_not hrc E hZ hU hS ⟨by show 8 * n + 44 + 1 ≤ 8 * n + 45; omega, by show 8 + (6 + 11) + (200 * n + 690) ≤ 200 * n + 715; omega⟩ hl.1 (Nat.le_of_ble_eq_true rfl) dX5_and_6 (fun o3 H locs hU hS => ?_)
  refine kzX5_7_init E hZ hU hS ⟨by show 7 + 1 ≤ 8 * n + 45; omega, by show 8 + (2 + 11) + 191 ≤ 200 * n + 715; omega⟩ hl.1 (Nat.le_of_ble_eq_true rfl) dX5_and_9 (fun o4 H locs hU hS => ?_)
  refine x_astore_n (lv' := [(2, .ref q1), (0, .ref q0), (1, .int p1)]) hx hb dX5_and_12 rfl hl (by decide) rfl (fun ls hl => ?_)
  refine X.loopY (I := fun (x : GS) g H locs => YW D clW ckH ct 26 ad P (mA 26 ad G0) S 0 G0 x H ∧ va_S (mA 26 ad G0) s.heap H locs ∧ ∃ ls : Array Slot, g = F0 m 13 ls [] ∧ lv_has ls 3 [(0, .ref q0), (1, .int p1), (2, .ref q1)]) (cf := (fun (x : GS) => x.2.1 - G0.2.1)) (sf := (fun (x : GS) => x.2.2 - G0.2.2)) (fun rc6 ih6 => ?_) FUEL o4 _ _ _ ⟨hU, hS, _, rfl, lv_sub hl [1, 2, 0] rfl⟩
  rintro G5 _ H locs ⟨hU, hS, ls, rfl, hl⟩
  refine X.cs (cells2 := G5.2.1 - G0.2.1) (slots2 := G5.2.2 - G0.2.2) rfl rfl ?_
  refine X.eqs (sp2 := u5_and_L13 q0 p1 S P ad ct rcE rcU q1 rc6 G5) rfl ?_
  unfold u5_and_L13
  refine x_aload_n hx hb dX5_and_13 rfl (lv_at hl 0 rfl) ?_
  refine gx_ldcS (tx := "and") (z := 52) E (List.mem_of_getElem? (i := 12) rfl) dX5_and_14 ?_
  refine kzX5_5_passes E hZ hU hS ⟨by show 6 + 1 ≤ 8 * n + 45; omega, by show 8 + (3 + 11) + 151 ≤ 200 * n + 715; omega⟩ hl.1 (Nat.le_of_ble_eq_true rfl) dX5_and_16 (fun o7 H locs hU hS => ?_)
  refine x_if_eq (tgt := 36) hx hb dX5_and_19 (by decide) (fun hc => ?_) (fun hc => ?_)
  · exact X.none
  · refine x_aload_n hx hb dX5_and_22 rfl (lv_at hl 2 rfl) ?_
    refine x_bipush (v := 38) hx hb dX5_and_23 (by decide) ?_
    refine x_aload_n hx hb dX5_and_25 rfl (lv_at hl 0 rfl) ?_
    refine x_iload_n hx hb dX5_and_26 rfl (lv_at hl 1 rfl) ?_
    refine X.tB (uzX5_5_not hrc hrcU E hZ hU hS hxt hlk ⟨by show 8 * n + 44 + 1 ≤ 8 * n + 45; omega, by show 8 + (6 + 11) + (200 * n + 690) ≤ 200 * n + 715; omega⟩ hl.1 (Nat.le_of_ble_eq_true rfl) dX5_and_27) ?_
    refine kzX5_5_not hrc E hZ hU hS ⟨by show 8 * n + 44 + 1 ≤ 8 * n + 45; omega, by show 8 + (6 + 11) + (200 * n + 690) ≤ 200 * n + 715; omega⟩ hl.1 (Nat.le_of_ble_eq_true rfl) dX5_and_27 (fun o8 H locs hU hS => ?_)
    refine kzX5_7_add E hZ hU hS ⟨by show 7 + 1 ≤ 8 * n + 45; omega, by show 8 + (3 + 11) + 191 ≤ 200 * n + 715; omega⟩ hl.1 (Nat.le_of_ble_eq_true rfl) dX5_and_30 (fun o9 H locs hU hS => ?_)
    refine x_goto (tgt := 13) hx hb dX5_and_33 (by decide) ?_
    exact ih6 o9 _ _ _ ⟨hU, hS, _, rfl, lv_sub hl [0, 1, 2] rfl⟩
section VZ
variable {ρ : Type} {p : Program} {l : Launch} {e : Env} {R : Room} {s : State} {m : MethodId} {args : Array Value} {below : List Frame} {meth : Method} {c : Code} {H : Heap} {locs : List Loc} {Qf : ρ → State → Prop}
variable {cc : ByteArray} {pc nL q0 n : Nat} {ls : Array Slot} {rest : List Value}
variable {D : va_G} {ct : CT} {ad : Nat → Nat} {P : Nat → Nat → Option Nat} {A : Nat → Prop} {S : US} {G0 G : GS} {rcE : GS → Nat → Int32 → Option (Option Nat × GS)} {rcU : GS → Nat → Int32 → Option (Nat × GS)}
theorem uzX5_5_and {p1 : Int32} {n : Nat} (hrc : ∀ (G : GS) (q : Nat) (p : Int32) (o : Option Nat × GS), rcE G q p = some o → EMet l D ct ad P S n G q p o) (hrcU : ∀ (G : GS) (q : Nat) (p : Int32) (o : Nat × GS), rcU G q p = some o → EThr l D ct ad P S n G q p o) (E : ME p m c cc nL s args RX5 D clW ct) (hZ : YC ct R s (mA 26 ad G0) G0) (hY : YW D clW ckH ct 26 ad P (mA 26 ad G0) S 0 G0 G H) (hS : va_S (mA 26 ad G0) s.heap H locs) (hxt : ∀ x ∈ c.exceptionTable.toList, False) (hlk : meth.locks = false) (hR : 8 * n + 45 + 1 ≤ R.frames ∧ 8 + (3 + 11) + (200 * n + 715) ≤ R.locals) (hsize : ls.size = nL) (hW : (rest.map fun v => v.category).sum ≤ 8) (hdg : decode cc pc = .ok (.invokevirtual 195, 3)) : X p l e R s m args below meth c H locs (G.2.1 - G0.2.1) (G.2.2 - G0.2.2) (uQ below args s D ct ad P S G0) (hC G.1 q0 4 (u5_and ct ad P S rcE rcU G q0 p1)) (F0 m pc ls (.int p1 :: .ref q0 :: rest)) := X.hC fun fs bw hq => uy_end hZ hY hS hxt hlk (fun o ho => rtV (As := [.int p1]) E hY.1.any (recvA E.2.1 hY.1.1.2.1 hq rfl) (by rw [hY.1.2.1]; exact mU5_and l D ct ad P S n rcE hrc rcU hrcU G q0 p1 o ho) (cwV 1 E.1.2.2.2.2 (lw_V q1244 q1246 qs24 q124 q1247) rfl rfl rfl (by decide +kernel) hR) rfl hsize rfl hW hdg (hY.room hZ))
end VZ

set_option maxHeartbeats 4000000 in
theorem mY5_expression (l : Launch) (D : va_G) (ct : CT) (ad : Nat → Nat) (P : Nat → Nat → Option Nat) (S : US) (n : Nat) (rcE : GS → Nat → Int32 → Option (Option Nat × GS)) (hrc : ∀ (G : GS) (q : Nat) (p : Int32) (o : Option Nat × GS), rcE G q p = some o → EMet l D ct ad P S n G q p o) (G0 : GS) (q0 : Nat) (p1 : Int32) (o : ((Option Nat) × GS)) (ho : s5_expressionB ct ad P S rcE G0 q0 p1 = some o) : Met l yX5_expression (ws_ yX5_expression cX5_expression 3 (some (.object "HorizonSeam$Form"))) { frames := 8 * n + 48, cells := nmax ct - G0.2.1, slots := zmax ct - G0.2.2, locals := 200 * n + 800 } (mP D clW ct [.ref q0, .int p1] G0.2.1 (MW D clW ckH ct 26 ad P (fun _ => True) S 0 G0)) (yC (some (va_rf o.1)) (MW D clW ckH ct 26 ad P (mA 26 ad G0) S 0 o.2) G0 o.2 (mA 26 ad G0)) (nmax ct - G0.2.1) (zmax ct - G0.2.2) (mA 26 ad G0) := by
  refine Y.start (val := fun (o : ((Option Nat) × GS)) => some (va_rf o.1)) (Bt := fun (o : ((Option Nat) × GS)) => MW D clW ckH ct 26 ad P (mA 26 ad G0) S 0 o.2) (Go := fun (o : ((Option Nat) × GS)) => o.2) ho (by decide) (Nat.le_of_ble_eq_true rfl) (lv := [(0, .ref q0), (1, .int p1)]) rfl ?_
  intro p e s m args below meth c E hr hlk hnm hZ hU hS ls hl
  obtain ⟨⟨hx, hb, hml, hown, hts⟩, hK, hJ⟩ := id E
  replace hr : meth.sig.returnType = some (FieldType.object "HorizonSeam$Form") ∧ ((∃ n, (FieldType.object "HorizonSeam$Form") = .object n) ∨ ∃ t, (FieldType.object "HorizonSeam$Form") = .array t) := ⟨hr, Or.inl ⟨_, rfl⟩⟩
  unfold s5_expressionB
  refine x_aload_n hx hb dX5_expression_0 rfl (lv_at hl 0 rfl) ?_
  refine x_aload_n hx hb dX5_expression_1 rfl (lv_at hl 0 rfl) ?_
  refine fx_getI E hU.1.1.2.1 (ci := 4) rfl in_X5 6 (by decide) (hts _ q795) (fun _ h => h) dX5_expression_2 (fun v1 => ?_)
  refine x_iconst (v := 2) hx hb dX5_expression_5 (by decide) ?_
  refine X.join2Y (fun (x : (GS × Int32)) g H locs => YW D clW ckH ct 26 ad P (mA 26 ad G0) S 0 G0 x.1 H ∧ va_S (mA 26 ad G0) s.heap H locs ∧ ∃ ls : Array Slot, g = F0 m 31 ls [.int x.2, .ref q0] ∧ lv_has ls 3 [(0, .ref q0), (1, .int p1)]) (fun (x : (GS × Int32)) => x.1.2.1 - G0.2.1) (fun (x : (GS × Int32)) => x.1.2.2 - G0.2.2) ?_ (fun j4 hj4 => ?_)
  · rintro ⟨G2, y3⟩ _ H locs ⟨hU, hS, ls, rfl, hl⟩
    have hU : YW D clW ckH ct 26 ad P (mA 26 ad G0) S 0 G0 G2 H := hU
    have hl : lv_has ls 3 [(0, .ref q0), (1, .int p1)] := hl
    refine X.cs (cells2 := G2.2.1 - G0.2.1) (slots2 := G2.2.2 - G0.2.2) rfl rfl ?_
    refine X.eqs (sp2 := s5_expression_J31 q0 p1 S P ad ct rcE G2 y3) rfl ?_
    unfold s5_expression_J31
    refine x_iconst (v := 1) hx hb dX5_expression_31 (by decide) ?_
    refine kzX5_5_want E hZ hU hS ⟨by show 4 + 1 ≤ 8 * n + 48; omega, by show 8 + (3 + 11) + (129) ≤ 200 * n + 800; omega⟩ hl.1 (Nat.le_of_ble_eq_true rfl) dX5_expression_32 (fun o7 H locs hU hS => ?_)
    refine x_aload_n hx hb dX5_expression_35 rfl (lv_at hl 0 rfl) ?_
    refine x_iload_n hx hb dX5_expression_36 rfl (lv_at hl 1 rfl) ?_
    refine x_bipush (v := 6) hx hb dX5_expression_37 (by decide) ?_
    refine X.join2Y (fun (x : Int32) g H locs => YW D clW ckH ct 26 ad P (mA 26 ad G0) S 0 G0 o7 H ∧ va_S (mA 26 ad G0) s.heap H locs ∧ ∃ ls : Array Slot, g = F0 m 47 ls [.int x, .ref q0] ∧ lv_has ls 3 [(0, .ref q0), (1, .int p1)]) (fun (x : Int32) => o7.2.1 - G0.2.1) (fun (x : Int32) => o7.2.2 - G0.2.2) ?_ (fun j9 hj9 => ?_)
    · rintro y8 _ H locs ⟨hU, hS, ls, rfl, hl⟩
      refine X.cs (cells2 := o7.2.1 - G0.2.1) (slots2 := o7.2.2 - G0.2.2) rfl rfl ?_
      refine X.eqs (sp2 := s5_expression_J47 q0 p1 S P ad ct rcE o7 y8) rfl ?_
      unfold s5_expression_J47
      refine x_iconst (v := 2) hx hb dX5_expression_47 (by decide) ?_
      refine kzX5_5_want E hZ hU hS ⟨by show 4 + 1 ≤ 8 * n + 48; omega, by show 8 + (3 + 11) + (129) ≤ 200 * n + 800; omega⟩ hl.1 (Nat.le_of_ble_eq_true rfl) dX5_expression_48 (fun o10 H locs hU hS => ?_)
      refine gy_new (ty := tyX7) E hZ hU hS in_X7 tyX7_ok (hts _ q1242) (hts _ q1243) (hts _ q140) (ci := 6) rfl (by decide) dX5_expression_51 (fun q11 G12 H hU hS => ?_)
      refine x_dup hx hb dX5_expression_54 rfl ?_
      refine x_aload_n hx hb dX5_expression_55 rfl (lv_at hl 0 rfl) ?_
      refine x_iload_n hx hb dX5_expression_56 rfl (lv_at hl 1 rfl) ?_
      refine kzX5_5_and hrc E hZ hU hS ⟨by show 8 * n + 45 + 1 ≤ 8 * n + 48; omega, by show 8 + (3 + 11) + (200 * n + 715) ≤ 200 * n + 800; omega⟩ hl.1 (Nat.le_of_ble_eq_true rfl) dX5_expression_57 (fun o13 H locs hU hS => ?_)
      refine kzX5_7_init E hZ hU hS ⟨by show 7 + 1 ≤ 8 * n + 48; omega, by show 8 + (2 + 11) + 191 ≤ 200 * n + 800; omega⟩ hl.1 (Nat.le_of_ble_eq_true rfl) dX5_expression_60 (fun o14 H locs hU hS => ?_)
      refine x_astore_n (lv' := [(2, .ref q11), (0, .ref q0), (1, .int p1)]) hx hb dX5_expression_63 rfl hl (by decide) rfl (fun ls hl => ?_)
      refine X.loopY (I := fun (x : GS) g H locs => YW D clW ckH ct 26 ad P (mA 26 ad G0) S 0 G0 x H ∧ va_S (mA 26 ad G0) s.heap H locs ∧ ∃ ls : Array Slot, g = F0 m 64 ls [] ∧ lv_has ls 3 [(0, .ref q0), (1, .int p1), (2, .ref q11)]) (cf := (fun (x : GS) => x.2.1 - G0.2.1)) (sf := (fun (x : GS) => x.2.2 - G0.2.2)) (fun rc16 ih16 => ?_) FUEL o14 _ _ _ ⟨hU, hS, _, rfl, lv_sub hl [1, 2, 0] rfl⟩
      rintro G15 _ H locs ⟨hU, hS, ls, rfl, hl⟩
      refine X.cs (cells2 := G15.2.1 - G0.2.1) (slots2 := G15.2.2 - G0.2.2) rfl rfl ?_
      refine X.eqs (sp2 := s5_expression_L64 q0 p1 S P ad ct rcE q11 rc16 G15) rfl ?_
      unfold s5_expression_L64
      refine x_aload_n hx hb dX5_expression_64 rfl (lv_at hl 0 rfl) ?_
      refine gx_ldcS (tx := "or") (z := 53) E (List.mem_of_getElem? (i := 13) rfl) dX5_expression_65 ?_
      refine kzX5_5_passes E hZ hU hS ⟨by show 6 + 1 ≤ 8 * n + 48; omega, by show 8 + (3 + 11) + 151 ≤ 200 * n + 800; omega⟩ hl.1 (Nat.le_of_ble_eq_true rfl) dX5_expression_67 (fun o17 H locs hU hS => ?_)
      refine x_if_eq (tgt := 87) hx hb dX5_expression_70 (by decide) (fun hc => ?_) (fun hc => ?_)
      · refine x_aload_n hx hb dX5_expression_87 rfl (lv_at hl 2 rfl) ?_
        refine kzX5_7_plain E hZ hU hS ⟨by show 4 + 1 ≤ 8 * n + 48; omega, by show 8 + (1 + 11) + 104 ≤ 200 * n + 800; omega⟩ hl.1 (Nat.le_of_ble_eq_true rfl) dX5_expression_88 (fun o18 H locs hU hS => ?_)
        exact y_aret (r := o18.1) hx hb hr hlk hZ hU hS rfl rfl hU.1 dX5_expression_91
      · refine x_aload_n hx hb dX5_expression_73 rfl (lv_at hl 2 rfl) ?_
        refine x_bipush (v := 124) hx hb dX5_expression_74 (by decide) ?_
        refine x_aload_n hx hb dX5_expression_76 rfl (lv_at hl 0 rfl) ?_
        refine x_iload_n hx hb dX5_expression_77 rfl (lv_at hl 1 rfl) ?_
        refine kzX5_5_and hrc E hZ hU hS ⟨by show 8 * n + 45 + 1 ≤ 8 * n + 48; omega, by show 8 + (3 + 11) + (200 * n + 715) ≤ 200 * n + 800; omega⟩ hl.1 (Nat.le_of_ble_eq_true rfl) dX5_expression_78 (fun o19 H locs hU hS => ?_)
        refine kzX5_7_add E hZ hU hS ⟨by show 7 + 1 ≤ 8 * n + 48; omega, by show 8 + (3 + 11) + 191 ≤ 200 * n + 800; omega⟩ hl.1 (Nat.le_of_ble_eq_true rfl) dX5_expression_81 (fun o20 H locs hU hS => ?_)
        refine x_goto (tgt := 64) hx hb dX5_expression_84 (by decide) ?_
        exact ih16 o20 _ _ _ ⟨hU, hS, _, rfl, lv_sub hl [0, 1, 2] rfl⟩
    · refine x_icmp_ge (tgt := 46) hx hb dX5_expression_39 (by decide) (fun hc => ?_) (fun hc => ?_)
      · refine x_iconst (v := 0) hx hb dX5_expression_46 (by decide) ?_
        exact hj9 (0 : Int32) _ _ _ ⟨hU, hS, _, rfl, lv_sub hl [0, 1] rfl⟩
      · refine x_iconst (v := 1) hx hb dX5_expression_42 (by decide) ?_
        refine x_goto (tgt := 47) hx hb dX5_expression_43 (by decide) ?_
        exact hj9 (1 : Int32) _ _ _ ⟨hU, hS, _, rfl, lv_sub hl [0, 1] rfl⟩
  · refine x_icmp_eq (tgt := 26) hx hb dX5_expression_6 (by decide) (fun hc => ?_) (fun hc => ?_)
    · refine x_iconst (v := 1) hx hb dX5_expression_26 (by decide) ?_
      refine x_goto (tgt := 31) hx hb dX5_expression_27 (by decide) ?_
      exact hj4 (G0, (1 : Int32)) _ _ _ ⟨hU, hS, _, rfl, lv_sub hl [0, 1] rfl⟩
    · refine x_aload_n hx hb dX5_expression_9 rfl (lv_at hl 0 rfl) ?_
      refine fx_getI E hU.1.1.2.1 (ci := 4) rfl in_X5 6 (by decide) (hts _ q795) (fun _ h => h) dX5_expression_10 (fun v5 => ?_)
      refine x_iconst (v := 1) hx hb dX5_expression_13 (by decide) ?_
      refine x_icmp_eq (tgt := 26) hx hb dX5_expression_14 (by decide) (fun hc => ?_) (fun hc => ?_)
      · refine x_iconst (v := 1) hx hb dX5_expression_26 (by decide) ?_
        refine x_goto (tgt := 31) hx hb dX5_expression_27 (by decide) ?_
        exact hj4 (G0, (1 : Int32)) _ _ _ ⟨hU, hS, _, rfl, lv_sub hl [0, 1] rfl⟩
      · refine x_aload_n hx hb dX5_expression_17 rfl (lv_at hl 0 rfl) ?_
        refine x_bipush (v := 40) hx hb dX5_expression_18 (by decide) ?_
        refine kzX5_5_isSign E hZ hU hS ⟨by show 1 + 1 ≤ 8 * n + 48; omega, by show 8 + (2 + 11) + 60 ≤ 200 * n + 800; omega⟩ hl.1 (Nat.le_of_ble_eq_true rfl) dX5_expression_20 (fun o6 H locs hU hS => ?_)
        refine x_if_eq (tgt := 30) hx hb dX5_expression_23 (by decide) (fun hc => ?_) (fun hc => ?_)
        · refine x_iconst (v := 0) hx hb dX5_expression_30 (by decide) ?_
          exact hj4 (o6.2, (0 : Int32)) _ _ _ ⟨hU, hS, _, rfl, lv_sub hl [0, 1] rfl⟩
        · refine x_iconst (v := 1) hx hb dX5_expression_26 (by decide) ?_
          refine x_goto (tgt := 31) hx hb dX5_expression_27 (by decide) ?_
          exact hj4 (o6.2, (1 : Int32)) _ _ _ ⟨hU, hS, _, rfl, lv_sub hl [0, 1] rfl⟩

set_option maxHeartbeats 4000000 in
theorem mU5_expression (l : Launch) (D : va_G) (ct : CT) (ad : Nat → Nat) (P : Nat → Nat → Option Nat) (S : US) (n : Nat) (rcE : GS → Nat → Int32 → Option (Option Nat × GS)) (hrc : ∀ (G : GS) (q : Nat) (p : Int32) (o : Option Nat × GS), rcE G q p = some o → EMet l D ct ad P S n G q p o) (rcU : GS → Nat → Int32 → Option (Nat × GS)) (hrcU : ∀ (G : GS) (q : Nat) (p : Int32) (o : Nat × GS), rcU G q p = some o → EThr l D ct ad P S n G q p o) (G0 : GS) (q0 : Nat) (p1 : Int32) (o : Nat × GS) (ho : u5_expressionB ct ad P S rcE rcU G0 q0 p1 = some o) : vx_Met l yX5_expression (ws_ yX5_expression cX5_expression 3 (some (.object "HorizonSeam$Form"))) { frames := 8 * n + 48, cells := nmax ct - G0.2.1, slots := zmax ct - G0.2.2, locals := 200 * n + 800 } (mP D clW ct [.ref q0, .int p1] G0.2.1 (MW D clW ckH ct 26 ad P (fun _ => True) S 0 G0)) nQ (uX D ct ad P S G0 o) (nmax ct - G0.2.1) (zmax ct - G0.2.2) (mA 26 ad G0) := by
  refine U.start ho (by decide) (Nat.le_of_ble_eq_true rfl) (lv := [(0, .ref q0), (1, .int p1)]) rfl ?_
  intro p e s m args below meth c E hlk hxt hZ hU hS ls hl
  obtain ⟨⟨hx, hb, hml, hown, hts⟩, hK, hJ⟩ := id E
  unfold u5_expressionB
  refine x_aload_n hx hb dX5_expression_0 rfl (lv_at hl 0 rfl) ?_
  refine x_aload_n hx hb dX5_expression_1 rfl (lv_at hl 0 rfl) ?_
  refine fx_getI E hU.1.1.2.1 (ci := 4) rfl in_X5 6 (by decide) (hts _ q795) (fun _ h => h) dX5_expression_2 (fun v1 => ?_)
  refine x_iconst (v := 2) hx hb dX5_expression_5 (by decide) ?_
  refine X.join2Y (fun (x : (GS × Int32)) g H locs => YW D clW ckH ct 26 ad P (mA 26 ad G0) S 0 G0 x.1 H ∧ va_S (mA 26 ad G0) s.heap H locs ∧ ∃ ls : Array Slot, g = F0 m 31 ls [.int x.2, .ref q0] ∧ lv_has ls 3 [(0, .ref q0), (1, .int p1)]) (fun (x : (GS × Int32)) => x.1.2.1 - G0.2.1) (fun (x : (GS × Int32)) => x.1.2.2 - G0.2.2) ?_ (fun j4 hj4 => ?_)
  · rintro ⟨G2, y3⟩ _ H locs ⟨hU, hS, ls, rfl, hl⟩
    have hU : YW D clW ckH ct 26 ad P (mA 26 ad G0) S 0 G0 G2 H := hU
    have hl : lv_has ls 3 [(0, .ref q0), (1, .int p1)] := hl
    refine X.cs (cells2 := G2.2.1 - G0.2.1) (slots2 := G2.2.2 - G0.2.2) rfl rfl ?_
    refine X.eqs (sp2 := u5_expression_J31 q0 p1 S P ad ct rcE rcU G2 y3) rfl ?_
    unfold u5_expression_J31
    refine x_iconst (v := 1) hx hb dX5_expression_31 (by decide) ?_
    refine X.tB (uzX5_5_want E hZ hU hS hxt hlk ⟨by show 4 + 1 ≤ 8 * n + 48; omega, by show 8 + (3 + 11) + (129) ≤ 200 * n + 800; omega⟩ hl.1 (Nat.le_of_ble_eq_true rfl) dX5_expression_32) ?_
    refine kzX5_5_want E hZ hU hS ⟨by show 4 + 1 ≤ 8 * n + 48; omega, by show 8 + (3 + 11) + (129) ≤ 200 * n + 800; omega⟩ hl.1 (Nat.le_of_ble_eq_true rfl) dX5_expression_32 (fun o7 H locs hU hS => ?_)
    refine x_aload_n hx hb dX5_expression_35 rfl (lv_at hl 0 rfl) ?_
    refine x_iload_n hx hb dX5_expression_36 rfl (lv_at hl 1 rfl) ?_
    refine x_bipush (v := 6) hx hb dX5_expression_37 (by decide) ?_
    refine X.join2Y (fun (x : Int32) g H locs => YW D clW ckH ct 26 ad P (mA 26 ad G0) S 0 G0 o7 H ∧ va_S (mA 26 ad G0) s.heap H locs ∧ ∃ ls : Array Slot, g = F0 m 47 ls [.int x, .ref q0] ∧ lv_has ls 3 [(0, .ref q0), (1, .int p1)]) (fun (x : Int32) => o7.2.1 - G0.2.1) (fun (x : Int32) => o7.2.2 - G0.2.2) ?_ (fun j9 hj9 => ?_)
    · rintro y8 _ H locs ⟨hU, hS, ls, rfl, hl⟩
      refine X.cs (cells2 := o7.2.1 - G0.2.1) (slots2 := o7.2.2 - G0.2.2) rfl rfl ?_
      refine X.eqs (sp2 := u5_expression_J47 q0 p1 S P ad ct rcE rcU o7 y8) rfl ?_
      unfold u5_expression_J47
      refine x_iconst (v := 2) hx hb dX5_expression_47 (by decide) ?_
      refine X.tB (uzX5_5_want E hZ hU hS hxt hlk ⟨by show 4 + 1 ≤ 8 * n + 48; omega, by show 8 + (3 + 11) + (129) ≤ 200 * n + 800; omega⟩ hl.1 (Nat.le_of_ble_eq_true rfl) dX5_expression_48) ?_
      refine kzX5_5_want E hZ hU hS ⟨by show 4 + 1 ≤ 8 * n + 48; omega, by show 8 + (3 + 11) + (129) ≤ 200 * n + 800; omega⟩ hl.1 (Nat.le_of_ble_eq_true rfl) dX5_expression_48 (fun o10 H locs hU hS => ?_)
      refine gy_new (ty := tyX7) E hZ hU hS in_X7 tyX7_ok (hts _ q1242) (hts _ q1243) (hts _ q140) (ci := 6) rfl (by decide) dX5_expression_51 (fun q11 G12 H hU hS => ?_)
      refine x_dup hx hb dX5_expression_54 rfl ?_
      refine x_aload_n hx hb dX5_expression_55 rfl (lv_at hl 0 rfl) ?_
      refine x_iload_n hx hb dX5_expression_56 rfl (lv_at hl 1 rfl) ?_
      refine X.tB (uzX5_5_and hrc hrcU E hZ hU hS hxt hlk ⟨by show 8 * n + 45 + 1 ≤ 8 * n + 48; omega, by show 8 + (3 + 11) + (200 * n + 715) ≤ 200 * n + 800; omega⟩ hl.1 (Nat.le_of_ble_eq_true rfl) dX5_expression_57) ?_
      refine kzX5_5_and hrc E hZ hU hS ⟨by show 8 * n + 45 + 1 ≤ 8 * n + 48; omega, by show 8 + (3 + 11) + (200 * n + 715) ≤ 200 * n + 800; omega⟩ hl.1 (Nat.le_of_ble_eq_true rfl) dX5_expression_57 (fun o13 H locs hU hS => ?_)
      refine kzX5_7_init E hZ hU hS ⟨by show 7 + 1 ≤ 8 * n + 48; omega, by show 8 + (2 + 11) + 191 ≤ 200 * n + 800; omega⟩ hl.1 (Nat.le_of_ble_eq_true rfl) dX5_expression_60 (fun o14 H locs hU hS => ?_)
      refine x_astore_n (lv' := [(2, .ref q11), (0, .ref q0), (1, .int p1)]) hx hb dX5_expression_63 rfl hl (by decide) rfl (fun ls hl => ?_)
      refine X.loopY (I := fun (x : GS) g H locs => YW D clW ckH ct 26 ad P (mA 26 ad G0) S 0 G0 x H ∧ va_S (mA 26 ad G0) s.heap H locs ∧ ∃ ls : Array Slot, g = F0 m 64 ls [] ∧ lv_has ls 3 [(0, .ref q0), (1, .int p1), (2, .ref q11)]) (cf := (fun (x : GS) => x.2.1 - G0.2.1)) (sf := (fun (x : GS) => x.2.2 - G0.2.2)) (fun rc16 ih16 => ?_) FUEL o14 _ _ _ ⟨hU, hS, _, rfl, lv_sub hl [1, 2, 0] rfl⟩
      rintro G15 _ H locs ⟨hU, hS, ls, rfl, hl⟩
      refine X.cs (cells2 := G15.2.1 - G0.2.1) (slots2 := G15.2.2 - G0.2.2) rfl rfl ?_
      refine X.eqs (sp2 := u5_expression_L64 q0 p1 S P ad ct rcE rcU q11 rc16 G15) rfl ?_
      unfold u5_expression_L64
      refine x_aload_n hx hb dX5_expression_64 rfl (lv_at hl 0 rfl) ?_
      refine gx_ldcS (tx := "or") (z := 53) E (List.mem_of_getElem? (i := 13) rfl) dX5_expression_65 ?_
      refine kzX5_5_passes E hZ hU hS ⟨by show 6 + 1 ≤ 8 * n + 48; omega, by show 8 + (3 + 11) + 151 ≤ 200 * n + 800; omega⟩ hl.1 (Nat.le_of_ble_eq_true rfl) dX5_expression_67 (fun o17 H locs hU hS => ?_)
      refine x_if_eq (tgt := 87) hx hb dX5_expression_70 (by decide) (fun hc => ?_) (fun hc => ?_)
      · exact X.none
      · refine x_aload_n hx hb dX5_expression_73 rfl (lv_at hl 2 rfl) ?_
        refine x_bipush (v := 124) hx hb dX5_expression_74 (by decide) ?_
        refine x_aload_n hx hb dX5_expression_76 rfl (lv_at hl 0 rfl) ?_
        refine x_iload_n hx hb dX5_expression_77 rfl (lv_at hl 1 rfl) ?_
        refine X.tB (uzX5_5_and hrc hrcU E hZ hU hS hxt hlk ⟨by show 8 * n + 45 + 1 ≤ 8 * n + 48; omega, by show 8 + (3 + 11) + (200 * n + 715) ≤ 200 * n + 800; omega⟩ hl.1 (Nat.le_of_ble_eq_true rfl) dX5_expression_78) ?_
        refine kzX5_5_and hrc E hZ hU hS ⟨by show 8 * n + 45 + 1 ≤ 8 * n + 48; omega, by show 8 + (3 + 11) + (200 * n + 715) ≤ 200 * n + 800; omega⟩ hl.1 (Nat.le_of_ble_eq_true rfl) dX5_expression_78 (fun o18 H locs hU hS => ?_)
        refine kzX5_7_add E hZ hU hS ⟨by show 7 + 1 ≤ 8 * n + 48; omega, by show 8 + (3 + 11) + 191 ≤ 200 * n + 800; omega⟩ hl.1 (Nat.le_of_ble_eq_true rfl) dX5_expression_81 (fun o19 H locs hU hS => ?_)
        refine x_goto (tgt := 64) hx hb dX5_expression_84 (by decide) ?_
        exact ih16 o19 _ _ _ ⟨hU, hS, _, rfl, lv_sub hl [0, 1, 2] rfl⟩
    · refine x_icmp_ge (tgt := 46) hx hb dX5_expression_39 (by decide) (fun hc => ?_) (fun hc => ?_)
      · refine x_iconst (v := 0) hx hb dX5_expression_46 (by decide) ?_
        exact hj9 (0 : Int32) _ _ _ ⟨hU, hS, _, rfl, lv_sub hl [0, 1] rfl⟩
      · refine x_iconst (v := 1) hx hb dX5_expression_42 (by decide) ?_
        refine x_goto (tgt := 47) hx hb dX5_expression_43 (by decide) ?_
        exact hj9 (1 : Int32) _ _ _ ⟨hU, hS, _, rfl, lv_sub hl [0, 1] rfl⟩
  · refine x_icmp_eq (tgt := 26) hx hb dX5_expression_6 (by decide) (fun hc => ?_) (fun hc => ?_)
    · refine x_iconst (v := 1) hx hb dX5_expression_26 (by decide) ?_
      refine x_goto (tgt := 31) hx hb dX5_expression_27 (by decide) ?_
      exact hj4 (G0, (1 : Int32)) _ _ _ ⟨hU, hS, _, rfl, lv_sub hl [0, 1] rfl⟩
    · refine x_aload_n hx hb dX5_expression_9 rfl (lv_at hl 0 rfl) ?_
      refine fx_getI E hU.1.1.2.1 (ci := 4) rfl in_X5 6 (by decide) (hts _ q795) (fun _ h => h) dX5_expression_10 (fun v5 => ?_)
      refine x_iconst (v := 1) hx hb dX5_expression_13 (by decide) ?_
      refine x_icmp_eq (tgt := 26) hx hb dX5_expression_14 (by decide) (fun hc => ?_) (fun hc => ?_)
      · refine x_iconst (v := 1) hx hb dX5_expression_26 (by decide) ?_
        refine x_goto (tgt := 31) hx hb dX5_expression_27 (by decide) ?_
        exact hj4 (G0, (1 : Int32)) _ _ _ ⟨hU, hS, _, rfl, lv_sub hl [0, 1] rfl⟩
      · refine x_aload_n hx hb dX5_expression_17 rfl (lv_at hl 0 rfl) ?_
        refine x_bipush (v := 40) hx hb dX5_expression_18 (by decide) ?_
        refine kzX5_5_isSign E hZ hU hS ⟨by show 1 + 1 ≤ 8 * n + 48; omega, by show 8 + (2 + 11) + 60 ≤ 200 * n + 800; omega⟩ hl.1 (Nat.le_of_ble_eq_true rfl) dX5_expression_20 (fun o6 H locs hU hS => ?_)
        refine x_if_eq (tgt := 30) hx hb dX5_expression_23 (by decide) (fun hc => ?_) (fun hc => ?_)
        · refine x_iconst (v := 0) hx hb dX5_expression_30 (by decide) ?_
          exact hj4 (o6.2, (0 : Int32)) _ _ _ ⟨hU, hS, _, rfl, lv_sub hl [0, 1] rfl⟩
        · refine x_iconst (v := 1) hx hb dX5_expression_26 (by decide) ?_
          refine x_goto (tgt := 31) hx hb dX5_expression_27 (by decide) ?_
          exact hj4 (o6.2, (1 : Int32)) _ _ _ ⟨hU, hS, _, rfl, lv_sub hl [0, 1] rfl⟩

theorem emet (l : Launch) (D : va_G) (ct : CT) (ad : Nat → Nat) (P : Nat → Nat → Option Nat) (S : US) : ∀ (n : Nat) (G : GS) (q : Nat) (p : Int32) (o : Option Nat × GS), sExp n ct ad P S G q p = some o → EMet l D ct ad P S n G q p o := by
  intro n
  induction n with
  | zero => intro G q p o ho; cases ho
  | succ n ih =>
    intro G q p o ho
    exact mY5_expression l D ct ad P S n (sExp n ct ad P S) ih G q p o ho
theorem ethr (l : Launch) (D : va_G) (ct : CT) (ad : Nat → Nat) (P : Nat → Nat → Option Nat) (S : US) : ∀ (n : Nat) (G : GS) (q : Nat) (p : Int32) (o : Nat × GS), uExp n ct ad P S G q p = some o → EThr l D ct ad P S n G q p o := by
  intro n
  induction n with
  | zero => intro G q p o ho; cases ho
  | succ n ih =>
    intro G q p o ho
    exact mU5_expression l D ct ad P S n (sExp n ct ad P S) (emet l D ct ad P S n) (uExp n ct ad P S) ih G q p o ho

set_option maxHeartbeats 4000000 in
theorem mY5_stretch (l : Launch) (D : va_G) (ct : CT) (ad : Nat → Nat) (P : Nat → Nat → Option Nat) (S : US) (G0 : GS) (q0 : Nat) (o : GS) (ho : s5_stretch ct ad P S G0 q0 = some o) : Met l yX5_stretch (ws_ yX5_stretch cX5_stretch 2 none) { frames := 7, cells := nmax ct - G0.2.1, slots := zmax ct - G0.2.2, locals := 196 } (mP D clW ct [.ref q0] G0.2.1 (MW D clW ckH ct 26 ad P (fun _ => True) S 0 G0)) (yC (none) (MW D clW ckH ct 26 ad P (mA 26 ad G0) S 0 o) G0 o (mA 26 ad G0)) (nmax ct - G0.2.1) (zmax ct - G0.2.2) (mA 26 ad G0) := by
  refine Y.start (val := fun (o : GS) => none) (Bt := fun (o : GS) => MW D clW ckH ct 26 ad P (mA 26 ad G0) S 0 o) (Go := fun (o : GS) => o) ho (by decide) (Nat.le_of_ble_eq_true rfl) (lv := [(0, .ref q0)]) rfl ?_
  intro p e s m args below meth c E hr hlk hnm hZ hU hS ls hl
  obtain ⟨⟨hx, hb, hml, hown, hts⟩, hK, hJ⟩ := id E
  unfold s5_stretch
  refine x_aload_n hx hb dX5_stretch_0 rfl (lv_at hl 0 rfl) ?_
  refine fx_getI E hU.1.1.2.1 (ci := 4) rfl in_X5 11 (by decide) (hts _ q801) (fun _ h => h) dX5_stretch_1 (fun v1 => ?_)
  refine x_istore_n (lv' := [(1, .int v1), (0, .ref q0)]) hx hb dX5_stretch_4 rfl hl (by decide) rfl (fun ls hl => ?_)
  refine x_aload_n hx hb dX5_stretch_5 rfl (lv_at hl 1 rfl) ?_
  refine x_iload_n hx hb dX5_stretch_6 rfl (lv_at hl 0 rfl) ?_
  refine x_bipush (v := 12) hx hb dX5_stretch_7 (by decide) ?_
  refine X.join2Y (fun (x : Int32) g H locs => YW D clW ckH ct 26 ad P (mA 26 ad G0) S 0 G0 G0 H ∧ va_S (mA 26 ad G0) s.heap H locs ∧ ∃ ls : Array Slot, g = F0 m 17 ls [.int x, .ref q0] ∧ lv_has ls 2 [(0, .ref q0), (1, .int v1)]) (fun (x : Int32) => G0.2.1 - G0.2.1) (fun (x : Int32) => G0.2.2 - G0.2.2) ?_ (fun j3 hj3 => ?_)
  · rintro y2 _ H locs ⟨hU, hS, ls, rfl, hl⟩
    refine X.cs (cells2 := G0.2.1 - G0.2.1) (slots2 := G0.2.2 - G0.2.2) rfl rfl ?_
    refine X.eqs (sp2 := s5_stretch_J17 q0 S P ad G0 ct v1 y2) rfl ?_
    unfold s5_stretch_J17
    refine x_iconst (v := 2) hx hb dX5_stretch_17 (by decide) ?_
    refine kzX5_5_want E hZ hU hS ⟨by show 4 + 1 ≤ 7; omega, by show 8 + (3 + 11) + (129) ≤ 196; omega⟩ hl.1 (Nat.le_of_ble_eq_true rfl) dX5_stretch_18 (fun o4 H locs hU hS => ?_)
    refine x_aload_n hx hb dX5_stretch_21 rfl (lv_at hl 0 rfl) ?_
    refine kzX5_5_next E hZ hU hS ⟨Nat.le_of_ble_eq_true rfl, Nat.le_of_ble_eq_true rfl⟩ hl.1 (Nat.le_of_ble_eq_true rfl) dX5_stretch_22 (fun o5 H locs hU hS => ?_)
    refine x_aload_n hx hb dX5_stretch_25 rfl (lv_at hl 0 rfl) ?_
    refine fx_getR E hU.1.1.2.1 (ci := 4) rfl in_X5 2 (by decide) (hts _ q790) (fun _ h => h) dX5_stretch_26 (fun r6 => ?_)
    refine X.onR (fun b7 hb_ => ?_)
    subst hb_
    refine fx_getRN E hU.1.1.2.1 (ci := 3) rfl in_X3 0 (by decide) (hJ.at q230 rfl) (fun _ h => h) dX5_stretch_29 (fun r8 => ?_)
    refine x_iload_n hx hb dX5_stretch_32 rfl (lv_at hl 1 rfl) ?_
    refine x_aload_n hx hb dX5_stretch_33 rfl (lv_at hl 0 rfl) ?_
    refine x_iconst (v := 0) hx hb dX5_stretch_34 (by decide) ?_
    refine x_bipush (v := 99) hx hb dX5_stretch_35 (by decide) ?_
    refine kzX5_5_number E hZ hU hS ⟨by show 6 + 1 ≤ 7; omega, by show 8 + (4 + 11) + (173) ≤ 196; omega⟩ hl.1 (by rcases r8 with _ | _ <;> exact Nat.le_of_ble_eq_true rfl) dX5_stretch_37 (fun o9 H locs hU hS => ?_)
    refine X.onR (fun b10 hb_ => ?_)
    subst hb_
    refine gy_iast E hU hS dX5_stretch_40 (fun G11 H locs hU hS => ?_)
    refine x_aload_n hx hb dX5_stretch_41 rfl (lv_at hl 0 rfl) ?_
    refine fx_getR E hU.1.1.2.1 (ci := 4) rfl in_X5 2 (by decide) (hts _ q790) (fun _ h => h) dX5_stretch_42 (fun r12 => ?_)
    refine X.onR (fun b13 hb_ => ?_)
    subst hb_
    refine fx_getRN E hU.1.1.2.1 (ci := 3) rfl in_X3 1 (by decide) (hJ.at q233 rfl) (fun _ h => h) dX5_stretch_45 (fun r14 => ?_)
    refine x_iload_n hx hb dX5_stretch_48 rfl (lv_at hl 1 rfl) ?_
    refine x_aload_n hx hb dX5_stretch_49 rfl (lv_at hl 0 rfl) ?_
    refine x_iconst (v := 0) hx hb dX5_stretch_50 (by decide) ?_
    refine x_bipush (v := 99) hx hb dX5_stretch_51 (by decide) ?_
    refine kzX5_5_number E hZ hU hS ⟨by show 6 + 1 ≤ 7; omega, by show 8 + (4 + 11) + (173) ≤ 196; omega⟩ hl.1 (by rcases r14 with _ | _ <;> exact Nat.le_of_ble_eq_true rfl) dX5_stretch_53 (fun o15 H locs hU hS => ?_)
    refine X.onR (fun b16 hb_ => ?_)
    subst hb_
    refine gy_iast E hU hS dX5_stretch_56 (fun G17 H locs hU hS => ?_)
    refine x_aload_n hx hb dX5_stretch_57 rfl (lv_at hl 0 rfl) ?_
    refine fx_getR E hU.1.1.2.1 (ci := 4) rfl in_X5 2 (by decide) (hts _ q790) (fun _ h => h) dX5_stretch_58 (fun r18 => ?_)
    refine X.onR (fun b19 hb_ => ?_)
    subst hb_
    refine fx_getRN E hU.1.1.2.1 (ci := 3) rfl in_X3 2 (by decide) (hJ.at q236 rfl) (fun _ h => h) dX5_stretch_61 (fun r20 => ?_)
    refine x_iload_n hx hb dX5_stretch_64 rfl (lv_at hl 1 rfl) ?_
    refine x_aload_n hx hb dX5_stretch_65 rfl (lv_at hl 0 rfl) ?_
    refine x_iconst (v := 0) hx hb dX5_stretch_66 (by decide) ?_
    refine x_iconst (v := 2) hx hb dX5_stretch_67 (by decide) ?_
    refine kzX5_5_number E hZ hU hS ⟨by show 6 + 1 ≤ 7; omega, by show 8 + (4 + 11) + (173) ≤ 196; omega⟩ hl.1 (by rcases r20 with _ | _ <;> exact Nat.le_of_ble_eq_true rfl) dX5_stretch_68 (fun o21 H locs hU hS => ?_)
    refine X.onR (fun b22 hb_ => ?_)
    subst hb_
    refine gy_iast E hU hS dX5_stretch_71 (fun G23 H locs hU hS => ?_)
    refine x_aload_n hx hb dX5_stretch_72 rfl (lv_at hl 0 rfl) ?_
    refine x_dup hx hb dX5_stretch_73 rfl ?_
    refine fx_getI E hU.1.1.2.1 (ci := 4) rfl in_X5 11 (by decide) (hts _ q801) (fun _ h => h) dX5_stretch_74 (fun v24 => ?_)
    refine x_iconst (v := 1) hx hb dX5_stretch_77 (by decide) ?_
    refine x_iadd hx hb dX5_stretch_78 ?_
    refine gy_put (v := .int (v24 + (1 : Int32))) (ty0 := tyX5) E hU hS (ci := 4) rfl in_X5 tyX5_ok nmX5 11 (by decide) (hts _ q801) (fun _ h => h) (Or.inl rfl) rfl rfl dX5_stretch_79 (fun G25 H locs hU hS => ?_)
    exact y_vret hx hb hr hlk hZ hU hS rfl rfl hU.1 dX5_stretch_82
  · refine x_icmp_ge (tgt := 16) hx hb dX5_stretch_9 (by decide) (fun hc => ?_) (fun hc => ?_)
    · refine x_iconst (v := 0) hx hb dX5_stretch_16 (by decide) ?_
      exact hj3 (0 : Int32) _ _ _ ⟨hU, hS, _, rfl, lv_sub hl [1, 0] rfl⟩
    · refine x_iconst (v := 1) hx hb dX5_stretch_12 (by decide) ?_
      refine x_goto (tgt := 17) hx hb dX5_stretch_13 (by decide) ?_
      exact hj3 (1 : Int32) _ _ _ ⟨hU, hS, _, rfl, lv_sub hl [1, 0] rfl⟩
section VZ
variable {ρ : Type} {p : Program} {l : Launch} {e : Env} {R : Room} {s : State} {m : MethodId} {args : Array Value} {below : List Frame} {meth : Method} {c : Code} {H : Heap} {locs : List Loc} {Qf : ρ → State → Prop}
variable {cc : ByteArray} {pc nL q0 n : Nat} {ls : Array Slot} {rest : List Value}
variable {D : va_G} {ct : CT} {ad : Nat → Nat} {P : Nat → Nat → Option Nat} {A : Nat → Prop} {S : US} {G0 G : GS} {rcE : GS → Nat → Int32 → Option (Option Nat × GS)} {rcU : GS → Nat → Int32 → Option (Nat × GS)}
theorem kzX5_5_stretch (E : ME p m c cc nL s args RX5 D clW ct) (hZ : YC ct R s A G0) (hY : YW D clW ckH ct 26 ad P A S 0 G0 G H) (hS : va_S A s.heap H locs) (hR : 7 + 1 ≤ R.frames ∧ 8 + (2 + 11) + 196 ≤ R.locals) (hsize : ls.size = nL) (hW : (rest.map fun v => v.category).sum ≤ 8) (hdg : decode cc pc = .ok (.invokevirtual 278, 3)) {kp : GS → Option ρ} (kk : ∀ (o : GS) (H1 : Heap) (locs1 : List Loc), YW D clW ckH ct 26 ad P A S 0 G0 o H1 → va_S A s.heap H1 locs1 → X p l e R s m args below meth c H1 locs1 (o.2.1 - G0.2.1) (o.2.2 - G0.2.2) Qf (kp o) (F0 m (pc + 3) ls (rest))) : X p l e R s m args below meth c H locs (G.2.1 - G0.2.1) (G.2.2 - G0.2.2) Qf (hC G.1 q0 4 (callK (s5_stretch ct ad P S G q0) kp)) (F0 m pc ls (.ref q0 :: rest)) := X.hC fun fs bw hq => gy_mx (val' := fun (o : GS) => none) (len := 3) (So := fun (o : GS) => S) (Po := fun (o : GS) => P) (Gn := fun (o : GS) => o) hZ hY hS (fun o ho => rqV (As := []) E hY.1.any (recvA E.2.1 hY.1.1.2.1 hq rfl) (by rw [hY.1.2.1]; exact mY5_stretch l D ct ad P S G q0 o ho) (cwV 0 E.1.2.2.2.2 (lw_V q1332 q1334 qs31 q124 q1335) rfl rfl rfl (by decide +kernel) hR) rfl hsize rfl hW hdg (hY.room hZ)) kk
end VZ

set_option maxHeartbeats 4000000 in
theorem mU5_stretch (l : Launch) (D : va_G) (ct : CT) (ad : Nat → Nat) (P : Nat → Nat → Option Nat) (S : US) (G0 : GS) (q0 : Nat) (o : Nat × GS) (ho : u5_stretch ct ad P S G0 q0 = some o) : vx_Met l yX5_stretch (ws_ yX5_stretch cX5_stretch 2 none) { frames := 7, cells := nmax ct - G0.2.1, slots := zmax ct - G0.2.2, locals := 196 } (mP D clW ct [.ref q0] G0.2.1 (MW D clW ckH ct 26 ad P (fun _ => True) S 0 G0)) nQ (uX D ct ad P S G0 o) (nmax ct - G0.2.1) (zmax ct - G0.2.2) (mA 26 ad G0) := by
  refine U.start ho (by decide) (Nat.le_of_ble_eq_true rfl) (lv := [(0, .ref q0)]) rfl ?_
  intro p e s m args below meth c E hlk hxt hZ hU hS ls hl
  obtain ⟨⟨hx, hb, hml, hown, hts⟩, hK, hJ⟩ := id E
  unfold u5_stretch
  refine x_aload_n hx hb dX5_stretch_0 rfl (lv_at hl 0 rfl) ?_
  refine fx_getI E hU.1.1.2.1 (ci := 4) rfl in_X5 11 (by decide) (hts _ q801) (fun _ h => h) dX5_stretch_1 (fun v1 => ?_)
  refine x_istore_n (lv' := [(1, .int v1), (0, .ref q0)]) hx hb dX5_stretch_4 rfl hl (by decide) rfl (fun ls hl => ?_)
  refine x_aload_n hx hb dX5_stretch_5 rfl (lv_at hl 1 rfl) ?_
  refine x_iload_n hx hb dX5_stretch_6 rfl (lv_at hl 0 rfl) ?_
  refine x_bipush (v := 12) hx hb dX5_stretch_7 (by decide) ?_
  refine X.join2Y (fun (x : Int32) g H locs => YW D clW ckH ct 26 ad P (mA 26 ad G0) S 0 G0 G0 H ∧ va_S (mA 26 ad G0) s.heap H locs ∧ ∃ ls : Array Slot, g = F0 m 17 ls [.int x, .ref q0] ∧ lv_has ls 2 [(0, .ref q0), (1, .int v1)]) (fun (x : Int32) => G0.2.1 - G0.2.1) (fun (x : Int32) => G0.2.2 - G0.2.2) ?_ (fun j3 hj3 => ?_)
  · rintro y2 _ H locs ⟨hU, hS, ls, rfl, hl⟩
    refine X.cs (cells2 := G0.2.1 - G0.2.1) (slots2 := G0.2.2 - G0.2.2) rfl rfl ?_
    refine X.eqs (sp2 := u5_stretch_J17 q0 S P ad G0 ct v1 y2) rfl ?_
    unfold u5_stretch_J17
    refine x_iconst (v := 2) hx hb dX5_stretch_17 (by decide) ?_
    refine X.tB (uzX5_5_want E hZ hU hS hxt hlk ⟨by show 4 + 1 ≤ 7; omega, by show 8 + (3 + 11) + (129) ≤ 196; omega⟩ hl.1 (Nat.le_of_ble_eq_true rfl) dX5_stretch_18) ?_
    refine kzX5_5_want E hZ hU hS ⟨by show 4 + 1 ≤ 7; omega, by show 8 + (3 + 11) + (129) ≤ 196; omega⟩ hl.1 (Nat.le_of_ble_eq_true rfl) dX5_stretch_18 (fun o4 H locs hU hS => ?_)
    refine x_aload_n hx hb dX5_stretch_21 rfl (lv_at hl 0 rfl) ?_
    refine kzX5_5_next E hZ hU hS ⟨Nat.le_of_ble_eq_true rfl, Nat.le_of_ble_eq_true rfl⟩ hl.1 (Nat.le_of_ble_eq_true rfl) dX5_stretch_22 (fun o5 H locs hU hS => ?_)
    refine x_aload_n hx hb dX5_stretch_25 rfl (lv_at hl 0 rfl) ?_
    refine fx_getR E hU.1.1.2.1 (ci := 4) rfl in_X5 2 (by decide) (hts _ q790) (fun _ h => h) dX5_stretch_26 (fun r6 => ?_)
    refine X.onR (fun b7 hb_ => ?_)
    subst hb_
    refine fx_getRN E hU.1.1.2.1 (ci := 3) rfl in_X3 0 (by decide) (hJ.at q230 rfl) (fun _ h => h) dX5_stretch_29 (fun r8 => ?_)
    refine x_iload_n hx hb dX5_stretch_32 rfl (lv_at hl 1 rfl) ?_
    refine x_aload_n hx hb dX5_stretch_33 rfl (lv_at hl 0 rfl) ?_
    refine x_iconst (v := 0) hx hb dX5_stretch_34 (by decide) ?_
    refine x_bipush (v := 99) hx hb dX5_stretch_35 (by decide) ?_
    refine X.tB (uzX5_5_number E hZ hU hS hxt hlk ⟨by show 6 + 1 ≤ 7; omega, by show 8 + (4 + 11) + (173) ≤ 196; omega⟩ hl.1 (by rcases r8 with _ | _ <;> exact Nat.le_of_ble_eq_true rfl) dX5_stretch_37) ?_
    refine kzX5_5_number E hZ hU hS ⟨by show 6 + 1 ≤ 7; omega, by show 8 + (4 + 11) + (173) ≤ 196; omega⟩ hl.1 (by rcases r8 with _ | _ <;> exact Nat.le_of_ble_eq_true rfl) dX5_stretch_37 (fun o9 H locs hU hS => ?_)
    refine X.onR (fun b10 hb_ => ?_)
    subst hb_
    refine gy_iast E hU hS dX5_stretch_40 (fun G11 H locs hU hS => ?_)
    refine x_aload_n hx hb dX5_stretch_41 rfl (lv_at hl 0 rfl) ?_
    refine fx_getR E hU.1.1.2.1 (ci := 4) rfl in_X5 2 (by decide) (hts _ q790) (fun _ h => h) dX5_stretch_42 (fun r12 => ?_)
    refine X.onR (fun b13 hb_ => ?_)
    subst hb_
    refine fx_getRN E hU.1.1.2.1 (ci := 3) rfl in_X3 1 (by decide) (hJ.at q233 rfl) (fun _ h => h) dX5_stretch_45 (fun r14 => ?_)
    refine x_iload_n hx hb dX5_stretch_48 rfl (lv_at hl 1 rfl) ?_
    refine x_aload_n hx hb dX5_stretch_49 rfl (lv_at hl 0 rfl) ?_
    refine x_iconst (v := 0) hx hb dX5_stretch_50 (by decide) ?_
    refine x_bipush (v := 99) hx hb dX5_stretch_51 (by decide) ?_
    refine X.tB (uzX5_5_number E hZ hU hS hxt hlk ⟨by show 6 + 1 ≤ 7; omega, by show 8 + (4 + 11) + (173) ≤ 196; omega⟩ hl.1 (by rcases r14 with _ | _ <;> exact Nat.le_of_ble_eq_true rfl) dX5_stretch_53) ?_
    refine kzX5_5_number E hZ hU hS ⟨by show 6 + 1 ≤ 7; omega, by show 8 + (4 + 11) + (173) ≤ 196; omega⟩ hl.1 (by rcases r14 with _ | _ <;> exact Nat.le_of_ble_eq_true rfl) dX5_stretch_53 (fun o15 H locs hU hS => ?_)
    refine X.onR (fun b16 hb_ => ?_)
    subst hb_
    refine gy_iast E hU hS dX5_stretch_56 (fun G17 H locs hU hS => ?_)
    refine x_aload_n hx hb dX5_stretch_57 rfl (lv_at hl 0 rfl) ?_
    refine fx_getR E hU.1.1.2.1 (ci := 4) rfl in_X5 2 (by decide) (hts _ q790) (fun _ h => h) dX5_stretch_58 (fun r18 => ?_)
    refine X.onR (fun b19 hb_ => ?_)
    subst hb_
    refine fx_getRN E hU.1.1.2.1 (ci := 3) rfl in_X3 2 (by decide) (hJ.at q236 rfl) (fun _ h => h) dX5_stretch_61 (fun r20 => ?_)
    refine x_iload_n hx hb dX5_stretch_64 rfl (lv_at hl 1 rfl) ?_
    refine x_aload_n hx hb dX5_stretch_65 rfl (lv_at hl 0 rfl) ?_
    refine x_iconst (v := 0) hx hb dX5_stretch_66 (by decide) ?_
    refine x_iconst (v := 2) hx hb dX5_stretch_67 (by decide) ?_
    exact uzX5_5_number E hZ hU hS hxt hlk ⟨by show 6 + 1 ≤ 7; omega, by show 8 + (4 + 11) + (173) ≤ 196; omega⟩ hl.1 (by rcases r20 with _ | _ <;> exact Nat.le_of_ble_eq_true rfl) dX5_stretch_68
  · refine x_icmp_ge (tgt := 16) hx hb dX5_stretch_9 (by decide) (fun hc => ?_) (fun hc => ?_)
    · refine x_iconst (v := 0) hx hb dX5_stretch_16 (by decide) ?_
      exact hj3 (0 : Int32) _ _ _ ⟨hU, hS, _, rfl, lv_sub hl [1, 0] rfl⟩
    · refine x_iconst (v := 1) hx hb dX5_stretch_12 (by decide) ?_
      refine x_goto (tgt := 17) hx hb dX5_stretch_13 (by decide) ?_
      exact hj3 (1 : Int32) _ _ _ ⟨hU, hS, _, rfl, lv_sub hl [1, 0] rfl⟩
section VZ
variable {ρ : Type} {p : Program} {l : Launch} {e : Env} {R : Room} {s : State} {m : MethodId} {args : Array Value} {below : List Frame} {meth : Method} {c : Code} {H : Heap} {locs : List Loc} {Qf : ρ → State → Prop}
variable {cc : ByteArray} {pc nL q0 n : Nat} {ls : Array Slot} {rest : List Value}
variable {D : va_G} {ct : CT} {ad : Nat → Nat} {P : Nat → Nat → Option Nat} {A : Nat → Prop} {S : US} {G0 G : GS} {rcE : GS → Nat → Int32 → Option (Option Nat × GS)} {rcU : GS → Nat → Int32 → Option (Nat × GS)}
theorem uzX5_5_stretch (E : ME p m c cc nL s args RX5 D clW ct) (hZ : YC ct R s (mA 26 ad G0) G0) (hY : YW D clW ckH ct 26 ad P (mA 26 ad G0) S 0 G0 G H) (hS : va_S (mA 26 ad G0) s.heap H locs) (hxt : ∀ x ∈ c.exceptionTable.toList, False) (hlk : meth.locks = false) (hR : 7 + 1 ≤ R.frames ∧ 8 + (2 + 11) + 196 ≤ R.locals) (hsize : ls.size = nL) (hW : (rest.map fun v => v.category).sum ≤ 8) (hdg : decode cc pc = .ok (.invokevirtual 278, 3)) : X p l e R s m args below meth c H locs (G.2.1 - G0.2.1) (G.2.2 - G0.2.2) (uQ below args s D ct ad P S G0) (hC G.1 q0 4 (u5_stretch ct ad P S G q0)) (F0 m pc ls (.ref q0 :: rest)) := X.hC fun fs bw hq => uy_end hZ hY hS hxt hlk (fun o ho => rtV (As := []) E hY.1.any (recvA E.2.1 hY.1.1.2.1 hq rfl) (by rw [hY.1.2.1]; exact mU5_stretch l D ct ad P S G q0 o ho) (cwV 0 E.1.2.2.2.2 (lw_V q1332 q1334 qs31 q124 q1335) rfl rfl rfl (by decide +kernel) hR) rfl hsize rfl hW hdg (hY.room hZ))
end VZ

set_option maxHeartbeats 4000000 in
theorem mY5_woman (l : Launch) (D : va_G) (ct : CT) (ad : Nat → Nat) (P : Nat → Nat → Option Nat) (S : US) (G0 : GS) (q0 : Nat) (o : GS) (ho : s5_woman ct ad P S G0 q0 = some o) : Met l yX5_woman (ws_ yX5_woman cX5_woman 3 none) { frames := 7, cells := nmax ct - G0.2.1, slots := zmax ct - G0.2.2, locals := 196 } (mP D clW ct [.ref q0] G0.2.1 (MW D clW ckH ct 26 ad P (fun _ => True) S 0 G0)) (yC (none) (MW D clW ckH ct 26 ad P (mA 26 ad G0) S 0 o) G0 o (mA 26 ad G0)) (nmax ct - G0.2.1) (zmax ct - G0.2.2) (mA 26 ad G0) := by
  refine Y.start (val := fun (o : GS) => none) (Bt := fun (o : GS) => MW D clW ckH ct 26 ad P (mA 26 ad G0) S 0 o) (Go := fun (o : GS) => o) ho (by decide) (Nat.le_of_ble_eq_true rfl) (lv := [(0, .ref q0)]) rfl ?_
  intro p e s m args below meth c E hr hlk hnm hZ hU hS ls hl
  obtain ⟨⟨hx, hb, hml, hown, hts⟩, hK, hJ⟩ := id E
  unfold s5_woman
  refine x_aload_n hx hb dX5_woman_0 rfl (lv_at hl 0 rfl) ?_
  refine fx_getR E hU.1.1.2.1 (ci := 4) rfl in_X5 1 (by decide) (hts _ q789) (fun _ h => h) dX5_woman_1 (fun r1 => ?_)
  refine X.onR (fun b2 hb_ => ?_)
  subst hb_
  refine kzX5_2_womenF E hZ hU hS ⟨Nat.le_of_ble_eq_true rfl, Nat.le_of_ble_eq_true rfl⟩ hl.1 (Nat.le_of_ble_eq_true rfl) dX5_woman_4 (fun o3 H locs hU hS => ?_)
  refine x_istore_n (lv' := [(1, .int o3.1), (0, .ref q0)]) hx hb dX5_woman_7 rfl hl (by decide) rfl (fun ls hl => ?_)
  refine x_aload_n hx hb dX5_woman_8 rfl (lv_at hl 1 rfl) ?_
  refine x_iload_n hx hb dX5_woman_9 rfl (lv_at hl 0 rfl) ?_
  refine x_bipush (v := 6) hx hb dX5_woman_10 (by decide) ?_
  refine X.join2Y (fun (x : Int32) g H locs => YW D clW ckH ct 26 ad P (mA 26 ad G0) S 0 G0 o3.2 H ∧ va_S (mA 26 ad G0) s.heap H locs ∧ ∃ ls : Array Slot, g = F0 m 20 ls [.int x, .ref q0] ∧ lv_has ls 3 [(0, .ref q0), (1, .int o3.1)]) (fun (x : Int32) => o3.2.2.1 - G0.2.1) (fun (x : Int32) => o3.2.2.2 - G0.2.2) ?_ (fun j5 hj5 => ?_)
  · rintro y4 _ H locs ⟨hU, hS, ls, rfl, hl⟩
    refine X.cs (cells2 := o3.2.2.1 - G0.2.1) (slots2 := o3.2.2.2 - G0.2.2) rfl rfl ?_
    refine X.eqs (sp2 := s5_woman_J20 q0 S P ad ct o3 y4) rfl ?_
    unfold s5_woman_J20
    refine x_iconst (v := 2) hx hb dX5_woman_20 (by decide) ?_
    refine kzX5_5_want E hZ hU hS ⟨by show 4 + 1 ≤ 7; omega, by show 8 + (3 + 11) + (129) ≤ 196; omega⟩ hl.1 (Nat.le_of_ble_eq_true rfl) dX5_woman_21 (fun o6 H locs hU hS => ?_)
    refine x_aload_n hx hb dX5_woman_24 rfl (lv_at hl 0 rfl) ?_
    refine kzX5_5_next E hZ hU hS ⟨Nat.le_of_ble_eq_true rfl, Nat.le_of_ble_eq_true rfl⟩ hl.1 (Nat.le_of_ble_eq_true rfl) dX5_woman_25 (fun o7 H locs hU hS => ?_)
    refine x_aload_n hx hb dX5_woman_28 rfl (lv_at hl 0 rfl) ?_
    refine x_iconst (v := 0) hx hb dX5_woman_29 (by decide) ?_
    refine x_bipush (v := 9) hx hb dX5_woman_30 (by decide) ?_
    refine kzX5_5_number E hZ hU hS ⟨by show 6 + 1 ≤ 7; omega, by show 8 + (4 + 11) + (173) ≤ 196; omega⟩ hl.1 (Nat.le_of_ble_eq_true rfl) dX5_woman_32 (fun o8 H locs hU hS => ?_)
    refine x_istore_n (lv' := [(2, .int o8.1), (0, .ref q0), (1, .int o3.1)]) hx hb dX5_woman_35 rfl hl (by decide) rfl (fun ls hl => ?_)
    refine x_aload_n hx hb dX5_woman_36 rfl (lv_at hl 1 rfl) ?_
    refine fx_getR E hU.1.1.2.1 (ci := 4) rfl in_X5 2 (by decide) (hts _ q790) (fun _ h => h) dX5_woman_37 (fun r9 => ?_)
    refine X.onR (fun b10 hb_ => ?_)
    subst hb_
    refine fx_getRN E hU.1.1.2.1 (ci := 3) rfl in_X3 3 (by decide) (hJ.at q239 rfl) (fun _ h => h) dX5_woman_40 (fun r11 => ?_)
    refine x_iload_n hx hb dX5_woman_43 rfl (lv_at hl 2 rfl) ?_
    refine x_aload_n hx hb dX5_woman_44 rfl (lv_at hl 1 rfl) ?_
    refine x_iconst (v := 0) hx hb dX5_woman_45 (by decide) ?_
    refine x_sipush (v := 9999) hx hb dX5_woman_46 (by decide) ?_
    refine kzX5_5_numberNow E hZ hU hS ⟨by show 5 + 1 ≤ 7; omega, by show 8 + (3 + 11) + (151) ≤ 196; omega⟩ hl.1 (by rcases r11 with _ | _ <;> exact Nat.le_of_ble_eq_true rfl) dX5_woman_49 (fun o12 H locs hU hS => ?_)
    refine X.onR (fun b13 hb_ => ?_)
    subst hb_
    refine gy_iast E hU hS dX5_woman_52 (fun G14 H locs hU hS => ?_)
    refine x_aload_n hx hb dX5_woman_53 rfl (lv_at hl 1 rfl) ?_
    refine x_aload_n hx hb dX5_woman_54 rfl (lv_at hl 1 rfl) ?_
    refine fx_getR E hU.1.1.2.1 (ci := 4) rfl in_X5 2 (by decide) (hts _ q790) (fun _ h => h) dX5_woman_55 (fun r15 => ?_)
    refine X.onR (fun b16 hb_ => ?_)
    subst hb_
    refine fx_getRN E hU.1.1.2.1 (ci := 3) rfl in_X3 3 (by decide) (hJ.at q239 rfl) (fun _ h => h) dX5_woman_58 (fun r17 => ?_)
    refine x_iload_n hx hb dX5_woman_61 rfl (lv_at hl 2 rfl) ?_
    refine X.onR (fun b18 hb_ => ?_)
    subst hb_
    refine fx_iaload E hU.1.1.2.1 dX5_woman_62 (fun v19 => ?_)
    refine x_aload_n hx hb dX5_woman_63 rfl (lv_at hl 1 rfl) ?_
    refine fx_getI E hU.1.1.2.1 (ci := 4) rfl in_X5 11 (by decide) (hts _ q801) (fun _ h => h) dX5_woman_64 (fun v20 => ?_)
    refine X.join2Y (fun (x : Int32) g H locs => YW D clW ckH ct 26 ad P (mA 26 ad G0) S 0 G0 G14 H ∧ va_S (mA 26 ad G0) s.heap H locs ∧ ∃ ls : Array Slot, g = F0 m 75 ls [.int x, .ref q0] ∧ lv_has ls 3 [(0, .ref q0), (1, .int o3.1), (2, .int o8.1)]) (fun (x : Int32) => G14.2.1 - G0.2.1) (fun (x : Int32) => G14.2.2 - G0.2.2) ?_ (fun j22 hj22 => ?_)
    · rintro y21 _ H locs ⟨hU, hS, ls, rfl, hl⟩
      refine X.cs (cells2 := G14.2.1 - G0.2.1) (slots2 := G14.2.2 - G0.2.2) rfl rfl ?_
      refine X.eqs (sp2 := s5_woman_J75 q0 S P ad ct o3 o8 G14 y21) rfl ?_
      unfold s5_woman_J75
      refine x_iconst (v := 3) hx hb dX5_woman_75 (by decide) ?_
      refine kzX5_5_want E hZ hU hS ⟨by show 4 + 1 ≤ 7; omega, by show 8 + (3 + 11) + (129) ≤ 196; omega⟩ hl.1 (Nat.le_of_ble_eq_true rfl) dX5_woman_76 (fun o23 H locs hU hS => ?_)
      refine x_aload_n hx hb dX5_woman_79 rfl (lv_at hl 0 rfl) ?_
      refine kzX5_5_next E hZ hU hS ⟨Nat.le_of_ble_eq_true rfl, Nat.le_of_ble_eq_true rfl⟩ hl.1 (Nat.le_of_ble_eq_true rfl) dX5_woman_80 (fun o24 H locs hU hS => ?_)
      refine x_aload_n hx hb dX5_woman_83 rfl (lv_at hl 0 rfl) ?_
      refine fx_getR E hU.1.1.2.1 (ci := 4) rfl in_X5 2 (by decide) (hts _ q790) (fun _ h => h) dX5_woman_84 (fun r25 => ?_)
      refine X.onR (fun b26 hb_ => ?_)
      subst hb_
      refine fx_getRN E hU.1.1.2.1 (ci := 3) rfl in_X3 4 (by decide) (hJ.at q242 rfl) (fun _ h => h) dX5_woman_87 (fun r27 => ?_)
      refine x_iload_n hx hb dX5_woman_90 rfl (lv_at hl 1 rfl) ?_
      refine x_aload_n hx hb dX5_woman_91 rfl (lv_at hl 0 rfl) ?_
      refine x_iconst (v := 0) hx hb dX5_woman_92 (by decide) ?_
      refine x_bipush (v := 99) hx hb dX5_woman_93 (by decide) ?_
      refine kzX5_5_number E hZ hU hS ⟨by show 6 + 1 ≤ 7; omega, by show 8 + (4 + 11) + (173) ≤ 196; omega⟩ hl.1 (by rcases r27 with _ | _ <;> exact Nat.le_of_ble_eq_true rfl) dX5_woman_95 (fun o28 H locs hU hS => ?_)
      refine X.onR (fun b29 hb_ => ?_)
      subst hb_
      refine gy_iast E hU hS dX5_woman_98 (fun G30 H locs hU hS => ?_)
      refine x_aload_n hx hb dX5_woman_99 rfl (lv_at hl 0 rfl) ?_
      refine fx_getR E hU.1.1.2.1 (ci := 4) rfl in_X5 1 (by decide) (hts _ q789) (fun _ h => h) dX5_woman_100 (fun r31 => ?_)
      refine X.onR (fun b32 hb_ => ?_)
      subst hb_
      refine fx_getRN E hU.1.1.2.1 (ci := 2) rfl in_X2 0 (by decide) (hJ.at q193 rfl) (fun _ h => h) dX5_woman_103 (fun r33 => ?_)
      refine x_iload_n hx hb dX5_woman_106 rfl (lv_at hl 2 rfl) ?_
      refine kzX5_N_valueOf E hZ hU hS ⟨Nat.le_of_ble_eq_true rfl, Nat.le_of_ble_eq_true rfl⟩ hl.1 (by rcases r33 with _ | _ <;> exact Nat.le_of_ble_eq_true rfl) dX5_woman_107 (fun o34 H locs hU hS => ?_)
      refine X.onR (fun b35 hb_ => ?_)
      subst hb_
      refine kzX5_L_add E hZ hU hS ⟨Nat.le_of_ble_eq_true rfl, Nat.le_of_ble_eq_true rfl⟩ hl.1 (Nat.le_of_ble_eq_true rfl) dX5_woman_110 (fun o36 H locs hU hS => ?_)
      refine x_pop hx hb dX5_woman_115 rfl ?_
      exact y_vret hx hb hr hlk hZ hU hS rfl rfl hU.1 dX5_woman_116
    · refine x_icmp_ge (tgt := 74) hx hb dX5_woman_67 (by decide) (fun hc => ?_) (fun hc => ?_)
      · refine x_iconst (v := 0) hx hb dX5_woman_74 (by decide) ?_
        exact hj22 (0 : Int32) _ _ _ ⟨hU, hS, _, rfl, lv_sub hl [1, 2, 0] rfl⟩
      · refine x_iconst (v := 1) hx hb dX5_woman_70 (by decide) ?_
        refine x_goto (tgt := 75) hx hb dX5_woman_71 (by decide) ?_
        exact hj22 (1 : Int32) _ _ _ ⟨hU, hS, _, rfl, lv_sub hl [1, 2, 0] rfl⟩
  · refine x_icmp_ge (tgt := 19) hx hb dX5_woman_12 (by decide) (fun hc => ?_) (fun hc => ?_)
    · refine x_iconst (v := 0) hx hb dX5_woman_19 (by decide) ?_
      exact hj5 (0 : Int32) _ _ _ ⟨hU, hS, _, rfl, lv_sub hl [1, 0] rfl⟩
    · refine x_iconst (v := 1) hx hb dX5_woman_15 (by decide) ?_
      refine x_goto (tgt := 20) hx hb dX5_woman_16 (by decide) ?_
      exact hj5 (1 : Int32) _ _ _ ⟨hU, hS, _, rfl, lv_sub hl [1, 0] rfl⟩
section VZ
variable {ρ : Type} {p : Program} {l : Launch} {e : Env} {R : Room} {s : State} {m : MethodId} {args : Array Value} {below : List Frame} {meth : Method} {c : Code} {H : Heap} {locs : List Loc} {Qf : ρ → State → Prop}
variable {cc : ByteArray} {pc nL q0 n : Nat} {ls : Array Slot} {rest : List Value}
variable {D : va_G} {ct : CT} {ad : Nat → Nat} {P : Nat → Nat → Option Nat} {A : Nat → Prop} {S : US} {G0 G : GS} {rcE : GS → Nat → Int32 → Option (Option Nat × GS)} {rcU : GS → Nat → Int32 → Option (Nat × GS)}
theorem kzX5_5_woman (E : ME p m c cc nL s args RX5 D clW ct) (hZ : YC ct R s A G0) (hY : YW D clW ckH ct 26 ad P A S 0 G0 G H) (hS : va_S A s.heap H locs) (hR : 7 + 1 ≤ R.frames ∧ 8 + (3 + 11) + 196 ≤ R.locals) (hsize : ls.size = nL) (hW : (rest.map fun v => v.category).sum ≤ 8) (hdg : decode cc pc = .ok (.invokevirtual 282, 3)) {kp : GS → Option ρ} (kk : ∀ (o : GS) (H1 : Heap) (locs1 : List Loc), YW D clW ckH ct 26 ad P A S 0 G0 o H1 → va_S A s.heap H1 locs1 → X p l e R s m args below meth c H1 locs1 (o.2.1 - G0.2.1) (o.2.2 - G0.2.2) Qf (kp o) (F0 m (pc + 3) ls (rest))) : X p l e R s m args below meth c H locs (G.2.1 - G0.2.1) (G.2.2 - G0.2.2) Qf (hC G.1 q0 4 (callK (s5_woman ct ad P S G q0) kp)) (F0 m pc ls (.ref q0 :: rest)) := X.hC fun fs bw hq => gy_mx (val' := fun (o : GS) => none) (len := 3) (So := fun (o : GS) => S) (Po := fun (o : GS) => P) (Gn := fun (o : GS) => o) hZ hY hS (fun o ho => rqV (As := []) E hY.1.any (recvA E.2.1 hY.1.1.2.1 hq rfl) (by rw [hY.1.2.1]; exact mY5_woman l D ct ad P S G q0 o ho) (cwV 0 E.1.2.2.2.2 (lw_V q1337 q1339 qs32 q124 q1340) rfl rfl rfl (by decide +kernel) hR) rfl hsize rfl hW hdg (hY.room hZ)) kk
end VZ

set_option maxHeartbeats 4000000 in
theorem mU5_woman (l : Launch) (D : va_G) (ct : CT) (ad : Nat → Nat) (P : Nat → Nat → Option Nat) (S : US) (G0 : GS) (q0 : Nat) (o : Nat × GS) (ho : u5_woman ct ad P S G0 q0 = some o) : vx_Met l yX5_woman (ws_ yX5_woman cX5_woman 3 none) { frames := 7, cells := nmax ct - G0.2.1, slots := zmax ct - G0.2.2, locals := 196 } (mP D clW ct [.ref q0] G0.2.1 (MW D clW ckH ct 26 ad P (fun _ => True) S 0 G0)) nQ (uX D ct ad P S G0 o) (nmax ct - G0.2.1) (zmax ct - G0.2.2) (mA 26 ad G0) := by
  refine U.start ho (by decide) (Nat.le_of_ble_eq_true rfl) (lv := [(0, .ref q0)]) rfl ?_
  intro p e s m args below meth c E hlk hxt hZ hU hS ls hl
  obtain ⟨⟨hx, hb, hml, hown, hts⟩, hK, hJ⟩ := id E
  unfold u5_woman
  refine x_aload_n hx hb dX5_woman_0 rfl (lv_at hl 0 rfl) ?_
  refine fx_getR E hU.1.1.2.1 (ci := 4) rfl in_X5 1 (by decide) (hts _ q789) (fun _ h => h) dX5_woman_1 (fun r1 => ?_)
  refine X.onR (fun b2 hb_ => ?_)
  subst hb_
  refine kzX5_2_womenF E hZ hU hS ⟨Nat.le_of_ble_eq_true rfl, Nat.le_of_ble_eq_true rfl⟩ hl.1 (Nat.le_of_ble_eq_true rfl) dX5_woman_4 (fun o3 H locs hU hS => ?_)
  refine x_istore_n (lv' := [(1, .int o3.1), (0, .ref q0)]) hx hb dX5_woman_7 rfl hl (by decide) rfl (fun ls hl => ?_)
  refine x_aload_n hx hb dX5_woman_8 rfl (lv_at hl 1 rfl) ?_
  refine x_iload_n hx hb dX5_woman_9 rfl (lv_at hl 0 rfl) ?_
  refine x_bipush (v := 6) hx hb dX5_woman_10 (by decide) ?_
  refine X.join2Y (fun (x : Int32) g H locs => YW D clW ckH ct 26 ad P (mA 26 ad G0) S 0 G0 o3.2 H ∧ va_S (mA 26 ad G0) s.heap H locs ∧ ∃ ls : Array Slot, g = F0 m 20 ls [.int x, .ref q0] ∧ lv_has ls 3 [(0, .ref q0), (1, .int o3.1)]) (fun (x : Int32) => o3.2.2.1 - G0.2.1) (fun (x : Int32) => o3.2.2.2 - G0.2.2) ?_ (fun j5 hj5 => ?_)
  · rintro y4 _ H locs ⟨hU, hS, ls, rfl, hl⟩
    refine X.cs (cells2 := o3.2.2.1 - G0.2.1) (slots2 := o3.2.2.2 - G0.2.2) rfl rfl ?_
    refine X.eqs (sp2 := u5_woman_J20 q0 S P ad ct o3 y4) rfl ?_
    unfold u5_woman_J20
    refine x_iconst (v := 2) hx hb dX5_woman_20 (by decide) ?_
    refine X.tB (uzX5_5_want E hZ hU hS hxt hlk ⟨by show 4 + 1 ≤ 7; omega, by show 8 + (3 + 11) + (129) ≤ 196; omega⟩ hl.1 (Nat.le_of_ble_eq_true rfl) dX5_woman_21) ?_
    refine kzX5_5_want E hZ hU hS ⟨by show 4 + 1 ≤ 7; omega, by show 8 + (3 + 11) + (129) ≤ 196; omega⟩ hl.1 (Nat.le_of_ble_eq_true rfl) dX5_woman_21 (fun o6 H locs hU hS => ?_)
    refine x_aload_n hx hb dX5_woman_24 rfl (lv_at hl 0 rfl) ?_
    refine kzX5_5_next E hZ hU hS ⟨Nat.le_of_ble_eq_true rfl, Nat.le_of_ble_eq_true rfl⟩ hl.1 (Nat.le_of_ble_eq_true rfl) dX5_woman_25 (fun o7 H locs hU hS => ?_)
    refine x_aload_n hx hb dX5_woman_28 rfl (lv_at hl 0 rfl) ?_
    refine x_iconst (v := 0) hx hb dX5_woman_29 (by decide) ?_
    refine x_bipush (v := 9) hx hb dX5_woman_30 (by decide) ?_
    refine X.tB (uzX5_5_number E hZ hU hS hxt hlk ⟨by show 6 + 1 ≤ 7; omega, by show 8 + (4 + 11) + (173) ≤ 196; omega⟩ hl.1 (Nat.le_of_ble_eq_true rfl) dX5_woman_32) ?_
    refine kzX5_5_number E hZ hU hS ⟨by show 6 + 1 ≤ 7; omega, by show 8 + (4 + 11) + (173) ≤ 196; omega⟩ hl.1 (Nat.le_of_ble_eq_true rfl) dX5_woman_32 (fun o8 H locs hU hS => ?_)
    refine x_istore_n (lv' := [(2, .int o8.1), (0, .ref q0), (1, .int o3.1)]) hx hb dX5_woman_35 rfl hl (by decide) rfl (fun ls hl => ?_)
    refine x_aload_n hx hb dX5_woman_36 rfl (lv_at hl 1 rfl) ?_
    refine fx_getR E hU.1.1.2.1 (ci := 4) rfl in_X5 2 (by decide) (hts _ q790) (fun _ h => h) dX5_woman_37 (fun r9 => ?_)
    refine X.onR (fun b10 hb_ => ?_)
    subst hb_
    refine fx_getRN E hU.1.1.2.1 (ci := 3) rfl in_X3 3 (by decide) (hJ.at q239 rfl) (fun _ h => h) dX5_woman_40 (fun r11 => ?_)
    refine x_iload_n hx hb dX5_woman_43 rfl (lv_at hl 2 rfl) ?_
    refine x_aload_n hx hb dX5_woman_44 rfl (lv_at hl 1 rfl) ?_
    refine x_iconst (v := 0) hx hb dX5_woman_45 (by decide) ?_
    refine x_sipush (v := 9999) hx hb dX5_woman_46 (by decide) ?_
    refine X.tB (uzX5_5_numberNow E hZ hU hS hxt hlk ⟨by show 5 + 1 ≤ 7; omega, by show 8 + (3 + 11) + (151) ≤ 196; omega⟩ hl.1 (by rcases r11 with _ | _ <;> exact Nat.le_of_ble_eq_true rfl) dX5_woman_49) ?_
    refine kzX5_5_numberNow E hZ hU hS ⟨by show 5 + 1 ≤ 7; omega, by show 8 + (3 + 11) + (151) ≤ 196; omega⟩ hl.1 (by rcases r11 with _ | _ <;> exact Nat.le_of_ble_eq_true rfl) dX5_woman_49 (fun o12 H locs hU hS => ?_)
    refine X.onR (fun b13 hb_ => ?_)
    subst hb_
    refine gy_iast E hU hS dX5_woman_52 (fun G14 H locs hU hS => ?_)
    refine x_aload_n hx hb dX5_woman_53 rfl (lv_at hl 1 rfl) ?_
    refine x_aload_n hx hb dX5_woman_54 rfl (lv_at hl 1 rfl) ?_
    refine fx_getR E hU.1.1.2.1 (ci := 4) rfl in_X5 2 (by decide) (hts _ q790) (fun _ h => h) dX5_woman_55 (fun r15 => ?_)
    refine X.onR (fun b16 hb_ => ?_)
    subst hb_
    refine fx_getRN E hU.1.1.2.1 (ci := 3) rfl in_X3 3 (by decide) (hJ.at q239 rfl) (fun _ h => h) dX5_woman_58 (fun r17 => ?_)
    refine x_iload_n hx hb dX5_woman_61 rfl (lv_at hl 2 rfl) ?_
    refine X.onR (fun b18 hb_ => ?_)
    subst hb_
    refine fx_iaload E hU.1.1.2.1 dX5_woman_62 (fun v19 => ?_)
    refine x_aload_n hx hb dX5_woman_63 rfl (lv_at hl 1 rfl) ?_
    refine fx_getI E hU.1.1.2.1 (ci := 4) rfl in_X5 11 (by decide) (hts _ q801) (fun _ h => h) dX5_woman_64 (fun v20 => ?_)
    refine X.join2Y (fun (x : Int32) g H locs => YW D clW ckH ct 26 ad P (mA 26 ad G0) S 0 G0 G14 H ∧ va_S (mA 26 ad G0) s.heap H locs ∧ ∃ ls : Array Slot, g = F0 m 75 ls [.int x, .ref q0] ∧ lv_has ls 3 [(0, .ref q0), (1, .int o3.1), (2, .int o8.1)]) (fun (x : Int32) => G14.2.1 - G0.2.1) (fun (x : Int32) => G14.2.2 - G0.2.2) ?_ (fun j22 hj22 => ?_)
    · rintro y21 _ H locs ⟨hU, hS, ls, rfl, hl⟩
      refine X.cs (cells2 := G14.2.1 - G0.2.1) (slots2 := G14.2.2 - G0.2.2) rfl rfl ?_
      refine X.eqs (sp2 := u5_woman_J75 q0 S P ad ct G14 y21) rfl ?_
      unfold u5_woman_J75
      refine x_iconst (v := 3) hx hb dX5_woman_75 (by decide) ?_
      refine X.tB (uzX5_5_want E hZ hU hS hxt hlk ⟨by show 4 + 1 ≤ 7; omega, by show 8 + (3 + 11) + (129) ≤ 196; omega⟩ hl.1 (Nat.le_of_ble_eq_true rfl) dX5_woman_76) ?_
      refine kzX5_5_want E hZ hU hS ⟨by show 4 + 1 ≤ 7; omega, by show 8 + (3 + 11) + (129) ≤ 196; omega⟩ hl.1 (Nat.le_of_ble_eq_true rfl) dX5_woman_76 (fun o23 H locs hU hS => ?_)
      refine x_aload_n hx hb dX5_woman_79 rfl (lv_at hl 0 rfl) ?_
      refine kzX5_5_next E hZ hU hS ⟨Nat.le_of_ble_eq_true rfl, Nat.le_of_ble_eq_true rfl⟩ hl.1 (Nat.le_of_ble_eq_true rfl) dX5_woman_80 (fun o24 H locs hU hS => ?_)
      refine x_aload_n hx hb dX5_woman_83 rfl (lv_at hl 0 rfl) ?_
      refine fx_getR E hU.1.1.2.1 (ci := 4) rfl in_X5 2 (by decide) (hts _ q790) (fun _ h => h) dX5_woman_84 (fun r25 => ?_)
      refine X.onR (fun b26 hb_ => ?_)
      subst hb_
      refine fx_getRN E hU.1.1.2.1 (ci := 3) rfl in_X3 4 (by decide) (hJ.at q242 rfl) (fun _ h => h) dX5_woman_87 (fun r27 => ?_)
      refine x_iload_n hx hb dX5_woman_90 rfl (lv_at hl 1 rfl) ?_
      refine x_aload_n hx hb dX5_woman_91 rfl (lv_at hl 0 rfl) ?_
      refine x_iconst (v := 0) hx hb dX5_woman_92 (by decide) ?_
      refine x_bipush (v := 99) hx hb dX5_woman_93 (by decide) ?_
      exact uzX5_5_number E hZ hU hS hxt hlk ⟨by show 6 + 1 ≤ 7; omega, by show 8 + (4 + 11) + (173) ≤ 196; omega⟩ hl.1 (by rcases r27 with _ | _ <;> exact Nat.le_of_ble_eq_true rfl) dX5_woman_95
    · refine x_icmp_ge (tgt := 74) hx hb dX5_woman_67 (by decide) (fun hc => ?_) (fun hc => ?_)
      · refine x_iconst (v := 0) hx hb dX5_woman_74 (by decide) ?_
        exact hj22 (0 : Int32) _ _ _ ⟨hU, hS, _, rfl, lv_sub hl [1, 2, 0] rfl⟩
      · refine x_iconst (v := 1) hx hb dX5_woman_70 (by decide) ?_
        refine x_goto (tgt := 75) hx hb dX5_woman_71 (by decide) ?_
        exact hj22 (1 : Int32) _ _ _ ⟨hU, hS, _, rfl, lv_sub hl [1, 2, 0] rfl⟩
  · refine x_icmp_ge (tgt := 19) hx hb dX5_woman_12 (by decide) (fun hc => ?_) (fun hc => ?_)
    · refine x_iconst (v := 0) hx hb dX5_woman_19 (by decide) ?_
      exact hj5 (0 : Int32) _ _ _ ⟨hU, hS, _, rfl, lv_sub hl [1, 0] rfl⟩
    · refine x_iconst (v := 1) hx hb dX5_woman_15 (by decide) ?_
      refine x_goto (tgt := 20) hx hb dX5_woman_16 (by decide) ?_
      exact hj5 (1 : Int32) _ _ _ ⟨hU, hS, _, rfl, lv_sub hl [1, 0] rfl⟩
section VZ
variable {ρ : Type} {p : Program} {l : Launch} {e : Env} {R : Room} {s : State} {m : MethodId} {args : Array Value} {below : List Frame} {meth : Method} {c : Code} {H : Heap} {locs : List Loc} {Qf : ρ → State → Prop}
variable {cc : ByteArray} {pc nL q0 n : Nat} {ls : Array Slot} {rest : List Value}
variable {D : va_G} {ct : CT} {ad : Nat → Nat} {P : Nat → Nat → Option Nat} {A : Nat → Prop} {S : US} {G0 G : GS} {rcE : GS → Nat → Int32 → Option (Option Nat × GS)} {rcU : GS → Nat → Int32 → Option (Nat × GS)}
theorem uzX5_5_woman (E : ME p m c cc nL s args RX5 D clW ct) (hZ : YC ct R s (mA 26 ad G0) G0) (hY : YW D clW ckH ct 26 ad P (mA 26 ad G0) S 0 G0 G H) (hS : va_S (mA 26 ad G0) s.heap H locs) (hxt : ∀ x ∈ c.exceptionTable.toList, False) (hlk : meth.locks = false) (hR : 7 + 1 ≤ R.frames ∧ 8 + (3 + 11) + 196 ≤ R.locals) (hsize : ls.size = nL) (hW : (rest.map fun v => v.category).sum ≤ 8) (hdg : decode cc pc = .ok (.invokevirtual 282, 3)) : X p l e R s m args below meth c H locs (G.2.1 - G0.2.1) (G.2.2 - G0.2.2) (uQ below args s D ct ad P S G0) (hC G.1 q0 4 (u5_woman ct ad P S G q0)) (F0 m pc ls (.ref q0 :: rest)) := X.hC fun fs bw hq => uy_end hZ hY hS hxt hlk (fun o ho => rtV (As := []) E hY.1.any (recvA E.2.1 hY.1.1.2.1 hq rfl) (by rw [hY.1.2.1]; exact mU5_woman l D ct ad P S G q0 o ho) (cwV 0 E.1.2.2.2.2 (lw_V q1337 q1339 qs32 q124 q1340) rfl rfl rfl (by decide +kernel) hR) rfl hsize rfl hW hdg (hY.room hZ))
end VZ

set_option maxHeartbeats 4000000 in
theorem mY5_knots (l : Launch) (D : va_G) (ct : CT) (ad : Nat → Nat) (P : Nat → Nat → Option Nat) (S : US) (G0 : GS) (q0 : Nat) (o : GS) (ho : s5_knots ct ad P S G0 q0 = some o) : Met l yX5_knots (ws_ yX5_knots cX5_knots 3 none) { frames := 10, cells := nmax ct - G0.2.1, slots := zmax ct - G0.2.2, locals := 255 } (mP D clW ct [.ref q0] G0.2.1 (MW D clW ckH ct 26 ad P (fun _ => True) S 0 G0)) (yC (none) (MW D clW ckH ct 26 ad P (mA 26 ad G0) S 0 o) G0 o (mA 26 ad G0)) (nmax ct - G0.2.1) (zmax ct - G0.2.2) (mA 26 ad G0) := by
  refine Y.start (val := fun (o : GS) => none) (Bt := fun (o : GS) => MW D clW ckH ct 26 ad P (mA 26 ad G0) S 0 o) (Go := fun (o : GS) => o) ho (by decide) (Nat.le_of_ble_eq_true rfl) (lv := [(0, .ref q0)]) rfl ?_
  intro p e s m args below meth c E hr hlk hnm hZ hU hS ls hl
  obtain ⟨⟨hx, hb, hml, hown, hts⟩, hK, hJ⟩ := id E
  unfold s5_knots
  refine x_aload_n hx hb dX5_knots_0 rfl (lv_at hl 0 rfl) ?_
  refine x_aload_n hx hb dX5_knots_1 rfl (lv_at hl 0 rfl) ?_
  refine fx_getI E hU.1.1.2.1 (ci := 4) rfl in_X5 6 (by decide) (hts _ q795) (fun _ h => h) dX5_knots_2 (fun v1 => ?_)
  refine x_iconst (v := 2) hx hb dX5_knots_5 (by decide) ?_
  refine X.join2Y (fun (x : Int32) g H locs => YW D clW ckH ct 26 ad P (mA 26 ad G0) S 0 G0 G0 H ∧ va_S (mA 26 ad G0) s.heap H locs ∧ ∃ ls : Array Slot, g = F0 m 14 ls [.int x, .ref q0] ∧ lv_has ls 3 [(0, .ref q0)]) (fun (x : Int32) => G0.2.1 - G0.2.1) (fun (x : Int32) => G0.2.2 - G0.2.2) ?_ (fun j3 hj3 => ?_)
  · rintro y2 _ H locs ⟨hU, hS, ls, rfl, hl⟩
    refine X.cs (cells2 := G0.2.1 - G0.2.1) (slots2 := G0.2.2 - G0.2.2) rfl rfl ?_
    refine X.eqs (sp2 := s5_knots_J14 q0 S P ad G0 ct y2) rfl ?_
    unfold s5_knots_J14
    refine x_iconst (v := 1) hx hb dX5_knots_14 (by decide) ?_
    refine kzX5_5_want E hZ hU hS ⟨by show 4 + 1 ≤ 10; omega, by show 8 + (3 + 11) + (129) ≤ 255; omega⟩ hl.1 (Nat.le_of_ble_eq_true rfl) dX5_knots_15 (fun o4 H locs hU hS => ?_)
    refine X.loopY (I := fun (x : GS) g H locs => YW D clW ckH ct 26 ad P (mA 26 ad G0) S 0 G0 x H ∧ va_S (mA 26 ad G0) s.heap H locs ∧ ∃ ls : Array Slot, g = F0 m 18 ls [] ∧ lv_has ls 3 [(0, .ref q0)]) (cf := (fun (x : GS) => x.2.1 - G0.2.1)) (sf := (fun (x : GS) => x.2.2 - G0.2.2)) (fun rc6 ih6 => ?_) FUEL o4 _ _ _ ⟨hU, hS, _, rfl, lv_sub hl [0] rfl⟩
    rintro G5 _ H locs ⟨hU, hS, ls, rfl, hl⟩
    refine X.cs (cells2 := G5.2.1 - G0.2.1) (slots2 := G5.2.2 - G0.2.2) rfl rfl ?_
    refine X.eqs (sp2 := s5_knots_L18 q0 S P ad ct rc6 G5) rfl ?_
    unfold s5_knots_L18
    refine x_aload_n hx hb dX5_knots_18 rfl (lv_at hl 0 rfl) ?_
    refine fx_getI E hU.1.1.2.1 (ci := 4) rfl in_X5 6 (by decide) (hts _ q795) (fun _ h => h) dX5_knots_19 (fun v7 => ?_)
    refine x_iconst (v := 2) hx hb dX5_knots_22 (by decide) ?_
    refine x_icmp_ne (tgt := 145) hx hb dX5_knots_23 (by decide) (fun hc => ?_) (fun hc => ?_)
    · exact y_vret hx hb hr hlk hZ hU hS rfl rfl hU.1 dX5_knots_145
    · refine x_aload_n hx hb dX5_knots_26 rfl (lv_at hl 0 rfl) ?_
      refine x_aload_n hx hb dX5_knots_27 rfl (lv_at hl 0 rfl) ?_
      refine fx_getR E hU.1.1.2.1 (ci := 4) rfl in_X5 1 (by decide) (hts _ q789) (fun _ h => h) dX5_knots_28 (fun r8 => ?_)
      refine X.onR (fun b9 hb_ => ?_)
      subst hb_
      refine fx_getRN E hU.1.1.2.1 (ci := 2) rfl in_X2 1 (by decide) (hJ.at q196 rfl) (fun _ h => h) dX5_knots_31 (fun r10 => ?_)
      refine X.onR (fun b11 hb_ => ?_)
      subst hb_
      refine kzX5_L_size E hZ hU hS ⟨Nat.le_of_ble_eq_true rfl, Nat.le_of_ble_eq_true rfl⟩ hl.1 (Nat.le_of_ble_eq_true rfl) dX5_knots_34 (fun o12 H locs hU hS => ?_)
      refine x_bipush (v := 8) hx hb dX5_knots_39 (by decide) ?_
      refine X.join2Y (fun (x : Int32) g H locs => YW D clW ckH ct 26 ad P (mA 26 ad G0) S 0 G0 G5 H ∧ va_S (mA 26 ad G0) s.heap H locs ∧ ∃ ls : Array Slot, g = F0 m 49 ls [.int x, .ref q0] ∧ lv_has ls 3 [(0, .ref q0)]) (fun (x : Int32) => G5.2.1 - G0.2.1) (fun (x : Int32) => G5.2.2 - G0.2.2) ?_ (fun j14 hj14 => ?_)
      · rintro y13 _ H locs ⟨hU, hS, ls, rfl, hl⟩
        refine X.cs (cells2 := G5.2.1 - G0.2.1) (slots2 := G5.2.2 - G0.2.2) rfl rfl ?_
        refine X.eqs (sp2 := s5_knots_J49 q0 S P ad ct G5 rc6 y13) rfl ?_
        unfold s5_knots_J49
        refine x_iconst (v := 2) hx hb dX5_knots_49 (by decide) ?_
        refine kzX5_5_want E hZ hU hS ⟨by show 4 + 1 ≤ 10; omega, by show 8 + (3 + 11) + (129) ≤ 255; omega⟩ hl.1 (Nat.le_of_ble_eq_true rfl) dX5_knots_50 (fun o15 H locs hU hS => ?_)
        refine x_aload_n hx hb dX5_knots_53 rfl (lv_at hl 0 rfl) ?_
        refine x_iconst (v := 0) hx hb dX5_knots_54 (by decide) ?_
        refine x_sipush (v := 9999) hx hb dX5_knots_55 (by decide) ?_
        refine kzX5_5_numberNow E hZ hU hS ⟨by show 5 + 1 ≤ 10; omega, by show 8 + (3 + 11) + (151) ≤ 255; omega⟩ hl.1 (Nat.le_of_ble_eq_true rfl) dX5_knots_58 (fun o16 H locs hU hS => ?_)
        refine x_pop hx hb dX5_knots_61 rfl ?_
        refine x_aload_n hx hb dX5_knots_62 rfl (lv_at hl 0 rfl) ?_
        refine kzX5_5_written E hZ hU hS ⟨Nat.le_of_ble_eq_true rfl, Nat.le_of_ble_eq_true rfl⟩ hl.1 (Nat.le_of_ble_eq_true rfl) dX5_knots_63 (fun o17 H locs hU hS => ?_)
        refine X.onR (fun b18 hb_ => ?_)
        rw [hb_]
        try rw [hb_] at hl
        refine x_astore_n (lv' := [(1, .ref b18), (0, .ref q0)]) hx hb dX5_knots_66 rfl hl (by decide) rfl (fun ls hl => ?_)
        refine x_iconst (v := 0) hx hb dX5_knots_67 (by decide) ?_
        refine x_istore_n (lv' := [(2, .int (0 : Int32)), (1, .ref b18), (0, .ref q0)]) hx hb dX5_knots_68 rfl hl (by decide) rfl (fun ls hl => ?_)
        refine X.loopY (I := fun (x : (GS × Int32)) g H locs => YW D clW ckH ct 26 ad P (mA 26 ad G0) S 0 G0 x.1 H ∧ va_S (mA 26 ad G0) s.heap H locs ∧ ∃ ls : Array Slot, g = F0 m 69 ls [] ∧ lv_has ls 3 [(0, .ref q0), (1, .ref b18), (2, .int x.2)]) (cf := (fun (x : (GS × Int32)) => x.1.2.1 - G0.2.1)) (sf := (fun (x : (GS × Int32)) => x.1.2.2 - G0.2.2)) (fun rc21 ih21 => ?_) FUEL (o17.2, (0 : Int32)) _ _ _ ⟨hU, hS, _, rfl, lv_sub hl [2, 1, 0] rfl⟩
        rintro ⟨G19, v20⟩ _ H locs ⟨hU, hS, ls, rfl, hl⟩
        have hU : YW D clW ckH ct 26 ad P (mA 26 ad G0) S 0 G0 G19 H := hU
        have hl : lv_has ls 3 [(0, .ref q0), (1, .ref b18), (2, .int v20)] := hl
        refine X.cs (cells2 := G19.2.1 - G0.2.1) (slots2 := G19.2.2 - G0.2.2) rfl rfl ?_
        refine X.eqs (sp2 := s5_knots_L69 q0 S P ad ct rc6 b18 rc21 G19 v20) rfl ?_
        unfold s5_knots_L69
        refine x_iload_n hx hb dX5_knots_69 rfl (lv_at hl 2 rfl) ?_
        refine x_aload_n hx hb dX5_knots_70 rfl (lv_at hl 0 rfl) ?_
        refine fx_getR E hU.1.1.2.1 (ci := 4) rfl in_X5 1 (by decide) (hts _ q789) (fun _ h => h) dX5_knots_71 (fun r22 => ?_)
        refine X.onR (fun b23 hb_ => ?_)
        subst hb_
        refine fx_getRN E hU.1.1.2.1 (ci := 2) rfl in_X2 1 (by decide) (hJ.at q196 rfl) (fun _ h => h) dX5_knots_74 (fun r24 => ?_)
        refine X.onR (fun b25 hb_ => ?_)
        subst hb_
        refine kzX5_L_size E hZ hU hS ⟨Nat.le_of_ble_eq_true rfl, Nat.le_of_ble_eq_true rfl⟩ hl.1 (Nat.le_of_ble_eq_true rfl) dX5_knots_77 (fun o26 H locs hU hS => ?_)
        refine x_icmp_ge (tgt := 124) hx hb dX5_knots_82 (by decide) (fun hc => ?_) (fun hc => ?_)
        · refine x_aload_n hx hb dX5_knots_124 rfl (lv_at hl 0 rfl) ?_
          refine kzX5_5_next E hZ hU hS ⟨Nat.le_of_ble_eq_true rfl, Nat.le_of_ble_eq_true rfl⟩ hl.1 (Nat.le_of_ble_eq_true rfl) dX5_knots_125 (fun o27 H locs hU hS => ?_)
          refine x_aload_n hx hb dX5_knots_128 rfl (lv_at hl 0 rfl) ?_
          refine fx_getR E hU.1.1.2.1 (ci := 4) rfl in_X5 1 (by decide) (hts _ q789) (fun _ h => h) dX5_knots_129 (fun r28 => ?_)
          refine X.onR (fun b29 hb_ => ?_)
          subst hb_
          refine fx_getRN E hU.1.1.2.1 (ci := 2) rfl in_X2 1 (by decide) (hJ.at q196 rfl) (fun _ h => h) dX5_knots_132 (fun r30 => ?_)
          refine x_aload_n hx hb dX5_knots_135 rfl (lv_at hl 1 rfl) ?_
          refine X.onR (fun b31 hb_ => ?_)
          subst hb_
          refine kzX5_L_add E hZ hU hS ⟨Nat.le_of_ble_eq_true rfl, Nat.le_of_ble_eq_true rfl⟩ hl.1 (Nat.le_of_ble_eq_true rfl) dX5_knots_136 (fun o32 H locs hU hS => ?_)
          refine x_pop hx hb dX5_knots_141 rfl ?_
          refine x_goto (tgt := 18) hx hb dX5_knots_142 (by decide) ?_
          exact ih6 o32.2 _ _ _ ⟨hU, hS, _, rfl, lv_sub hl [0] rfl⟩
        · refine x_aload_n hx hb dX5_knots_85 rfl (lv_at hl 0 rfl) ?_
          refine x_aload_n hx hb dX5_knots_86 rfl (lv_at hl 0 rfl) ?_
          refine fx_getR E hU.1.1.2.1 (ci := 4) rfl in_X5 1 (by decide) (hts _ q789) (fun _ h => h) dX5_knots_87 (fun r33 => ?_)
          refine X.onR (fun b34 hb_ => ?_)
          subst hb_
          refine fx_getRN E hU.1.1.2.1 (ci := 2) rfl in_X2 1 (by decide) (hJ.at q196 rfl) (fun _ h => h) dX5_knots_90 (fun r35 => ?_)
          refine x_iload_n hx hb dX5_knots_93 rfl (lv_at hl 2 rfl) ?_
          refine X.onR (fun b36 hb_ => ?_)
          subst hb_
          refine kzX5_L_get E hZ hU hS ⟨Nat.le_of_ble_eq_true rfl, Nat.le_of_ble_eq_true rfl⟩ hl.1 (Nat.le_of_ble_eq_true rfl) dX5_knots_94 (fun o37 H locs hU hS => ?_)
          refine X.onR (fun b38 hb_ => ?_)
          subst hb_
          refine fx_cast E hU.1.1.2.1 (ci := 13) rfl (hts _ q776) dX5_knots_99 ?_
          refine x_aload_n hx hb dX5_knots_102 rfl (lv_at hl 1 rfl) ?_
          refine kzX5_S_equals E hZ hU hS ⟨Nat.le_of_ble_eq_true rfl, Nat.le_of_ble_eq_true rfl⟩ hl.1 (Nat.le_of_ble_eq_true rfl) dX5_knots_103 (fun o39 H locs hU hS => ?_)
          refine x_if_ne (tgt := 113) hx hb dX5_knots_106 (by decide) (fun hc => ?_) (fun hc => ?_)
          · refine x_iconst (v := 0) hx hb dX5_knots_113 (by decide) ?_
            refine x_iconst (v := 4) hx hb dX5_knots_114 (by decide) ?_
            refine kzX5_5_want E hZ hU hS ⟨by show 4 + 1 ≤ 10; omega, by show 8 + (3 + 11) + (129) ≤ 255; omega⟩ hl.1 (Nat.le_of_ble_eq_true rfl) dX5_knots_115 (fun o40 H locs hU hS => ?_)
            refine x_iinc (v := (v20 + (1 : Int32))) (lv' := [(2, .int (v20 + (1 : Int32))), (0, .ref q0), (1, .ref b18)]) (k := 2) hx hb dX5_knots_118 hl rfl rfl (by decide) rfl (fun ls hl => ?_)
            refine x_goto (tgt := 69) hx hb dX5_knots_121 (by decide) ?_
            exact ih21 (o40, (v20 + (1 : Int32))) _ _ _ ⟨hU, hS, _, rfl, lv_sub hl [1, 2, 0] rfl⟩
          · refine x_iconst (v := 1) hx hb dX5_knots_109 (by decide) ?_
            refine x_goto (tgt := 114) hx hb dX5_knots_110 (by decide) ?_
            refine x_iconst (v := 4) hx hb dX5_knots_114 (by decide) ?_
            refine kzX5_5_want E hZ hU hS ⟨by show 4 + 1 ≤ 10; omega, by show 8 + (3 + 11) + (129) ≤ 255; omega⟩ hl.1 (Nat.le_of_ble_eq_true rfl) dX5_knots_115 (fun o41 H locs hU hS => ?_)
            refine x_iinc (v := (v20 + (1 : Int32))) (lv' := [(2, .int (v20 + (1 : Int32))), (0, .ref q0), (1, .ref b18)]) (k := 2) hx hb dX5_knots_118 hl rfl rfl (by decide) rfl (fun ls hl => ?_)
            refine x_goto (tgt := 69) hx hb dX5_knots_121 (by decide) ?_
            exact ih21 (o41, (v20 + (1 : Int32))) _ _ _ ⟨hU, hS, _, rfl, lv_sub hl [1, 2, 0] rfl⟩
      · refine x_icmp_ge (tgt := 48) hx hb dX5_knots_41 (by decide) (fun hc => ?_) (fun hc => ?_)
        · refine x_iconst (v := 0) hx hb dX5_knots_48 (by decide) ?_
          exact hj14 (0 : Int32) _ _ _ ⟨hU, hS, _, rfl, lv_sub hl [0] rfl⟩
        · refine x_iconst (v := 1) hx hb dX5_knots_44 (by decide) ?_
          refine x_goto (tgt := 49) hx hb dX5_knots_45 (by decide) ?_
          exact hj14 (1 : Int32) _ _ _ ⟨hU, hS, _, rfl, lv_sub hl [0] rfl⟩
  · refine x_icmp_ne (tgt := 13) hx hb dX5_knots_6 (by decide) (fun hc => ?_) (fun hc => ?_)
    · refine x_iconst (v := 0) hx hb dX5_knots_13 (by decide) ?_
      exact hj3 (0 : Int32) _ _ _ ⟨hU, hS, _, rfl, lv_sub hl [0] rfl⟩
    · refine x_iconst (v := 1) hx hb dX5_knots_9 (by decide) ?_
      refine x_goto (tgt := 14) hx hb dX5_knots_10 (by decide) ?_
      exact hj3 (1 : Int32) _ _ _ ⟨hU, hS, _, rfl, lv_sub hl [0] rfl⟩
section VZ
variable {ρ : Type} {p : Program} {l : Launch} {e : Env} {R : Room} {s : State} {m : MethodId} {args : Array Value} {below : List Frame} {meth : Method} {c : Code} {H : Heap} {locs : List Loc} {Qf : ρ → State → Prop}
variable {cc : ByteArray} {pc nL q0 n : Nat} {ls : Array Slot} {rest : List Value}
variable {D : va_G} {ct : CT} {ad : Nat → Nat} {P : Nat → Nat → Option Nat} {A : Nat → Prop} {S : US} {G0 G : GS} {rcE : GS → Nat → Int32 → Option (Option Nat × GS)} {rcU : GS → Nat → Int32 → Option (Nat × GS)}
theorem kzX5_5_knots (E : ME p m c cc nL s args RX5 D clW ct) (hZ : YC ct R s A G0) (hY : YW D clW ckH ct 26 ad P A S 0 G0 G H) (hS : va_S A s.heap H locs) (hR : 10 + 1 ≤ R.frames ∧ 8 + (3 + 11) + 255 ≤ R.locals) (hsize : ls.size = nL) (hW : (rest.map fun v => v.category).sum ≤ 8) (hdg : decode cc pc = .ok (.invokevirtual 264, 3)) {kp : GS → Option ρ} (kk : ∀ (o : GS) (H1 : Heap) (locs1 : List Loc), YW D clW ckH ct 26 ad P A S 0 G0 o H1 → va_S A s.heap H1 locs1 → X p l e R s m args below meth c H1 locs1 (o.2.1 - G0.2.1) (o.2.2 - G0.2.2) Qf (kp o) (F0 m (pc + 3) ls (rest))) : X p l e R s m args below meth c H locs (G.2.1 - G0.2.1) (G.2.2 - G0.2.2) Qf (hC G.1 q0 4 (callK (s5_knots ct ad P S G q0) kp)) (F0 m pc ls (.ref q0 :: rest)) := X.hC fun fs bw hq => gy_mx (val' := fun (o : GS) => none) (len := 3) (So := fun (o : GS) => S) (Po := fun (o : GS) => P) (Gn := fun (o : GS) => o) hZ hY hS (fun o ho => rqV (As := []) E hY.1.any (recvA E.2.1 hY.1.1.2.1 hq rfl) (by rw [hY.1.2.1]; exact mY5_knots l D ct ad P S G q0 o ho) (cwV 0 E.1.2.2.2.2 (lw_V q986 q988 qs18 q124 q989) rfl rfl rfl (by decide +kernel) hR) rfl hsize rfl hW hdg (hY.room hZ)) kk
end VZ

set_option maxHeartbeats 4000000 in
theorem mU5_knots (l : Launch) (D : va_G) (ct : CT) (ad : Nat → Nat) (P : Nat → Nat → Option Nat) (S : US) (G0 : GS) (q0 : Nat) (o : Nat × GS) (ho : u5_knots ct ad P S G0 q0 = some o) : vx_Met l yX5_knots (ws_ yX5_knots cX5_knots 3 none) { frames := 10, cells := nmax ct - G0.2.1, slots := zmax ct - G0.2.2, locals := 255 } (mP D clW ct [.ref q0] G0.2.1 (MW D clW ckH ct 26 ad P (fun _ => True) S 0 G0)) nQ (uX D ct ad P S G0 o) (nmax ct - G0.2.1) (zmax ct - G0.2.2) (mA 26 ad G0) := by
  refine U.start ho (by decide) (Nat.le_of_ble_eq_true rfl) (lv := [(0, .ref q0)]) rfl ?_
  intro p e s m args below meth c E hlk hxt hZ hU hS ls hl
  obtain ⟨⟨hx, hb, hml, hown, hts⟩, hK, hJ⟩ := id E
  unfold u5_knots
  refine x_aload_n hx hb dX5_knots_0 rfl (lv_at hl 0 rfl) ?_
  refine x_aload_n hx hb dX5_knots_1 rfl (lv_at hl 0 rfl) ?_
  refine fx_getI E hU.1.1.2.1 (ci := 4) rfl in_X5 6 (by decide) (hts _ q795) (fun _ h => h) dX5_knots_2 (fun v1 => ?_)
  refine x_iconst (v := 2) hx hb dX5_knots_5 (by decide) ?_
  refine X.join2Y (fun (x : Int32) g H locs => YW D clW ckH ct 26 ad P (mA 26 ad G0) S 0 G0 G0 H ∧ va_S (mA 26 ad G0) s.heap H locs ∧ ∃ ls : Array Slot, g = F0 m 14 ls [.int x, .ref q0] ∧ lv_has ls 3 [(0, .ref q0)]) (fun (x : Int32) => G0.2.1 - G0.2.1) (fun (x : Int32) => G0.2.2 - G0.2.2) ?_ (fun j3 hj3 => ?_)
  · rintro y2 _ H locs ⟨hU, hS, ls, rfl, hl⟩
    refine X.cs (cells2 := G0.2.1 - G0.2.1) (slots2 := G0.2.2 - G0.2.2) rfl rfl ?_
    refine X.eqs (sp2 := u5_knots_J14 q0 S P ad G0 ct y2) rfl ?_
    unfold u5_knots_J14
    refine x_iconst (v := 1) hx hb dX5_knots_14 (by decide) ?_
    refine X.tB (uzX5_5_want E hZ hU hS hxt hlk ⟨by show 4 + 1 ≤ 10; omega, by show 8 + (3 + 11) + (129) ≤ 255; omega⟩ hl.1 (Nat.le_of_ble_eq_true rfl) dX5_knots_15) ?_
    refine kzX5_5_want E hZ hU hS ⟨by show 4 + 1 ≤ 10; omega, by show 8 + (3 + 11) + (129) ≤ 255; omega⟩ hl.1 (Nat.le_of_ble_eq_true rfl) dX5_knots_15 (fun o4 H locs hU hS => ?_)
    refine X.loopY (I := fun (x : GS) g H locs => YW D clW ckH ct 26 ad P (mA 26 ad G0) S 0 G0 x H ∧ va_S (mA 26 ad G0) s.heap H locs ∧ ∃ ls : Array Slot, g = F0 m 18 ls [] ∧ lv_has ls 3 [(0, .ref q0)]) (cf := (fun (x : GS) => x.2.1 - G0.2.1)) (sf := (fun (x : GS) => x.2.2 - G0.2.2)) (fun rc6 ih6 => ?_) FUEL o4 _ _ _ ⟨hU, hS, _, rfl, lv_sub hl [0] rfl⟩
    rintro G5 _ H locs ⟨hU, hS, ls, rfl, hl⟩
    refine X.cs (cells2 := G5.2.1 - G0.2.1) (slots2 := G5.2.2 - G0.2.2) rfl rfl ?_
    refine X.eqs (sp2 := u5_knots_L18 q0 S P ad ct rc6 G5) rfl ?_
    unfold u5_knots_L18
    refine x_aload_n hx hb dX5_knots_18 rfl (lv_at hl 0 rfl) ?_
    refine fx_getI E hU.1.1.2.1 (ci := 4) rfl in_X5 6 (by decide) (hts _ q795) (fun _ h => h) dX5_knots_19 (fun v7 => ?_)
    refine x_iconst (v := 2) hx hb dX5_knots_22 (by decide) ?_
    refine x_icmp_ne (tgt := 145) hx hb dX5_knots_23 (by decide) (fun hc => ?_) (fun hc => ?_)
    · exact X.none
    · refine x_aload_n hx hb dX5_knots_26 rfl (lv_at hl 0 rfl) ?_
      refine x_aload_n hx hb dX5_knots_27 rfl (lv_at hl 0 rfl) ?_
      refine fx_getR E hU.1.1.2.1 (ci := 4) rfl in_X5 1 (by decide) (hts _ q789) (fun _ h => h) dX5_knots_28 (fun r8 => ?_)
      refine X.onR (fun b9 hb_ => ?_)
      subst hb_
      refine fx_getRN E hU.1.1.2.1 (ci := 2) rfl in_X2 1 (by decide) (hJ.at q196 rfl) (fun _ h => h) dX5_knots_31 (fun r10 => ?_)
      refine X.onR (fun b11 hb_ => ?_)
      subst hb_
      refine kzX5_L_size E hZ hU hS ⟨Nat.le_of_ble_eq_true rfl, Nat.le_of_ble_eq_true rfl⟩ hl.1 (Nat.le_of_ble_eq_true rfl) dX5_knots_34 (fun o12 H locs hU hS => ?_)
      refine x_bipush (v := 8) hx hb dX5_knots_39 (by decide) ?_
      refine X.join2Y (fun (x : Int32) g H locs => YW D clW ckH ct 26 ad P (mA 26 ad G0) S 0 G0 G5 H ∧ va_S (mA 26 ad G0) s.heap H locs ∧ ∃ ls : Array Slot, g = F0 m 49 ls [.int x, .ref q0] ∧ lv_has ls 3 [(0, .ref q0)]) (fun (x : Int32) => G5.2.1 - G0.2.1) (fun (x : Int32) => G5.2.2 - G0.2.2) ?_ (fun j14 hj14 => ?_)
      · rintro y13 _ H locs ⟨hU, hS, ls, rfl, hl⟩
        refine X.cs (cells2 := G5.2.1 - G0.2.1) (slots2 := G5.2.2 - G0.2.2) rfl rfl ?_
        refine X.eqs (sp2 := u5_knots_J49 q0 S P ad ct G5 rc6 y13) rfl ?_
        unfold u5_knots_J49
        refine x_iconst (v := 2) hx hb dX5_knots_49 (by decide) ?_
        refine X.tB (uzX5_5_want E hZ hU hS hxt hlk ⟨by show 4 + 1 ≤ 10; omega, by show 8 + (3 + 11) + (129) ≤ 255; omega⟩ hl.1 (Nat.le_of_ble_eq_true rfl) dX5_knots_50) ?_
        refine kzX5_5_want E hZ hU hS ⟨by show 4 + 1 ≤ 10; omega, by show 8 + (3 + 11) + (129) ≤ 255; omega⟩ hl.1 (Nat.le_of_ble_eq_true rfl) dX5_knots_50 (fun o15 H locs hU hS => ?_)
        refine x_aload_n hx hb dX5_knots_53 rfl (lv_at hl 0 rfl) ?_
        refine x_iconst (v := 0) hx hb dX5_knots_54 (by decide) ?_
        refine x_sipush (v := 9999) hx hb dX5_knots_55 (by decide) ?_
        refine X.tB (uzX5_5_numberNow E hZ hU hS hxt hlk ⟨by show 5 + 1 ≤ 10; omega, by show 8 + (3 + 11) + (151) ≤ 255; omega⟩ hl.1 (Nat.le_of_ble_eq_true rfl) dX5_knots_58) ?_
        refine kzX5_5_numberNow E hZ hU hS ⟨by show 5 + 1 ≤ 10; omega, by show 8 + (3 + 11) + (151) ≤ 255; omega⟩ hl.1 (Nat.le_of_ble_eq_true rfl) dX5_knots_58 (fun o16 H locs hU hS => ?_)
        refine x_pop hx hb dX5_knots_61 rfl ?_
        refine x_aload_n hx hb dX5_knots_62 rfl (lv_at hl 0 rfl) ?_
        refine kzX5_5_written E hZ hU hS ⟨Nat.le_of_ble_eq_true rfl, Nat.le_of_ble_eq_true rfl⟩ hl.1 (Nat.le_of_ble_eq_true rfl) dX5_knots_63 (fun o17 H locs hU hS => ?_)
        refine X.onR (fun b18 hb_ => ?_)
        rw [hb_]
        try rw [hb_] at hl
        refine x_astore_n (lv' := [(1, .ref b18), (0, .ref q0)]) hx hb dX5_knots_66 rfl hl (by decide) rfl (fun ls hl => ?_)
        refine x_iconst (v := 0) hx hb dX5_knots_67 (by decide) ?_
        refine x_istore_n (lv' := [(2, .int (0 : Int32)), (1, .ref b18), (0, .ref q0)]) hx hb dX5_knots_68 rfl hl (by decide) rfl (fun ls hl => ?_)
        refine X.loopY (I := fun (x : (GS × Int32)) g H locs => YW D clW ckH ct 26 ad P (mA 26 ad G0) S 0 G0 x.1 H ∧ va_S (mA 26 ad G0) s.heap H locs ∧ ∃ ls : Array Slot, g = F0 m 69 ls [] ∧ lv_has ls 3 [(0, .ref q0), (1, .ref b18), (2, .int x.2)]) (cf := (fun (x : (GS × Int32)) => x.1.2.1 - G0.2.1)) (sf := (fun (x : (GS × Int32)) => x.1.2.2 - G0.2.2)) (fun rc21 ih21 => ?_) FUEL (o17.2, (0 : Int32)) _ _ _ ⟨hU, hS, _, rfl, lv_sub hl [2, 1, 0] rfl⟩
        rintro ⟨G19, v20⟩ _ H locs ⟨hU, hS, ls, rfl, hl⟩
        have hU : YW D clW ckH ct 26 ad P (mA 26 ad G0) S 0 G0 G19 H := hU
        have hl : lv_has ls 3 [(0, .ref q0), (1, .ref b18), (2, .int v20)] := hl
        refine X.cs (cells2 := G19.2.1 - G0.2.1) (slots2 := G19.2.2 - G0.2.2) rfl rfl ?_
        refine X.eqs (sp2 := u5_knots_L69 q0 S P ad ct rc6 b18 rc21 G19 v20) rfl ?_
        unfold u5_knots_L69
        refine x_iload_n hx hb dX5_knots_69 rfl (lv_at hl 2 rfl) ?_
        refine x_aload_n hx hb dX5_knots_70 rfl (lv_at hl 0 rfl) ?_
        refine fx_getR E hU.1.1.2.1 (ci := 4) rfl in_X5 1 (by decide) (hts _ q789) (fun _ h => h) dX5_knots_71 (fun r22 => ?_)
        refine X.onR (fun b23 hb_ => ?_)
        subst hb_
        refine fx_getRN E hU.1.1.2.1 (ci := 2) rfl in_X2 1 (by decide) (hJ.at q196 rfl) (fun _ h => h) dX5_knots_74 (fun r24 => ?_)
        refine X.onR (fun b25 hb_ => ?_)
        subst hb_
        refine kzX5_L_size E hZ hU hS ⟨Nat.le_of_ble_eq_true rfl, Nat.le_of_ble_eq_true rfl⟩ hl.1 (Nat.le_of_ble_eq_true rfl) dX5_knots_77 (fun o26 H locs hU hS => ?_)
        refine x_icmp_ge (tgt := 124) hx hb dX5_knots_82 (by decide) (fun hc => ?_) (fun hc => ?_)
        · refine x_aload_n hx hb dX5_knots_124 rfl (lv_at hl 0 rfl) ?_
          refine kzX5_5_next E hZ hU hS ⟨Nat.le_of_ble_eq_true rfl, Nat.le_of_ble_eq_true rfl⟩ hl.1 (Nat.le_of_ble_eq_true rfl) dX5_knots_125 (fun o27 H locs hU hS => ?_)
          refine x_aload_n hx hb dX5_knots_128 rfl (lv_at hl 0 rfl) ?_
          refine fx_getR E hU.1.1.2.1 (ci := 4) rfl in_X5 1 (by decide) (hts _ q789) (fun _ h => h) dX5_knots_129 (fun r28 => ?_)
          refine X.onR (fun b29 hb_ => ?_)
          subst hb_
          refine fx_getRN E hU.1.1.2.1 (ci := 2) rfl in_X2 1 (by decide) (hJ.at q196 rfl) (fun _ h => h) dX5_knots_132 (fun r30 => ?_)
          refine x_aload_n hx hb dX5_knots_135 rfl (lv_at hl 1 rfl) ?_
          refine X.onR (fun b31 hb_ => ?_)
          subst hb_
          refine kzX5_L_add E hZ hU hS ⟨Nat.le_of_ble_eq_true rfl, Nat.le_of_ble_eq_true rfl⟩ hl.1 (Nat.le_of_ble_eq_true rfl) dX5_knots_136 (fun o32 H locs hU hS => ?_)
          refine x_pop hx hb dX5_knots_141 rfl ?_
          refine x_goto (tgt := 18) hx hb dX5_knots_142 (by decide) ?_
          exact ih6 o32.2 _ _ _ ⟨hU, hS, _, rfl, lv_sub hl [0] rfl⟩
        · refine x_aload_n hx hb dX5_knots_85 rfl (lv_at hl 0 rfl) ?_
          refine x_aload_n hx hb dX5_knots_86 rfl (lv_at hl 0 rfl) ?_
          refine fx_getR E hU.1.1.2.1 (ci := 4) rfl in_X5 1 (by decide) (hts _ q789) (fun _ h => h) dX5_knots_87 (fun r33 => ?_)
          refine X.onR (fun b34 hb_ => ?_)
          subst hb_
          refine fx_getRN E hU.1.1.2.1 (ci := 2) rfl in_X2 1 (by decide) (hJ.at q196 rfl) (fun _ h => h) dX5_knots_90 (fun r35 => ?_)
          refine x_iload_n hx hb dX5_knots_93 rfl (lv_at hl 2 rfl) ?_
          refine X.onR (fun b36 hb_ => ?_)
          subst hb_
          refine kzX5_L_get E hZ hU hS ⟨Nat.le_of_ble_eq_true rfl, Nat.le_of_ble_eq_true rfl⟩ hl.1 (Nat.le_of_ble_eq_true rfl) dX5_knots_94 (fun o37 H locs hU hS => ?_)
          refine X.onR (fun b38 hb_ => ?_)
          subst hb_
          refine fx_cast E hU.1.1.2.1 (ci := 13) rfl (hts _ q776) dX5_knots_99 ?_
          refine x_aload_n hx hb dX5_knots_102 rfl (lv_at hl 1 rfl) ?_
          refine kzX5_S_equals E hZ hU hS ⟨Nat.le_of_ble_eq_true rfl, Nat.le_of_ble_eq_true rfl⟩ hl.1 (Nat.le_of_ble_eq_true rfl) dX5_knots_103 (fun o39 H locs hU hS => ?_)
          refine x_if_ne (tgt := 113) hx hb dX5_knots_106 (by decide) (fun hc => ?_) (fun hc => ?_)
          · refine x_iconst (v := 0) hx hb dX5_knots_113 (by decide) ?_
            refine x_iconst (v := 4) hx hb dX5_knots_114 (by decide) ?_
            refine X.tB (uzX5_5_want E hZ hU hS hxt hlk ⟨by show 4 + 1 ≤ 10; omega, by show 8 + (3 + 11) + (129) ≤ 255; omega⟩ hl.1 (Nat.le_of_ble_eq_true rfl) dX5_knots_115) ?_
            refine kzX5_5_want E hZ hU hS ⟨by show 4 + 1 ≤ 10; omega, by show 8 + (3 + 11) + (129) ≤ 255; omega⟩ hl.1 (Nat.le_of_ble_eq_true rfl) dX5_knots_115 (fun o40 H locs hU hS => ?_)
            refine x_iinc (v := (v20 + (1 : Int32))) (lv' := [(2, .int (v20 + (1 : Int32))), (0, .ref q0), (1, .ref b18)]) (k := 2) hx hb dX5_knots_118 hl rfl rfl (by decide) rfl (fun ls hl => ?_)
            refine x_goto (tgt := 69) hx hb dX5_knots_121 (by decide) ?_
            exact ih21 (o40, (v20 + (1 : Int32))) _ _ _ ⟨hU, hS, _, rfl, lv_sub hl [1, 2, 0] rfl⟩
          · refine x_iconst (v := 1) hx hb dX5_knots_109 (by decide) ?_
            refine x_goto (tgt := 114) hx hb dX5_knots_110 (by decide) ?_
            refine x_iconst (v := 4) hx hb dX5_knots_114 (by decide) ?_
            refine X.tB (uzX5_5_want E hZ hU hS hxt hlk ⟨by show 4 + 1 ≤ 10; omega, by show 8 + (3 + 11) + (129) ≤ 255; omega⟩ hl.1 (Nat.le_of_ble_eq_true rfl) dX5_knots_115) ?_
            refine kzX5_5_want E hZ hU hS ⟨by show 4 + 1 ≤ 10; omega, by show 8 + (3 + 11) + (129) ≤ 255; omega⟩ hl.1 (Nat.le_of_ble_eq_true rfl) dX5_knots_115 (fun o41 H locs hU hS => ?_)
            refine x_iinc (v := (v20 + (1 : Int32))) (lv' := [(2, .int (v20 + (1 : Int32))), (0, .ref q0), (1, .ref b18)]) (k := 2) hx hb dX5_knots_118 hl rfl rfl (by decide) rfl (fun ls hl => ?_)
            refine x_goto (tgt := 69) hx hb dX5_knots_121 (by decide) ?_
            exact ih21 (o41, (v20 + (1 : Int32))) _ _ _ ⟨hU, hS, _, rfl, lv_sub hl [1, 2, 0] rfl⟩
      · refine x_icmp_ge (tgt := 48) hx hb dX5_knots_41 (by decide) (fun hc => ?_) (fun hc => ?_)
        · refine x_iconst (v := 0) hx hb dX5_knots_48 (by decide) ?_
          exact hj14 (0 : Int32) _ _ _ ⟨hU, hS, _, rfl, lv_sub hl [0] rfl⟩
        · refine x_iconst (v := 1) hx hb dX5_knots_44 (by decide) ?_
          refine x_goto (tgt := 49) hx hb dX5_knots_45 (by decide) ?_
          exact hj14 (1 : Int32) _ _ _ ⟨hU, hS, _, rfl, lv_sub hl [0] rfl⟩
  · refine x_icmp_ne (tgt := 13) hx hb dX5_knots_6 (by decide) (fun hc => ?_) (fun hc => ?_)
    · refine x_iconst (v := 0) hx hb dX5_knots_13 (by decide) ?_
      exact hj3 (0 : Int32) _ _ _ ⟨hU, hS, _, rfl, lv_sub hl [0] rfl⟩
    · refine x_iconst (v := 1) hx hb dX5_knots_9 (by decide) ?_
      refine x_goto (tgt := 14) hx hb dX5_knots_10 (by decide) ?_
      exact hj3 (1 : Int32) _ _ _ ⟨hU, hS, _, rfl, lv_sub hl [0] rfl⟩
section VZ
variable {ρ : Type} {p : Program} {l : Launch} {e : Env} {R : Room} {s : State} {m : MethodId} {args : Array Value} {below : List Frame} {meth : Method} {c : Code} {H : Heap} {locs : List Loc} {Qf : ρ → State → Prop}
variable {cc : ByteArray} {pc nL q0 n : Nat} {ls : Array Slot} {rest : List Value}
variable {D : va_G} {ct : CT} {ad : Nat → Nat} {P : Nat → Nat → Option Nat} {A : Nat → Prop} {S : US} {G0 G : GS} {rcE : GS → Nat → Int32 → Option (Option Nat × GS)} {rcU : GS → Nat → Int32 → Option (Nat × GS)}
theorem uzX5_5_knots (E : ME p m c cc nL s args RX5 D clW ct) (hZ : YC ct R s (mA 26 ad G0) G0) (hY : YW D clW ckH ct 26 ad P (mA 26 ad G0) S 0 G0 G H) (hS : va_S (mA 26 ad G0) s.heap H locs) (hxt : ∀ x ∈ c.exceptionTable.toList, False) (hlk : meth.locks = false) (hR : 10 + 1 ≤ R.frames ∧ 8 + (3 + 11) + 255 ≤ R.locals) (hsize : ls.size = nL) (hW : (rest.map fun v => v.category).sum ≤ 8) (hdg : decode cc pc = .ok (.invokevirtual 264, 3)) : X p l e R s m args below meth c H locs (G.2.1 - G0.2.1) (G.2.2 - G0.2.2) (uQ below args s D ct ad P S G0) (hC G.1 q0 4 (u5_knots ct ad P S G q0)) (F0 m pc ls (.ref q0 :: rest)) := X.hC fun fs bw hq => uy_end hZ hY hS hxt hlk (fun o ho => rtV (As := []) E hY.1.any (recvA E.2.1 hY.1.1.2.1 hq rfl) (by rw [hY.1.2.1]; exact mU5_knots l D ct ad P S G q0 o ho) (cwV 0 E.1.2.2.2.2 (lw_V q986 q988 qs18 q124 q989) rfl rfl rfl (by decide +kernel) hR) rfl hsize rfl hW hdg (hY.room hZ))
end VZ

set_option maxHeartbeats 4000000 in
theorem mY5_only (l : Launch) (D : va_G) (ct : CT) (ad : Nat → Nat) (P : Nat → Nat → Option Nat) (S : US) (G0 : GS) (q0 : Nat) (p1 : Int32) (o : GS) (ho : s5_only ct ad P S G0 q0 p1 = some o) : Met l yX5_only (ws_ yX5_only cX5_only 3 none) { frames := 106, cells := nmax ct - G0.2.1, slots := zmax ct - G0.2.2, locals := 2222 } (mP D clW ct [.ref q0, .int p1] G0.2.1 (MW D clW ckH ct 26 ad P (fun _ => True) S 0 G0)) (yC (none) (MW D clW ckH ct 26 ad P (mA 26 ad G0) S 0 o) G0 o (mA 26 ad G0)) (nmax ct - G0.2.1) (zmax ct - G0.2.2) (mA 26 ad G0) := by
  refine Y.start (val := fun (o : GS) => none) (Bt := fun (o : GS) => MW D clW ckH ct 26 ad P (mA 26 ad G0) S 0 o) (Go := fun (o : GS) => o) ho (by decide) (Nat.le_of_ble_eq_true rfl) (lv := [(0, .ref q0), (1, .int p1)]) rfl ?_
  intro p e s m args below meth c E hr hlk hnm hZ hU hS ls hl
  obtain ⟨⟨hx, hb, hml, hown, hts⟩, hK, hJ⟩ := id E
  unfold s5_only
  refine x_aload_n hx hb dX5_only_0 rfl (lv_at hl 0 rfl) ?_
  refine x_aload_n hx hb dX5_only_1 rfl (lv_at hl 0 rfl) ?_
  refine fx_getI E hU.1.1.2.1 (ci := 4) rfl in_X5 10 (by decide) (hts _ q800) (fun _ h => h) dX5_only_2 (fun v1 => ?_)
  refine x_iload_n hx hb dX5_only_5 rfl (lv_at hl 1 rfl) ?_
  refine kzX5_1_isOf E hZ hU hS ⟨Nat.le_of_ble_eq_true rfl, Nat.le_of_ble_eq_true rfl⟩ hl.1 (Nat.le_of_ble_eq_true rfl) dX5_only_6 (fun o2 H locs hU hS => ?_)
  refine X.join2Y (fun (x : Int32) g H locs => YW D clW ckH ct 26 ad P (mA 26 ad G0) S 0 G0 G0 H ∧ va_S (mA 26 ad G0) s.heap H locs ∧ ∃ ls : Array Slot, g = F0 m 17 ls [.int x, .ref q0] ∧ lv_has ls 3 [(0, .ref q0), (1, .int p1)]) (fun (x : Int32) => G0.2.1 - G0.2.1) (fun (x : Int32) => G0.2.2 - G0.2.2) ?_ (fun j4 hj4 => ?_)
  · rintro y3 _ H locs ⟨hU, hS, ls, rfl, hl⟩
    refine X.cs (cells2 := G0.2.1 - G0.2.1) (slots2 := G0.2.2 - G0.2.2) rfl rfl ?_
    refine X.eqs (sp2 := s5_only_J17 q0 p1 S P ad G0 ct y3) rfl ?_
    unfold s5_only_J17
    refine x_iconst (v := 5) hx hb dX5_only_17 (by decide) ?_
    refine kzX5_5_want E hZ hU hS ⟨by show 4 + 1 ≤ 106; omega, by show 8 + (3 + 11) + (129) ≤ 2222; omega⟩ hl.1 (Nat.le_of_ble_eq_true rfl) dX5_only_18 (fun o5 H locs hU hS => ?_)
    refine x_aload_n hx hb dX5_only_21 rfl (lv_at hl 0 rfl) ?_
    refine x_dup hx hb dX5_only_22 rfl ?_
    refine fx_getI E hU.1.1.2.1 (ci := 4) rfl in_X5 10 (by decide) (hts _ q800) (fun _ h => h) dX5_only_23 (fun v6 => ?_)
    refine x_iconst (v := 1) hx hb dX5_only_26 (by decide) ?_
    refine x_iload_n hx hb dX5_only_27 rfl (lv_at hl 1 rfl) ?_
    refine x_ishl hx hb dX5_only_28 ?_
    refine x_ior hx hb dX5_only_29 ?_
    refine gy_put (v := .int (v6 ||| ((1 : Int32) <<< (p1 &&& 31)))) (ty0 := tyX5) E hU hS (ci := 4) rfl in_X5 tyX5_ok nmX5 10 (by decide) (hts _ q800) (fun _ h => h) (Or.inl rfl) rfl rfl dX5_only_30 (fun G7 H locs hU hS => ?_)
    refine x_aload_n hx hb dX5_only_33 rfl (lv_at hl 0 rfl) ?_
    refine kzX5_5_next E hZ hU hS ⟨Nat.le_of_ble_eq_true rfl, Nat.le_of_ble_eq_true rfl⟩ hl.1 (Nat.le_of_ble_eq_true rfl) dX5_only_34 (fun o8 H locs hU hS => ?_)
    refine x_iload_n hx hb dX5_only_37 rfl (lv_at hl 1 rfl) ?_
    refine x_if_ne (tgt := 48) hx hb dX5_only_38 (by decide) (fun hc => ?_) (fun hc => ?_)
    · refine x_iload_n hx hb dX5_only_48 rfl (lv_at hl 1 rfl) ?_
      refine x_iconst (v := 1) hx hb dX5_only_49 (by decide) ?_
      refine x_icmp_ne (tgt := 70) hx hb dX5_only_50 (by decide) (fun hc => ?_) (fun hc => ?_)
      · refine x_aload_n hx hb dX5_only_70 rfl (lv_at hl 0 rfl) ?_
        refine x_iconst (v := 0) hx hb dX5_only_71 (by decide) ?_
        refine kzE (n := NEST) (emet l D ct ad P S NEST) E hZ hU hS ⟨Nat.le_of_ble_eq_true rfl, Nat.le_of_ble_eq_true rfl⟩ hl.1 (Nat.le_of_ble_eq_true rfl) dX5_only_72 (fun o9 H locs hU hS => ?_)
        refine X.onR (fun b10 hb_ => ?_)
        rw [hb_]
        try rw [hb_] at hl
        refine x_astore_n (lv' := [(2, .ref b10), (0, .ref q0), (1, .int p1)]) hx hb dX5_only_75 rfl hl (by decide) rfl (fun ls hl => ?_)
        refine x_iload_n hx hb dX5_only_76 rfl (lv_at hl 2 rfl) ?_
        refine x_iconst (v := 2) hx hb dX5_only_77 (by decide) ?_
        refine x_icmp_ne (tgt := 92) hx hb dX5_only_78 (by decide) (fun hc => ?_) (fun hc => ?_)
        · refine x_aload_n hx hb dX5_only_92 rfl (lv_at hl 1 rfl) ?_
          refine fx_getR E hU.1.1.2.1 (ci := 4) rfl in_X5 1 (by decide) (hts _ q789) (fun _ h => h) dX5_only_93 (fun r11 => ?_)
          refine x_aload_n hx hb dX5_only_96 rfl (lv_at hl 0 rfl) ?_
          refine X.onR (fun b12 hb_ => ?_)
          subst hb_
          refine gy_putN (v := .ref b10) (ty0 := tyX2) E hU hS (ci := 2) rfl in_X2 tyX2_ok nmX2 5 (by decide) (hJ.at q208 rfl) (fun _ h => h) rfl rfl rfl dX5_only_97 (fun G13 H locs hU hS => ?_)
          exact y_vret hx hb hr hlk hZ hU hS rfl rfl hU.1 dX5_only_100
        · refine x_aload_n hx hb dX5_only_81 rfl (lv_at hl 1 rfl) ?_
          refine fx_getR E hU.1.1.2.1 (ci := 4) rfl in_X5 1 (by decide) (hts _ q789) (fun _ h => h) dX5_only_82 (fun r14 => ?_)
          refine x_aload_n hx hb dX5_only_85 rfl (lv_at hl 0 rfl) ?_
          refine X.onR (fun b15 hb_ => ?_)
          subst hb_
          refine gy_putN (v := .ref b10) (ty0 := tyX2) E hU hS (ci := 2) rfl in_X2 tyX2_ok nmX2 4 (by decide) (hJ.at q206 rfl) (fun _ h => h) rfl rfl rfl dX5_only_86 (fun G16 H locs hU hS => ?_)
          refine x_goto (tgt := 100) hx hb dX5_only_89 (by decide) ?_
          exact y_vret hx hb hr hlk hZ hU hS rfl rfl hU.1 dX5_only_100
      · refine x_aload_n hx hb dX5_only_53 rfl (lv_at hl 0 rfl) ?_
        refine fx_getR E hU.1.1.2.1 (ci := 4) rfl in_X5 1 (by decide) (hts _ q789) (fun _ h => h) dX5_only_54 (fun r17 => ?_)
        refine x_aload_n hx hb dX5_only_57 rfl (lv_at hl 0 rfl) ?_
        refine x_iconst (v := 1) hx hb dX5_only_58 (by decide) ?_
        refine x_bipush (v := 9) hx hb dX5_only_59 (by decide) ?_
        refine kzX5_5_number E hZ hU hS ⟨by show 6 + 1 ≤ 106; omega, by show 8 + (4 + 11) + (173) ≤ 2222; omega⟩ hl.1 (by rcases r17 with _ | _ <;> exact Nat.le_of_ble_eq_true rfl) dX5_only_61 (fun o18 H locs hU hS => ?_)
        refine X.onR (fun b19 hb_ => ?_)
        subst hb_
        refine gy_putN (v := .int o18.1) (ty0 := tyX2) E hU hS (ci := 2) rfl in_X2 tyX2_ok nmX2 3 (by decide) (hJ.at q204 rfl) (fun _ h => h) rfl rfl rfl dX5_only_64 (fun G20 H locs hU hS => ?_)
        refine x_goto (tgt := 100) hx hb dX5_only_67 (by decide) ?_
        exact y_vret hx hb hr hlk hZ hU hS rfl rfl hU.1 dX5_only_100
    · refine x_aload_n hx hb dX5_only_41 rfl (lv_at hl 0 rfl) ?_
      refine kzX5_5_knots E hZ hU hS ⟨by show 10 + 1 ≤ 106; omega, by show 8 + (3 + 11) + (255) ≤ 2222; omega⟩ hl.1 (Nat.le_of_ble_eq_true rfl) dX5_only_42 (fun o21 H locs hU hS => ?_)
      refine x_goto (tgt := 100) hx hb dX5_only_45 (by decide) ?_
      exact y_vret hx hb hr hlk hZ hU hS rfl rfl hU.1 dX5_only_100
  · refine x_if_ne (tgt := 16) hx hb dX5_only_9 (by decide) (fun hc => ?_) (fun hc => ?_)
    · refine x_iconst (v := 0) hx hb dX5_only_16 (by decide) ?_
      exact hj4 (0 : Int32) _ _ _ ⟨hU, hS, _, rfl, lv_sub hl [0, 1] rfl⟩
    · refine x_iconst (v := 1) hx hb dX5_only_12 (by decide) ?_
      refine x_goto (tgt := 17) hx hb dX5_only_13 (by decide) ?_
      exact hj4 (1 : Int32) _ _ _ ⟨hU, hS, _, rfl, lv_sub hl [0, 1] rfl⟩
section VZ
variable {ρ : Type} {p : Program} {l : Launch} {e : Env} {R : Room} {s : State} {m : MethodId} {args : Array Value} {below : List Frame} {meth : Method} {c : Code} {H : Heap} {locs : List Loc} {Qf : ρ → State → Prop}
variable {cc : ByteArray} {pc nL q0 n : Nat} {ls : Array Slot} {rest : List Value}
variable {D : va_G} {ct : CT} {ad : Nat → Nat} {P : Nat → Nat → Option Nat} {A : Nat → Prop} {S : US} {G0 G : GS} {rcE : GS → Nat → Int32 → Option (Option Nat × GS)} {rcU : GS → Nat → Int32 → Option (Nat × GS)}
theorem kzX5_5_only {p1 : Int32} (E : ME p m c cc nL s args RX5 D clW ct) (hZ : YC ct R s A G0) (hY : YW D clW ckH ct 26 ad P A S 0 G0 G H) (hS : va_S A s.heap H locs) (hR : 106 + 1 ≤ R.frames ∧ 8 + (3 + 11) + 2222 ≤ R.locals) (hsize : ls.size = nL) (hW : (rest.map fun v => v.category).sum ≤ 8) (hdg : decode cc pc = .ok (.invokevirtual 273, 3)) {kp : GS → Option ρ} (kk : ∀ (o : GS) (H1 : Heap) (locs1 : List Loc), YW D clW ckH ct 26 ad P A S 0 G0 o H1 → va_S A s.heap H1 locs1 → X p l e R s m args below meth c H1 locs1 (o.2.1 - G0.2.1) (o.2.2 - G0.2.2) Qf (kp o) (F0 m (pc + 3) ls (rest))) : X p l e R s m args below meth c H locs (G.2.1 - G0.2.1) (G.2.2 - G0.2.2) Qf (hC G.1 q0 4 (callK (s5_only ct ad P S G q0 p1) kp)) (F0 m pc ls (.int p1 :: .ref q0 :: rest)) := X.hC fun fs bw hq => gy_mx (val' := fun (o : GS) => none) (len := 3) (So := fun (o : GS) => S) (Po := fun (o : GS) => P) (Gn := fun (o : GS) => o) hZ hY hS (fun o ho => rqV (As := [.int p1]) E hY.1.any (recvA E.2.1 hY.1.1.2.1 hq rfl) (by rw [hY.1.2.1]; exact mY5_only l D ct ad P S G q0 p1 o ho) (cwV 1 E.1.2.2.2.2 (lw_V q951 q953 qs16 q124 q954) rfl rfl rfl (by decide +kernel) hR) rfl hsize rfl hW hdg (hY.room hZ)) kk
end VZ

set_option maxHeartbeats 4000000 in
theorem mU5_only (l : Launch) (D : va_G) (ct : CT) (ad : Nat → Nat) (P : Nat → Nat → Option Nat) (S : US) (G0 : GS) (q0 : Nat) (p1 : Int32) (o : Nat × GS) (ho : u5_only ct ad P S G0 q0 p1 = some o) : vx_Met l yX5_only (ws_ yX5_only cX5_only 3 none) { frames := 106, cells := nmax ct - G0.2.1, slots := zmax ct - G0.2.2, locals := 2222 } (mP D clW ct [.ref q0, .int p1] G0.2.1 (MW D clW ckH ct 26 ad P (fun _ => True) S 0 G0)) nQ (uX D ct ad P S G0 o) (nmax ct - G0.2.1) (zmax ct - G0.2.2) (mA 26 ad G0) := by
  refine U.start ho (by decide) (Nat.le_of_ble_eq_true rfl) (lv := [(0, .ref q0), (1, .int p1)]) rfl ?_
  intro p e s m args below meth c E hlk hxt hZ hU hS ls hl
  obtain ⟨⟨hx, hb, hml, hown, hts⟩, hK, hJ⟩ := id E
  unfold u5_only
  refine x_aload_n hx hb dX5_only_0 rfl (lv_at hl 0 rfl) ?_
  refine x_aload_n hx hb dX5_only_1 rfl (lv_at hl 0 rfl) ?_
  refine fx_getI E hU.1.1.2.1 (ci := 4) rfl in_X5 10 (by decide) (hts _ q800) (fun _ h => h) dX5_only_2 (fun v1 => ?_)
  refine x_iload_n hx hb dX5_only_5 rfl (lv_at hl 1 rfl) ?_
  refine kzX5_1_isOf E hZ hU hS ⟨Nat.le_of_ble_eq_true rfl, Nat.le_of_ble_eq_true rfl⟩ hl.1 (Nat.le_of_ble_eq_true rfl) dX5_only_6 (fun o2 H locs hU hS => ?_)
  refine X.join2Y (fun (x : Int32) g H locs => YW D clW ckH ct 26 ad P (mA 26 ad G0) S 0 G0 G0 H ∧ va_S (mA 26 ad G0) s.heap H locs ∧ ∃ ls : Array Slot, g = F0 m 17 ls [.int x, .ref q0] ∧ lv_has ls 3 [(0, .ref q0), (1, .int p1)]) (fun (x : Int32) => G0.2.1 - G0.2.1) (fun (x : Int32) => G0.2.2 - G0.2.2) ?_ (fun j4 hj4 => ?_)
  · rintro y3 _ H locs ⟨hU, hS, ls, rfl, hl⟩
    refine X.cs (cells2 := G0.2.1 - G0.2.1) (slots2 := G0.2.2 - G0.2.2) rfl rfl ?_
    refine X.eqs (sp2 := u5_only_J17 q0 p1 S P ad G0 ct y3) rfl ?_
    unfold u5_only_J17
    refine x_iconst (v := 5) hx hb dX5_only_17 (by decide) ?_
    refine X.tB (uzX5_5_want E hZ hU hS hxt hlk ⟨by show 4 + 1 ≤ 106; omega, by show 8 + (3 + 11) + (129) ≤ 2222; omega⟩ hl.1 (Nat.le_of_ble_eq_true rfl) dX5_only_18) ?_
    refine kzX5_5_want E hZ hU hS ⟨by show 4 + 1 ≤ 106; omega, by show 8 + (3 + 11) + (129) ≤ 2222; omega⟩ hl.1 (Nat.le_of_ble_eq_true rfl) dX5_only_18 (fun o5 H locs hU hS => ?_)
    refine x_aload_n hx hb dX5_only_21 rfl (lv_at hl 0 rfl) ?_
    refine x_dup hx hb dX5_only_22 rfl ?_
    refine fx_getI E hU.1.1.2.1 (ci := 4) rfl in_X5 10 (by decide) (hts _ q800) (fun _ h => h) dX5_only_23 (fun v6 => ?_)
    refine x_iconst (v := 1) hx hb dX5_only_26 (by decide) ?_
    refine x_iload_n hx hb dX5_only_27 rfl (lv_at hl 1 rfl) ?_
    refine x_ishl hx hb dX5_only_28 ?_
    refine x_ior hx hb dX5_only_29 ?_
    refine gy_put (v := .int (v6 ||| ((1 : Int32) <<< (p1 &&& 31)))) (ty0 := tyX5) E hU hS (ci := 4) rfl in_X5 tyX5_ok nmX5 10 (by decide) (hts _ q800) (fun _ h => h) (Or.inl rfl) rfl rfl dX5_only_30 (fun G7 H locs hU hS => ?_)
    refine x_aload_n hx hb dX5_only_33 rfl (lv_at hl 0 rfl) ?_
    refine kzX5_5_next E hZ hU hS ⟨Nat.le_of_ble_eq_true rfl, Nat.le_of_ble_eq_true rfl⟩ hl.1 (Nat.le_of_ble_eq_true rfl) dX5_only_34 (fun o8 H locs hU hS => ?_)
    refine x_iload_n hx hb dX5_only_37 rfl (lv_at hl 1 rfl) ?_
    refine x_if_ne (tgt := 48) hx hb dX5_only_38 (by decide) (fun hc => ?_) (fun hc => ?_)
    · refine x_iload_n hx hb dX5_only_48 rfl (lv_at hl 1 rfl) ?_
      refine x_iconst (v := 1) hx hb dX5_only_49 (by decide) ?_
      refine x_icmp_ne (tgt := 70) hx hb dX5_only_50 (by decide) (fun hc => ?_) (fun hc => ?_)
      · refine x_aload_n hx hb dX5_only_70 rfl (lv_at hl 0 rfl) ?_
        refine x_iconst (v := 0) hx hb dX5_only_71 (by decide) ?_
        exact uzE (n := NEST) (ethr l D ct ad P S NEST) E hZ hU hS hxt hlk ⟨Nat.le_of_ble_eq_true rfl, Nat.le_of_ble_eq_true rfl⟩ hl.1 (Nat.le_of_ble_eq_true rfl) dX5_only_72
      · refine x_aload_n hx hb dX5_only_53 rfl (lv_at hl 0 rfl) ?_
        refine fx_getR E hU.1.1.2.1 (ci := 4) rfl in_X5 1 (by decide) (hts _ q789) (fun _ h => h) dX5_only_54 (fun r9 => ?_)
        refine x_aload_n hx hb dX5_only_57 rfl (lv_at hl 0 rfl) ?_
        refine x_iconst (v := 1) hx hb dX5_only_58 (by decide) ?_
        refine x_bipush (v := 9) hx hb dX5_only_59 (by decide) ?_
        exact uzX5_5_number E hZ hU hS hxt hlk ⟨by show 6 + 1 ≤ 106; omega, by show 8 + (4 + 11) + (173) ≤ 2222; omega⟩ hl.1 (by rcases r9 with _ | _ <;> exact Nat.le_of_ble_eq_true rfl) dX5_only_61
    · refine x_aload_n hx hb dX5_only_41 rfl (lv_at hl 0 rfl) ?_
      exact uzX5_5_knots E hZ hU hS hxt hlk ⟨by show 10 + 1 ≤ 106; omega, by show 8 + (3 + 11) + (255) ≤ 2222; omega⟩ hl.1 (Nat.le_of_ble_eq_true rfl) dX5_only_42
  · refine x_if_ne (tgt := 16) hx hb dX5_only_9 (by decide) (fun hc => ?_) (fun hc => ?_)
    · refine x_iconst (v := 0) hx hb dX5_only_16 (by decide) ?_
      exact hj4 (0 : Int32) _ _ _ ⟨hU, hS, _, rfl, lv_sub hl [0, 1] rfl⟩
    · refine x_iconst (v := 1) hx hb dX5_only_12 (by decide) ?_
      refine x_goto (tgt := 17) hx hb dX5_only_13 (by decide) ?_
      exact hj4 (1 : Int32) _ _ _ ⟨hU, hS, _, rfl, lv_sub hl [0, 1] rfl⟩
section VZ
variable {ρ : Type} {p : Program} {l : Launch} {e : Env} {R : Room} {s : State} {m : MethodId} {args : Array Value} {below : List Frame} {meth : Method} {c : Code} {H : Heap} {locs : List Loc} {Qf : ρ → State → Prop}
variable {cc : ByteArray} {pc nL q0 n : Nat} {ls : Array Slot} {rest : List Value}
variable {D : va_G} {ct : CT} {ad : Nat → Nat} {P : Nat → Nat → Option Nat} {A : Nat → Prop} {S : US} {G0 G : GS} {rcE : GS → Nat → Int32 → Option (Option Nat × GS)} {rcU : GS → Nat → Int32 → Option (Nat × GS)}
theorem uzX5_5_only {p1 : Int32} (E : ME p m c cc nL s args RX5 D clW ct) (hZ : YC ct R s (mA 26 ad G0) G0) (hY : YW D clW ckH ct 26 ad P (mA 26 ad G0) S 0 G0 G H) (hS : va_S (mA 26 ad G0) s.heap H locs) (hxt : ∀ x ∈ c.exceptionTable.toList, False) (hlk : meth.locks = false) (hR : 106 + 1 ≤ R.frames ∧ 8 + (3 + 11) + 2222 ≤ R.locals) (hsize : ls.size = nL) (hW : (rest.map fun v => v.category).sum ≤ 8) (hdg : decode cc pc = .ok (.invokevirtual 273, 3)) : X p l e R s m args below meth c H locs (G.2.1 - G0.2.1) (G.2.2 - G0.2.2) (uQ below args s D ct ad P S G0) (hC G.1 q0 4 (u5_only ct ad P S G q0 p1)) (F0 m pc ls (.int p1 :: .ref q0 :: rest)) := X.hC fun fs bw hq => uy_end hZ hY hS hxt hlk (fun o ho => rtV (As := [.int p1]) E hY.1.any (recvA E.2.1 hY.1.1.2.1 hq rfl) (by rw [hY.1.2.1]; exact mU5_only l D ct ad P S G q0 p1 o ho) (cwV 1 E.1.2.2.2.2 (lw_V q951 q953 qs16 q124 q954) rfl rfl rfl (by decide +kernel) hR) rfl hsize rfl hW hdg (hY.room hZ))
end VZ

set_option maxHeartbeats 4000000 in
theorem mY5_line (l : Launch) (D : va_G) (ct : CT) (ad : Nat → Nat) (P : Nat → Nat → Option Nat) (S : US) (G0 : GS) (q0 : Nat) (o : GS) (ho : s5_line ct ad P S G0 q0 = some o) : Met l yX5_line (ws_ yX5_line cX5_line 2 none) { frames := 107, cells := nmax ct - G0.2.1, slots := zmax ct - G0.2.2, locals := 2244 } (mP D clW ct [.ref q0] G0.2.1 (MW D clW ckH ct 26 ad P (fun _ => True) S 0 G0)) (yC (none) (MW D clW ckH ct 26 ad P (mA 26 ad G0) S 0 o) G0 o (mA 26 ad G0)) (nmax ct - G0.2.1) (zmax ct - G0.2.2) (mA 26 ad G0) := by
  refine Y.start (val := fun (o : GS) => none) (Bt := fun (o : GS) => MW D clW ckH ct 26 ad P (mA 26 ad G0) S 0 o) (Go := fun (o : GS) => o) ho (by decide) (Nat.le_of_ble_eq_true rfl) (lv := [(0, .ref q0)]) rfl ?_
  intro p e s m args below meth c E hr hlk hnm hZ hU hS ls hl
  obtain ⟨⟨hx, hb, hml, hown, hts⟩, hK, hJ⟩ := id E
  unfold s5_line
  refine x_aload_n hx hb dX5_line_0 rfl (lv_at hl 0 rfl) ?_
  refine x_aload_n hx hb dX5_line_1 rfl (lv_at hl 0 rfl) ?_
  refine fx_getR E hU.1.1.2.1 (ci := 4) rfl in_X5 3 (by decide) (hts _ q792) (fun _ h => h) dX5_line_2 (fun r1 => ?_)
  refine kzX5_5_which E hZ hU hS ⟨Nat.le_of_ble_eq_true rfl, Nat.le_of_ble_eq_true rfl⟩ hl.1 (Nat.le_of_ble_eq_true rfl) dX5_line_5 (fun o2 H locs hU hS => ?_)
  refine x_istore_n (lv' := [(1, .int o2.1), (0, .ref q0)]) hx hb dX5_line_8 rfl hl (by decide) rfl (fun ls hl => ?_)
  refine x_iload_n hx hb dX5_line_9 rfl (lv_at hl 0 rfl) ?_
  refine x_iconst (v := -1) hx hb dX5_line_10 (by decide) ?_
  refine x_icmp_eq (tgt := 22) hx hb dX5_line_11 (by decide) (fun hc => ?_) (fun hc => ?_)
  · refine x_aload_n hx hb dX5_line_22 rfl (lv_at hl 1 rfl) ?_
    refine gx_ldcSW (tx := "stretch") (z := 54) E (List.mem_of_getElem? (i := 14) rfl) dX5_line_23 ?_
    refine kzX5_5_is E hZ hU hS ⟨Nat.le_of_ble_eq_true rfl, Nat.le_of_ble_eq_true rfl⟩ hl.1 (Nat.le_of_ble_eq_true rfl) dX5_line_26 (fun o3 H locs hU hS => ?_)
    refine x_if_eq (tgt := 39) hx hb dX5_line_29 (by decide) (fun hc => ?_) (fun hc => ?_)
    · refine x_aload_n hx hb dX5_line_39 rfl (lv_at hl 1 rfl) ?_
      refine x_aload_n hx hb dX5_line_40 rfl (lv_at hl 1 rfl) ?_
      refine gx_ldcSW (tx := "woman") (z := 55) E (List.mem_of_getElem? (i := 15) rfl) dX5_line_41 ?_
      refine kzX5_5_is E hZ hU hS ⟨Nat.le_of_ble_eq_true rfl, Nat.le_of_ble_eq_true rfl⟩ hl.1 (Nat.le_of_ble_eq_true rfl) dX5_line_44 (fun o4 H locs hU hS => ?_)
      refine x_iconst (v := 1) hx hb dX5_line_47 (by decide) ?_
      refine kzX5_5_want E hZ hU hS ⟨by show 4 + 1 ≤ 107; omega, by show 8 + (3 + 11) + (129) ≤ 2244; omega⟩ hl.1 (Nat.le_of_ble_eq_true rfl) dX5_line_48 (fun o5 H locs hU hS => ?_)
      refine x_aload_n hx hb dX5_line_51 rfl (lv_at hl 1 rfl) ?_
      refine kzX5_5_woman E hZ hU hS ⟨by show 7 + 1 ≤ 107; omega, by show 8 + (3 + 11) + (196) ≤ 2244; omega⟩ hl.1 (Nat.le_of_ble_eq_true rfl) dX5_line_52 (fun o6 H locs hU hS => ?_)
      refine x_aload_n hx hb dX5_line_55 rfl (lv_at hl 1 rfl) ?_
      refine x_aload_n hx hb dX5_line_56 rfl (lv_at hl 1 rfl) ?_
      refine x_bipush (v := 59) hx hb dX5_line_57 (by decide) ?_
      refine kzX5_5_isSign E hZ hU hS ⟨Nat.le_of_ble_eq_true rfl, Nat.le_of_ble_eq_true rfl⟩ hl.1 (Nat.le_of_ble_eq_true rfl) dX5_line_59 (fun o7 H locs hU hS => ?_)
      refine x_iconst (v := 1) hx hb dX5_line_62 (by decide) ?_
      refine kzX5_5_want E hZ hU hS ⟨by show 4 + 1 ≤ 107; omega, by show 8 + (3 + 11) + (129) ≤ 2244; omega⟩ hl.1 (Nat.le_of_ble_eq_true rfl) dX5_line_63 (fun o8 H locs hU hS => ?_)
      refine x_aload_n hx hb dX5_line_66 rfl (lv_at hl 1 rfl) ?_
      refine kzX5_5_next E hZ hU hS ⟨Nat.le_of_ble_eq_true rfl, Nat.le_of_ble_eq_true rfl⟩ hl.1 (Nat.le_of_ble_eq_true rfl) dX5_line_67 (fun o9 H locs hU hS => ?_)
      exact y_vret hx hb hr hlk hZ hU hS rfl rfl hU.1 dX5_line_70
    · refine x_aload_n hx hb dX5_line_32 rfl (lv_at hl 1 rfl) ?_
      refine kzX5_5_stretch E hZ hU hS ⟨by show 7 + 1 ≤ 107; omega, by show 8 + (2 + 11) + (196) ≤ 2244; omega⟩ hl.1 (Nat.le_of_ble_eq_true rfl) dX5_line_33 (fun o10 H locs hU hS => ?_)
      refine x_goto (tgt := 55) hx hb dX5_line_36 (by decide) ?_
      refine x_aload_n hx hb dX5_line_55 rfl (lv_at hl 1 rfl) ?_
      refine x_aload_n hx hb dX5_line_56 rfl (lv_at hl 1 rfl) ?_
      refine x_bipush (v := 59) hx hb dX5_line_57 (by decide) ?_
      refine kzX5_5_isSign E hZ hU hS ⟨Nat.le_of_ble_eq_true rfl, Nat.le_of_ble_eq_true rfl⟩ hl.1 (Nat.le_of_ble_eq_true rfl) dX5_line_59 (fun o11 H locs hU hS => ?_)
      refine x_iconst (v := 1) hx hb dX5_line_62 (by decide) ?_
      refine kzX5_5_want E hZ hU hS ⟨by show 4 + 1 ≤ 107; omega, by show 8 + (3 + 11) + (129) ≤ 2244; omega⟩ hl.1 (Nat.le_of_ble_eq_true rfl) dX5_line_63 (fun o12 H locs hU hS => ?_)
      refine x_aload_n hx hb dX5_line_66 rfl (lv_at hl 1 rfl) ?_
      refine kzX5_5_next E hZ hU hS ⟨Nat.le_of_ble_eq_true rfl, Nat.le_of_ble_eq_true rfl⟩ hl.1 (Nat.le_of_ble_eq_true rfl) dX5_line_67 (fun o13 H locs hU hS => ?_)
      exact y_vret hx hb hr hlk hZ hU hS rfl rfl hU.1 dX5_line_70
  · refine x_aload_n hx hb dX5_line_14 rfl (lv_at hl 1 rfl) ?_
    refine x_iload_n hx hb dX5_line_15 rfl (lv_at hl 0 rfl) ?_
    refine kzX5_5_only E hZ hU hS ⟨by show 106 + 1 ≤ 107; omega, by show 8 + (3 + 11) + (2222) ≤ 2244; omega⟩ hl.1 (Nat.le_of_ble_eq_true rfl) dX5_line_16 (fun o14 H locs hU hS => ?_)
    refine x_goto (tgt := 55) hx hb dX5_line_19 (by decide) ?_
    refine x_aload_n hx hb dX5_line_55 rfl (lv_at hl 1 rfl) ?_
    refine x_aload_n hx hb dX5_line_56 rfl (lv_at hl 1 rfl) ?_
    refine x_bipush (v := 59) hx hb dX5_line_57 (by decide) ?_
    refine kzX5_5_isSign E hZ hU hS ⟨Nat.le_of_ble_eq_true rfl, Nat.le_of_ble_eq_true rfl⟩ hl.1 (Nat.le_of_ble_eq_true rfl) dX5_line_59 (fun o15 H locs hU hS => ?_)
    refine x_iconst (v := 1) hx hb dX5_line_62 (by decide) ?_
    refine kzX5_5_want E hZ hU hS ⟨by show 4 + 1 ≤ 107; omega, by show 8 + (3 + 11) + (129) ≤ 2244; omega⟩ hl.1 (Nat.le_of_ble_eq_true rfl) dX5_line_63 (fun o16 H locs hU hS => ?_)
    refine x_aload_n hx hb dX5_line_66 rfl (lv_at hl 1 rfl) ?_
    refine kzX5_5_next E hZ hU hS ⟨Nat.le_of_ble_eq_true rfl, Nat.le_of_ble_eq_true rfl⟩ hl.1 (Nat.le_of_ble_eq_true rfl) dX5_line_67 (fun o17 H locs hU hS => ?_)
    exact y_vret hx hb hr hlk hZ hU hS rfl rfl hU.1 dX5_line_70
section VZ
variable {ρ : Type} {p : Program} {l : Launch} {e : Env} {R : Room} {s : State} {m : MethodId} {args : Array Value} {below : List Frame} {meth : Method} {c : Code} {H : Heap} {locs : List Loc} {Qf : ρ → State → Prop}
variable {cc : ByteArray} {pc nL q0 n : Nat} {ls : Array Slot} {rest : List Value}
variable {D : va_G} {ct : CT} {ad : Nat → Nat} {P : Nat → Nat → Option Nat} {A : Nat → Prop} {S : US} {G0 G : GS} {rcE : GS → Nat → Int32 → Option (Option Nat × GS)} {rcU : GS → Nat → Int32 → Option (Nat × GS)}
theorem kzX5_5_line (E : ME p m c cc nL s args RX5 D clW ct) (hZ : YC ct R s A G0) (hY : YW D clW ckH ct 26 ad P A S 0 G0 G H) (hS : va_S A s.heap H locs) (hR : 107 + 1 ≤ R.frames ∧ 8 + (2 + 11) + 2244 ≤ R.locals) (hsize : ls.size = nL) (hW : (rest.map fun v => v.category).sum ≤ 8) (hdg : decode cc pc = .ok (.invokevirtual 284, 3)) {kp : GS → Option ρ} (kk : ∀ (o : GS) (H1 : Heap) (locs1 : List Loc), YW D clW ckH ct 26 ad P A S 0 G0 o H1 → va_S A s.heap H1 locs1 → X p l e R s m args below meth c H1 locs1 (o.2.1 - G0.2.1) (o.2.2 - G0.2.2) Qf (kp o) (F0 m (pc + 3) ls (rest))) : X p l e R s m args below meth c H locs (G.2.1 - G0.2.1) (G.2.2 - G0.2.2) Qf (hC G.1 q0 4 (callK (s5_line ct ad P S G q0) kp)) (F0 m pc ls (.ref q0 :: rest)) := X.hC fun fs bw hq => gy_mx (val' := fun (o : GS) => none) (len := 3) (So := fun (o : GS) => S) (Po := fun (o : GS) => P) (Gn := fun (o : GS) => o) hZ hY hS (fun o ho => rqV (As := []) E hY.1.any (recvA E.2.1 hY.1.1.2.1 hq rfl) (by rw [hY.1.2.1]; exact mY5_line l D ct ad P S G q0 o ho) (cwV 0 E.1.2.2.2.2 (lw_V q923 q925 qs13 q124 q926) rfl rfl rfl (by decide +kernel) hR) rfl hsize rfl hW hdg (hY.room hZ)) kk
end VZ

set_option maxHeartbeats 4000000 in
theorem mU5_line (l : Launch) (D : va_G) (ct : CT) (ad : Nat → Nat) (P : Nat → Nat → Option Nat) (S : US) (G0 : GS) (q0 : Nat) (o : Nat × GS) (ho : u5_line ct ad P S G0 q0 = some o) : vx_Met l yX5_line (ws_ yX5_line cX5_line 2 none) { frames := 107, cells := nmax ct - G0.2.1, slots := zmax ct - G0.2.2, locals := 2244 } (mP D clW ct [.ref q0] G0.2.1 (MW D clW ckH ct 26 ad P (fun _ => True) S 0 G0)) nQ (uX D ct ad P S G0 o) (nmax ct - G0.2.1) (zmax ct - G0.2.2) (mA 26 ad G0) := by
  refine U.start ho (by decide) (Nat.le_of_ble_eq_true rfl) (lv := [(0, .ref q0)]) rfl ?_
  intro p e s m args below meth c E hlk hxt hZ hU hS ls hl
  obtain ⟨⟨hx, hb, hml, hown, hts⟩, hK, hJ⟩ := id E
  unfold u5_line
  refine x_aload_n hx hb dX5_line_0 rfl (lv_at hl 0 rfl) ?_
  refine x_aload_n hx hb dX5_line_1 rfl (lv_at hl 0 rfl) ?_
  refine fx_getR E hU.1.1.2.1 (ci := 4) rfl in_X5 3 (by decide) (hts _ q792) (fun _ h => h) dX5_line_2 (fun r1 => ?_)
  refine kzX5_5_which E hZ hU hS ⟨Nat.le_of_ble_eq_true rfl, Nat.le_of_ble_eq_true rfl⟩ hl.1 (Nat.le_of_ble_eq_true rfl) dX5_line_5 (fun o2 H locs hU hS => ?_)
  refine x_istore_n (lv' := [(1, .int o2.1), (0, .ref q0)]) hx hb dX5_line_8 rfl hl (by decide) rfl (fun ls hl => ?_)
  refine x_iload_n hx hb dX5_line_9 rfl (lv_at hl 0 rfl) ?_
  refine x_iconst (v := -1) hx hb dX5_line_10 (by decide) ?_
  refine x_icmp_eq (tgt := 22) hx hb dX5_line_11 (by decide) (fun hc => ?_) (fun hc => ?_)
  · refine x_aload_n hx hb dX5_line_22 rfl (lv_at hl 1 rfl) ?_
    refine gx_ldcSW (tx := "stretch") (z := 54) E (List.mem_of_getElem? (i := 14) rfl) dX5_line_23 ?_
    refine kzX5_5_is E hZ hU hS ⟨Nat.le_of_ble_eq_true rfl, Nat.le_of_ble_eq_true rfl⟩ hl.1 (Nat.le_of_ble_eq_true rfl) dX5_line_26 (fun o3 H locs hU hS => ?_)
    refine x_if_eq (tgt := 39) hx hb dX5_line_29 (by decide) (fun hc => ?_) (fun hc => ?_)
    · refine x_aload_n hx hb dX5_line_39 rfl (lv_at hl 1 rfl) ?_
      refine x_aload_n hx hb dX5_line_40 rfl (lv_at hl 1 rfl) ?_
      refine gx_ldcSW (tx := "woman") (z := 55) E (List.mem_of_getElem? (i := 15) rfl) dX5_line_41 ?_
      refine kzX5_5_is E hZ hU hS ⟨Nat.le_of_ble_eq_true rfl, Nat.le_of_ble_eq_true rfl⟩ hl.1 (Nat.le_of_ble_eq_true rfl) dX5_line_44 (fun o4 H locs hU hS => ?_)
      refine x_iconst (v := 1) hx hb dX5_line_47 (by decide) ?_
      refine X.tB (uzX5_5_want E hZ hU hS hxt hlk ⟨by show 4 + 1 ≤ 107; omega, by show 8 + (3 + 11) + (129) ≤ 2244; omega⟩ hl.1 (Nat.le_of_ble_eq_true rfl) dX5_line_48) ?_
      refine kzX5_5_want E hZ hU hS ⟨by show 4 + 1 ≤ 107; omega, by show 8 + (3 + 11) + (129) ≤ 2244; omega⟩ hl.1 (Nat.le_of_ble_eq_true rfl) dX5_line_48 (fun o5 H locs hU hS => ?_)
      refine x_aload_n hx hb dX5_line_51 rfl (lv_at hl 1 rfl) ?_
      refine X.tB (uzX5_5_woman E hZ hU hS hxt hlk ⟨by show 7 + 1 ≤ 107; omega, by show 8 + (3 + 11) + (196) ≤ 2244; omega⟩ hl.1 (Nat.le_of_ble_eq_true rfl) dX5_line_52) ?_
      refine kzX5_5_woman E hZ hU hS ⟨by show 7 + 1 ≤ 107; omega, by show 8 + (3 + 11) + (196) ≤ 2244; omega⟩ hl.1 (Nat.le_of_ble_eq_true rfl) dX5_line_52 (fun o6 H locs hU hS => ?_)
      refine x_aload_n hx hb dX5_line_55 rfl (lv_at hl 1 rfl) ?_
      refine x_aload_n hx hb dX5_line_56 rfl (lv_at hl 1 rfl) ?_
      refine x_bipush (v := 59) hx hb dX5_line_57 (by decide) ?_
      refine kzX5_5_isSign E hZ hU hS ⟨Nat.le_of_ble_eq_true rfl, Nat.le_of_ble_eq_true rfl⟩ hl.1 (Nat.le_of_ble_eq_true rfl) dX5_line_59 (fun o7 H locs hU hS => ?_)
      refine x_iconst (v := 1) hx hb dX5_line_62 (by decide) ?_
      exact uzX5_5_want E hZ hU hS hxt hlk ⟨by show 4 + 1 ≤ 107; omega, by show 8 + (3 + 11) + (129) ≤ 2244; omega⟩ hl.1 (Nat.le_of_ble_eq_true rfl) dX5_line_63
    · refine x_aload_n hx hb dX5_line_32 rfl (lv_at hl 1 rfl) ?_
      refine X.tB (uzX5_5_stretch E hZ hU hS hxt hlk ⟨by show 7 + 1 ≤ 107; omega, by show 8 + (2 + 11) + (196) ≤ 2244; omega⟩ hl.1 (Nat.le_of_ble_eq_true rfl) dX5_line_33) ?_
      refine kzX5_5_stretch E hZ hU hS ⟨by show 7 + 1 ≤ 107; omega, by show 8 + (2 + 11) + (196) ≤ 2244; omega⟩ hl.1 (Nat.le_of_ble_eq_true rfl) dX5_line_33 (fun o8 H locs hU hS => ?_)
      refine x_goto (tgt := 55) hx hb dX5_line_36 (by decide) ?_
      refine x_aload_n hx hb dX5_line_55 rfl (lv_at hl 1 rfl) ?_
      refine x_aload_n hx hb dX5_line_56 rfl (lv_at hl 1 rfl) ?_
      refine x_bipush (v := 59) hx hb dX5_line_57 (by decide) ?_
      refine kzX5_5_isSign E hZ hU hS ⟨Nat.le_of_ble_eq_true rfl, Nat.le_of_ble_eq_true rfl⟩ hl.1 (Nat.le_of_ble_eq_true rfl) dX5_line_59 (fun o9 H locs hU hS => ?_)
      refine x_iconst (v := 1) hx hb dX5_line_62 (by decide) ?_
      exact uzX5_5_want E hZ hU hS hxt hlk ⟨by show 4 + 1 ≤ 107; omega, by show 8 + (3 + 11) + (129) ≤ 2244; omega⟩ hl.1 (Nat.le_of_ble_eq_true rfl) dX5_line_63
  · refine x_aload_n hx hb dX5_line_14 rfl (lv_at hl 1 rfl) ?_
    refine x_iload_n hx hb dX5_line_15 rfl (lv_at hl 0 rfl) ?_
    refine X.tB (uzX5_5_only E hZ hU hS hxt hlk ⟨by show 106 + 1 ≤ 107; omega, by show 8 + (3 + 11) + (2222) ≤ 2244; omega⟩ hl.1 (Nat.le_of_ble_eq_true rfl) dX5_line_16) ?_
    refine kzX5_5_only E hZ hU hS ⟨by show 106 + 1 ≤ 107; omega, by show 8 + (3 + 11) + (2222) ≤ 2244; omega⟩ hl.1 (Nat.le_of_ble_eq_true rfl) dX5_line_16 (fun o10 H locs hU hS => ?_)
    refine x_goto (tgt := 55) hx hb dX5_line_19 (by decide) ?_
    refine x_aload_n hx hb dX5_line_55 rfl (lv_at hl 1 rfl) ?_
    refine x_aload_n hx hb dX5_line_56 rfl (lv_at hl 1 rfl) ?_
    refine x_bipush (v := 59) hx hb dX5_line_57 (by decide) ?_
    refine kzX5_5_isSign E hZ hU hS ⟨Nat.le_of_ble_eq_true rfl, Nat.le_of_ble_eq_true rfl⟩ hl.1 (Nat.le_of_ble_eq_true rfl) dX5_line_59 (fun o11 H locs hU hS => ?_)
    refine x_iconst (v := 1) hx hb dX5_line_62 (by decide) ?_
    exact uzX5_5_want E hZ hU hS hxt hlk ⟨by show 4 + 1 ≤ 107; omega, by show 8 + (3 + 11) + (129) ≤ 2244; omega⟩ hl.1 (Nat.le_of_ble_eq_true rfl) dX5_line_63
section VZ
variable {ρ : Type} {p : Program} {l : Launch} {e : Env} {R : Room} {s : State} {m : MethodId} {args : Array Value} {below : List Frame} {meth : Method} {c : Code} {H : Heap} {locs : List Loc} {Qf : ρ → State → Prop}
variable {cc : ByteArray} {pc nL q0 n : Nat} {ls : Array Slot} {rest : List Value}
variable {D : va_G} {ct : CT} {ad : Nat → Nat} {P : Nat → Nat → Option Nat} {A : Nat → Prop} {S : US} {G0 G : GS} {rcE : GS → Nat → Int32 → Option (Option Nat × GS)} {rcU : GS → Nat → Int32 → Option (Nat × GS)}
theorem uzX5_5_line (E : ME p m c cc nL s args RX5 D clW ct) (hZ : YC ct R s (mA 26 ad G0) G0) (hY : YW D clW ckH ct 26 ad P (mA 26 ad G0) S 0 G0 G H) (hS : va_S (mA 26 ad G0) s.heap H locs) (hxt : ∀ x ∈ c.exceptionTable.toList, False) (hlk : meth.locks = false) (hR : 107 + 1 ≤ R.frames ∧ 8 + (2 + 11) + 2244 ≤ R.locals) (hsize : ls.size = nL) (hW : (rest.map fun v => v.category).sum ≤ 8) (hdg : decode cc pc = .ok (.invokevirtual 284, 3)) : X p l e R s m args below meth c H locs (G.2.1 - G0.2.1) (G.2.2 - G0.2.2) (uQ below args s D ct ad P S G0) (hC G.1 q0 4 (u5_line ct ad P S G q0)) (F0 m pc ls (.ref q0 :: rest)) := X.hC fun fs bw hq => uy_end hZ hY hS hxt hlk (fun o ho => rtV (As := []) E hY.1.any (recvA E.2.1 hY.1.1.2.1 hq rfl) (by rw [hY.1.2.1]; exact mU5_line l D ct ad P S G q0 o ho) (cwV 0 E.1.2.2.2.2 (lw_V q923 q925 qs13 q124 q926) rfl rfl rfl (by decide +kernel) hR) rfl hsize rfl hW hdg (hY.room hZ))
end VZ

set_option maxHeartbeats 4000000 in
theorem mY5_read (l : Launch) (D : va_G) (ct : CT) (ad : Nat → Nat) (P : Nat → Nat → Option Nat) (S : US) (G0 : GS) (q0 : Nat) (o : ((Option Nat) × GS)) (ho : s5_read ct ad P S G0 q0 = some o) : Met l yX5_read (ws_ yX5_read cX5_read 1 (some (.object "HorizonSeam$Ring"))) { frames := 108, cells := nmax ct - G0.2.1, slots := zmax ct - G0.2.2, locals := 2265 } (mP D clW ct [.ref q0] G0.2.1 (MW D clW ckH ct 26 ad P (fun _ => True) S 0 G0)) (yC (some (va_rf o.1)) (MW D clW ckH ct 26 ad P (mA 26 ad G0) S 0 o.2) G0 o.2 (mA 26 ad G0)) (nmax ct - G0.2.1) (zmax ct - G0.2.2) (mA 26 ad G0) := by
  refine Y.start (val := fun (o : ((Option Nat) × GS)) => some (va_rf o.1)) (Bt := fun (o : ((Option Nat) × GS)) => MW D clW ckH ct 26 ad P (mA 26 ad G0) S 0 o.2) (Go := fun (o : ((Option Nat) × GS)) => o.2) ho (by decide) (Nat.le_of_ble_eq_true rfl) (lv := [(0, .ref q0)]) rfl ?_
  intro p e s m args below meth c E hr hlk hnm hZ hU hS ls hl
  obtain ⟨⟨hx, hb, hml, hown, hts⟩, hK, hJ⟩ := id E
  replace hr : meth.sig.returnType = some (FieldType.object "HorizonSeam$Ring") ∧ ((∃ n, (FieldType.object "HorizonSeam$Ring") = .object n) ∨ ∃ t, (FieldType.object "HorizonSeam$Ring") = .array t) := ⟨hr, Or.inl ⟨_, rfl⟩⟩
  unfold s5_read
  refine x_aload_n hx hb dX5_read_0 rfl (lv_at hl 0 rfl) ?_
  refine kzX5_5_next E hZ hU hS ⟨Nat.le_of_ble_eq_true rfl, Nat.le_of_ble_eq_true rfl⟩ hl.1 (Nat.le_of_ble_eq_true rfl) dX5_read_1 (fun o1 H locs hU hS => ?_)
  refine X.loopY (I := fun (x : GS) g H locs => YW D clW ckH ct 26 ad P (mA 26 ad G0) S 0 G0 x H ∧ va_S (mA 26 ad G0) s.heap H locs ∧ ∃ ls : Array Slot, g = F0 m 4 ls [] ∧ lv_has ls 1 [(0, .ref q0)]) (cf := (fun (x : GS) => x.2.1 - G0.2.1)) (sf := (fun (x : GS) => x.2.2 - G0.2.2)) (fun rc3 ih3 => ?_) FUEL o1 _ _ _ ⟨hU, hS, _, rfl, lv_sub hl [0] rfl⟩
  rintro G2 _ H locs ⟨hU, hS, ls, rfl, hl⟩
  refine X.cs (cells2 := G2.2.1 - G0.2.1) (slots2 := G2.2.2 - G0.2.2) rfl rfl ?_
  refine X.eqs (sp2 := s5_read_L4 q0 S P ad ct rc3 G2) rfl ?_
  unfold s5_read_L4
  refine x_aload_n hx hb dX5_read_4 rfl (lv_at hl 0 rfl) ?_
  refine fx_getI E hU.1.1.2.1 (ci := 4) rfl in_X5 6 (by decide) (hts _ q795) (fun _ h => h) dX5_read_5 (fun v4 => ?_)
  refine x_if_eq (tgt := 18) hx hb dX5_read_8 (by decide) (fun hc => ?_) (fun hc => ?_)
  · refine x_aload_n hx hb dX5_read_18 rfl (lv_at hl 0 rfl) ?_
    refine fx_getR E hU.1.1.2.1 (ci := 4) rfl in_X5 1 (by decide) (hts _ q789) (fun _ h => h) dX5_read_19 (fun r5 => ?_)
    refine x_iconst (v := 3) hx hb dX5_read_22 (by decide) ?_
    refine x_aload_n hx hb dX5_read_23 rfl (lv_at hl 0 rfl) ?_
    refine fx_getI E hU.1.1.2.1 (ci := 4) rfl in_X5 11 (by decide) (hts _ q801) (fun _ h => h) dX5_read_24 (fun v6 => ?_)
    refine kX5_max E ⟨Nat.le_of_ble_eq_true rfl, Nat.le_of_ble_eq_true rfl⟩ hl.1 (by rcases r5 with _ | _ <;> exact Nat.le_of_ble_eq_true rfl) dX5_read_27 (hU.room0 hZ) ?_
    refine X.onR (fun b7 hb_ => ?_)
    subst hb_
    refine gy_putN (v := .int (if (3 : Int32) < v6 then v6 else (3 : Int32))) (ty0 := tyX2) E hU hS (ci := 2) rfl in_X2 tyX2_ok nmX2 2 (by decide) (hJ.at q200 rfl) (fun _ h => h) rfl rfl rfl dX5_read_30 (fun G8 H locs hU hS => ?_)
    refine x_aload_n hx hb dX5_read_33 rfl (lv_at hl 0 rfl) ?_
    refine fx_getR E hU.1.1.2.1 (ci := 4) rfl in_X5 1 (by decide) (hts _ q789) (fun _ h => h) dX5_read_34 (fun r9 => ?_)
    exact y_aret (r := r9) hx hb hr hlk hZ hU hS rfl rfl hU.1 dX5_read_37
  · refine x_aload_n hx hb dX5_read_11 rfl (lv_at hl 0 rfl) ?_
    refine kzX5_5_line E hZ hU hS ⟨by show 107 + 1 ≤ 108; omega, by show 8 + (2 + 11) + (2244) ≤ 2265; omega⟩ hl.1 (Nat.le_of_ble_eq_true rfl) dX5_read_12 (fun o10 H locs hU hS => ?_)
    refine x_goto (tgt := 4) hx hb dX5_read_15 (by decide) ?_
    exact ih3 o10 _ _ _ ⟨hU, hS, _, rfl, lv_sub hl [0] rfl⟩
section VZ
variable {ρ : Type} {p : Program} {l : Launch} {e : Env} {R : Room} {s : State} {m : MethodId} {args : Array Value} {below : List Frame} {meth : Method} {c : Code} {H : Heap} {locs : List Loc} {Qf : ρ → State → Prop}
variable {cc : ByteArray} {pc nL q0 n : Nat} {ls : Array Slot} {rest : List Value}
variable {D : va_G} {ct : CT} {ad : Nat → Nat} {P : Nat → Nat → Option Nat} {A : Nat → Prop} {S : US} {G0 G : GS} {rcE : GS → Nat → Int32 → Option (Option Nat × GS)} {rcU : GS → Nat → Int32 → Option (Nat × GS)}
theorem kzX1_5_read (E : ME p m c cc nL s args RX1 D clW ct) (hZ : YC ct R s A G0) (hY : YW D clW ckH ct 26 ad P A S 0 G0 G H) (hS : va_S A s.heap H locs) (hR : 108 + 1 ≤ R.frames ∧ 8 + (1 + 11) + 2265 ≤ R.locals) (hsize : ls.size = nL) (hW : (rest.map fun v => v.category).sum ≤ 8) (hdg : decode cc pc = .ok (.invokevirtual 83, 3)) {kp : ((Option Nat) × GS) → Option ρ} (kk : ∀ (o : ((Option Nat) × GS)) (H1 : Heap) (locs1 : List Loc), YW D clW ckH ct 26 ad P A S 0 G0 o.2 H1 → va_S A s.heap H1 locs1 → X p l e R s m args below meth c H1 locs1 (o.2.2.1 - G0.2.1) (o.2.2.2 - G0.2.2) Qf (kp o) (F0 m (pc + 3) ls (va_rf o.1 :: rest))) : X p l e R s m args below meth c H locs (G.2.1 - G0.2.1) (G.2.2 - G0.2.2) Qf (hC G.1 q0 4 (callK (s5_read ct ad P S G q0) kp)) (F0 m pc ls (.ref q0 :: rest)) := X.hC fun fs bw hq => gy_mx (val' := fun (o : ((Option Nat) × GS)) => some (va_rf o.1)) (len := 3) (So := fun (o : ((Option Nat) × GS)) => S) (Po := fun (o : ((Option Nat) × GS)) => P) (Gn := fun (o : ((Option Nat) × GS)) => o.2) hZ hY hS (fun o ho => rqV (As := []) E hY.1.any (recvA E.2.1 hY.1.1.2.1 hq rfl) (by rw [hY.1.2.1]; exact mY5_read l D ct ad P S G q0 o ho) (cwV 0 E.1.2.2.2.2 (lw_V q830 q831 q832 q124 q833) rfl rfl rfl (by decide +kernel) hR) rfl hsize rfl hW hdg (hY.room hZ)) kk
end VZ

set_option maxHeartbeats 4000000 in
theorem mU5_read (l : Launch) (D : va_G) (ct : CT) (ad : Nat → Nat) (P : Nat → Nat → Option Nat) (S : US) (G0 : GS) (q0 : Nat) (o : Nat × GS) (ho : u5_read ct ad P S G0 q0 = some o) : vx_Met l yX5_read (ws_ yX5_read cX5_read 1 (some (.object "HorizonSeam$Ring"))) { frames := 108, cells := nmax ct - G0.2.1, slots := zmax ct - G0.2.2, locals := 2265 } (mP D clW ct [.ref q0] G0.2.1 (MW D clW ckH ct 26 ad P (fun _ => True) S 0 G0)) nQ (uX D ct ad P S G0 o) (nmax ct - G0.2.1) (zmax ct - G0.2.2) (mA 26 ad G0) := by
  refine U.start ho (by decide) (Nat.le_of_ble_eq_true rfl) (lv := [(0, .ref q0)]) rfl ?_
  intro p e s m args below meth c E hlk hxt hZ hU hS ls hl
  obtain ⟨⟨hx, hb, hml, hown, hts⟩, hK, hJ⟩ := id E
  unfold u5_read
  refine x_aload_n hx hb dX5_read_0 rfl (lv_at hl 0 rfl) ?_
  refine kzX5_5_next E hZ hU hS ⟨Nat.le_of_ble_eq_true rfl, Nat.le_of_ble_eq_true rfl⟩ hl.1 (Nat.le_of_ble_eq_true rfl) dX5_read_1 (fun o1 H locs hU hS => ?_)
  refine X.loopY (I := fun (x : GS) g H locs => YW D clW ckH ct 26 ad P (mA 26 ad G0) S 0 G0 x H ∧ va_S (mA 26 ad G0) s.heap H locs ∧ ∃ ls : Array Slot, g = F0 m 4 ls [] ∧ lv_has ls 1 [(0, .ref q0)]) (cf := (fun (x : GS) => x.2.1 - G0.2.1)) (sf := (fun (x : GS) => x.2.2 - G0.2.2)) (fun rc3 ih3 => ?_) FUEL o1 _ _ _ ⟨hU, hS, _, rfl, lv_sub hl [0] rfl⟩
  rintro G2 _ H locs ⟨hU, hS, ls, rfl, hl⟩
  refine X.cs (cells2 := G2.2.1 - G0.2.1) (slots2 := G2.2.2 - G0.2.2) rfl rfl ?_
  refine X.eqs (sp2 := u5_read_L4 q0 S P ad ct rc3 G2) rfl ?_
  unfold u5_read_L4
  refine x_aload_n hx hb dX5_read_4 rfl (lv_at hl 0 rfl) ?_
  refine fx_getI E hU.1.1.2.1 (ci := 4) rfl in_X5 6 (by decide) (hts _ q795) (fun _ h => h) dX5_read_5 (fun v4 => ?_)
  refine x_if_eq (tgt := 18) hx hb dX5_read_8 (by decide) (fun hc => ?_) (fun hc => ?_)
  · exact X.none
  · refine x_aload_n hx hb dX5_read_11 rfl (lv_at hl 0 rfl) ?_
    refine X.tB (uzX5_5_line E hZ hU hS hxt hlk ⟨by show 107 + 1 ≤ 108; omega, by show 8 + (2 + 11) + (2244) ≤ 2265; omega⟩ hl.1 (Nat.le_of_ble_eq_true rfl) dX5_read_12) ?_
    refine kzX5_5_line E hZ hU hS ⟨by show 107 + 1 ≤ 108; omega, by show 8 + (2 + 11) + (2244) ≤ 2265; omega⟩ hl.1 (Nat.le_of_ble_eq_true rfl) dX5_read_12 (fun o5 H locs hU hS => ?_)
    refine x_goto (tgt := 4) hx hb dX5_read_15 (by decide) ?_
    exact ih3 o5 _ _ _ ⟨hU, hS, _, rfl, lv_sub hl [0] rfl⟩
section VZ
variable {ρ : Type} {p : Program} {l : Launch} {e : Env} {R : Room} {s : State} {m : MethodId} {args : Array Value} {below : List Frame} {meth : Method} {c : Code} {H : Heap} {locs : List Loc} {Qf : ρ → State → Prop}
variable {cc : ByteArray} {pc nL q0 n : Nat} {ls : Array Slot} {rest : List Value}
variable {D : va_G} {ct : CT} {ad : Nat → Nat} {P : Nat → Nat → Option Nat} {A : Nat → Prop} {S : US} {G0 G : GS} {rcE : GS → Nat → Int32 → Option (Option Nat × GS)} {rcU : GS → Nat → Int32 → Option (Nat × GS)}
theorem uzX1_5_read (E : ME p m c cc nL s args RX1 D clW ct) (hZ : YC ct R s (mA 26 ad G0) G0) (hY : YW D clW ckH ct 26 ad P (mA 26 ad G0) S 0 G0 G H) (hS : va_S (mA 26 ad G0) s.heap H locs) (hxt : ∀ x ∈ c.exceptionTable.toList, False) (hlk : meth.locks = false) (hR : 108 + 1 ≤ R.frames ∧ 8 + (1 + 11) + 2265 ≤ R.locals) (hsize : ls.size = nL) (hW : (rest.map fun v => v.category).sum ≤ 8) (hdg : decode cc pc = .ok (.invokevirtual 83, 3)) : X p l e R s m args below meth c H locs (G.2.1 - G0.2.1) (G.2.2 - G0.2.2) (uQ below args s D ct ad P S G0) (hC G.1 q0 4 (u5_read ct ad P S G q0)) (F0 m pc ls (.ref q0 :: rest)) := X.hC fun fs bw hq => uy_end hZ hY hS hxt hlk (fun o ho => rtV (As := []) E hY.1.any (recvA E.2.1 hY.1.1.2.1 hq rfl) (by rw [hY.1.2.1]; exact mU5_read l D ct ad P S G q0 o ho) (cwV 0 E.1.2.2.2.2 (lw_V q830 q831 q832 q124 q833) rfl rfl rfl (by decide +kernel) hR) rfl hsize rfl hW hdg (hY.room hZ))
end VZ
