set_option maxRecDepth 100000
def sL_law (ct : CT) (L : Nat) (xs : Nat → Int32) (G0 : GS) : Option Unit :=
  newB ct G0 15 (.inr (1, [.null, .null, .null, .null, .null, .null, .int 0, .int 0, .null, .null, .null, .null, .null, .null, .int 0])) (fun q1 G1 => callK (s1_init ct G1 q1) (fun G2 => newB ct G2 63 (.inr (0, [.int 0, .int 0, .int 0, .int 0, .int 0, .int 0, .int 0, .null, .null, .null, .null, .null, .int 0, .int 0, .int 0, .null, .int 0, .int 0, .int 0, .int 0, .int 0, .int 0, .int 0, .long 0, .int 0, .int 0, .int 0, .int 0, .int 0, .int 0, .int 0, .int 0, .int 0, .null, .null, .null, .null, .null, .null, .null, .null, .null, .int 0, .null, .null, .null, .null, .null, .null, .null, .null, .int 0, .null, .null, .null, .int 0, .null, .int 0, .int 0, .int 0, .null, .null, .null])) (fun q2 G3 => callK (s0_init ct G3 q2) (fun G4 => if (1 : Int32) < 0 ∨ 67108864 < (1 : Int32).toNatClampNeg then none else newB ct G4 (1 : Int32).toNatClampNeg (.inl (3, (1 : Int32).toNatClampNeg, .inr (.inl (fun _ => 0)))) (fun q3 G5 => prom G5 q1 q2 (fun S G P ad S2 ad2 => sL_loop ct L xs q1 q3 S G P ad S2 0))))))
section KP
variable {ρ : Type} {p : Program} {l : Launch} {e : Env} {R : Room} {s : State} {m : MethodId} {args : Array Value} {below : List Frame} {meth : Method} {c : Code} {H : Heap} {locs : List Loc} {Qf : ρ → State → Prop}
variable {cc : ByteArray} {pc nL L M q0 : Nat} {ls : Array Slot} {rest : List Value}
variable {D : va_G} {ct : CT} {ck : Nat → UC} {N : Nat} {ad : Nat → Nat} {P : Nat → Nat → Option Nat} {A : Nat → Prop} {S : US} {w : Int64} {G0 G : GS}
theorem kzX0_1_init (E : ME p m c cc nL s args RX0 D clW ct) (hZ : YC ct R s A G0) (hY : YW D clW ck ct N ad P A S w G0 G H) (hS : va_S A s.heap H locs) (hR : 5 + 1 ≤ R.frames ∧ 8 + (1 + 11) + 140 ≤ R.locals) (hsize : ls.size = nL) (hW : (rest.map fun v => v.category).sum ≤ 8) (hdg : decode cc pc = .ok (.invokespecial 112, 3)) {kp : GS → Option ρ} (kk : ∀ (o : GS) (H1 : Heap) (locs1 : List Loc), YW D clW ck ct N ad P A S w G0 o H1 → va_S A s.heap H1 locs1 → X p l e R s m args below meth c H1 locs1 (o.2.1 - G0.2.1) (o.2.2 - G0.2.2) Qf (kp o) (F0 m (pc + 3) ls (rest))) : X p l e R s m args below meth c H locs (G.2.1 - G0.2.1) (G.2.2 - G0.2.2) Qf (callK (s1_init ct G q0) kp) (F0 m pc ls (.ref q0 :: rest)) := gy_mx (val' := fun (o : GS) => none) (len := 3) (So := fun (o : GS) => S) (Po := fun (o : GS) => P) (Gn := fun (o : GS) => o) hZ hY hS (fun o ho => rqI (As := []) E hY.1.any (by rw [hY.1.2.1]; exact mY1_init l D ct ck N ad P S w G q0 o ho) ⟨callB_of 0 E.1.2.2.2.2 (lw_meth q153) rfl rfl rfl (E.1.2.2.2.2 _ q113) (E.1.2.2.2.2 _ q151) (by decide +kernel) hR, rfl, E.1.2.2.2.2 _ q152⟩ rfl hsize rfl hW hdg (hY.room hZ)) kk
theorem kzX0_0_init (E : ME p m c cc nL s args RX0 D clW ct) (hZ : YC ct R s A G0) (hY : YW D clW ck ct N ad P A S w G0 G H) (hS : va_S A s.heap H locs) (hR : 1 + 1 ≤ R.frames ∧ 8 + (2 + 11) + 60 ≤ R.locals) (hsize : ls.size = nL) (hW : (rest.map fun v => v.category).sum ≤ 8) (hdg : decode cc pc = .ok (.invokespecial 115, 3)) {kp : GS → Option ρ} (kk : ∀ (o : GS) (H1 : Heap) (locs1 : List Loc), YW D clW ck ct N ad P A S w G0 o H1 → va_S A s.heap H1 locs1 → X p l e R s m args below meth c H1 locs1 (o.2.1 - G0.2.1) (o.2.2 - G0.2.2) Qf (kp o) (F0 m (pc + 3) ls (rest))) : X p l e R s m args below meth c H locs (G.2.1 - G0.2.1) (G.2.2 - G0.2.2) Qf (callK (s0_init ct G q0) kp) (F0 m pc ls (.ref q0 :: rest)) := gy_mx (val' := fun (o : GS) => none) (len := 3) (So := fun (o : GS) => S) (Po := fun (o : GS) => P) (Gn := fun (o : GS) => o) hZ hY hS (fun o ho => rqI (As := []) E hY.1.any (by rw [hY.1.2.1]; exact mY0_init l D ct ck N ad P S w G q0 o ho) ⟨callB_of 0 E.1.2.2.2.2 (lw_meth q1841) rfl rfl rfl (E.1.2.2.2.2 _ q119) (E.1.2.2.2.2 _ q1839) (by decide +kernel) hR, rfl, E.1.2.2.2.2 _ q1840⟩ rfl hsize rfl hW hdg (hY.room hZ)) kk
end KP
theorem X.promR {ρ : Type} {p : Program} {l : Launch} {e : Env} {R : Room} {s : State} {m : MethodId} {args : Array Value} {below : List Frame} {meth : Method} {c : Code} {H : Heap} {locs : List Loc} {cells slots : Nat} {Qf : ρ → State → Prop} {g : JFrame} {D : va_G} {ck : Nat → UC} {ct : CT} {ad : Nat → Nat} {P : Nat → Nat → Option Nat} {A : Nat → Prop} {S : US} {w : Int64} {G0 G : GS} {a b : Nat} {kp : US → GS → (Nat → Nat → Option Nat) → (Nat → Nat) → US → (Nat → Nat) → Option ρ} (hY : YW D clW ck ct 0 ad P A S w G0 G H)
    (kk : ∀ (S' : US) (G' : GS) (P' : Nat → Nat → Option Nat) (ad' : Nat → Nat) (S2 : US) (ad2 : Nat → Nat), LW D ct ad2 ad' P' A S' G0 G' S2 0 H → ad' 0 = a → ad2 0 = b → G'.2 = G.2 → X p l e R s m args below meth c H locs cells slots Qf (kp S' G' P' ad' S2 ad2) g) : X p l e R s m args below meth c H locs cells slots Qf (prom G a b kp) g := fun o ho => by
  unfold prom at ho
  split at ho
  · rename_i h
    exact kk _ _ _ _ _ _ (prom_world hY h) rfl rfl rfl o ho
  · cases ho
set_option maxHeartbeats 4000000 in
theorem law_all {p : Program} {e : Env} {s : State} {m : MethodId} {below : List Frame} {meth : Method} {c : Code} {l : Launch} (hst : l.stackTraces = false) {D : va_G} {ck : Nat → UC} {ct : CT} {b L : Nat} {xs : Nat → Int32} {G0 : GS} (E : ME p m c cL_law 7 s #[Value.ref b] RX0 D clW ct) (hr : meth.sig.returnType = ret) (hlk : meth.locks = false) (hX : va_X b L xs s s.heap) (hbl : b < s.heap.size) (hA : s.heap.size = G0.2.1) (hZ : YC ct room_1 s (nA s.heap.size) G0)
    {ad : Nat → Nat} {P : Nat → Nat → Option Nat} {S : US} {w : Int64} {H : Heap} {locs : List Loc} {ls : Array Slot} (hU : YW D clW ck ct 0 ad P (nA s.heap.size) S w G0 G0 H) (hS : va_S (nA s.heap.size) s.heap H locs) (hl : lv_has ls 7 [(0, .ref b)]) :
    X p l e room_1 s m #[Value.ref b] below meth c H locs (G0.2.1 - G0.2.1) (G0.2.2 - G0.2.2) (fun (_ : Unit) => lw_Z below #[Value.ref b] s) (sL_law ct L xs G0) (F0 m 0 ls []) := by
  obtain ⟨⟨hx, hb, hml, hown, hts⟩, hK, hJ⟩ := id E
  unfold sL_law
  refine gy_new (ty := tyX1) E hZ hU hS in_X1 tyX1_ok (hts _ q149) (hts _ q150) (hts _ q113) (ci := 1) rfl (by decide +kernel) dL_law_0 (fun q1 G1 H hU hS => ?_)
  refine x_dup hx hb dL_law_3 rfl ?_
  refine kzX0_1_init (rest := [.ref q1]) E hZ hU hS ⟨Nat.le_of_ble_eq_true rfl, Nat.le_of_ble_eq_true rfl⟩ hl.1 (Nat.le_of_ble_eq_true rfl) dL_law_4 (fun G2 H locs hU hS => ?_)
  refine x_astore_n (lv' := [(1, .ref q1), (0, .ref b)]) hx hb dL_law_7 rfl hl (by decide) rfl (fun ls hl => ?_)
  refine gy_new (ty := tyX4) E hZ hU hS in_X4 tyX4_ok (hts _ q1837) (hts _ q1838) (hts _ q119) (ci := 0) rfl (by decide +kernel) dL_law_8 (fun q2 G3 H hU hS => ?_)
  refine x_dup hx hb dL_law_11 rfl ?_
  refine kzX0_0_init (rest := [.ref q2]) E hZ hU hS ⟨Nat.le_of_ble_eq_true rfl, Nat.le_of_ble_eq_true rfl⟩ hl.1 (Nat.le_of_ble_eq_true rfl) dL_law_12 (fun G4 H locs hU hS => ?_)
  refine x_astore_n (lv' := [(2, .ref q2), (1, .ref q1), (0, .ref b)]) hx hb dL_law_15 rfl hl (by decide) rfl (fun ls hl => ?_)
  refine x_iconst (v := 1) hx hb dL_law_16 (by decide) ?_
  refine gy_newa (atype := .long) (t := 3) (ty := .long) (x := .inr (.inl (fun _ => 0))) E hZ hU hS (hts _ q2499) rfl rfl (fun h => h) (fun _ => rfl) (by decide) dL_law_17 (fun q3 G5 H hU hS => ?_)
  refine x_astore_n (lv' := [(3, .ref q3), (2, .ref q2), (1, .ref q1), (0, .ref b)]) hx hb dL_law_19 rfl hl (by decide) rfl (fun ls hl => ?_)
  refine x_iconst (v := 0) hx hb dL_law_20 (by decide) ?_
  refine x_istore (lv' := [(4, .int 0), (3, .ref q3), (2, .ref q2), (1, .ref q1), (0, .ref b)]) hx hb dL_law_21 hl (by decide) rfl (fun ls hl => ?_)
  refine X.promR hU (fun S G P ad S2 ad2 hL h0 h2 hG => ?_)
  rw [← hG]
  exact law_loop hst E hr hlk hX hbl hA hZ ⟨hL, h0⟩ hS (by rw [h2]; exact lv_sub hl [4, 3, 2, 1, 0] rfl)
