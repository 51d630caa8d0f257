set_option maxRecDepth 100000
section HF
variable {ρ ρ' : Type} {p : Program} {l : Launch} {e : Env} {R : Room} {s : State} {m : MethodId} {args : Array Value} {below : List Frame} {meth : Method} {c : Code} {H : Heap} {locs : List Loc} {cells slots : Nat} {Qf : ρ → State → Prop} {sp : Option ρ}
variable {cc : ByteArray} {pc nL L : Nat} {ls : Array Slot} {rest : List Value}
variable {D : va_G} {ct : CT} {ad : Nat → Nat} {P : Nat → Nat → Option Nat} {A A0 : Nat → Prop} {S : US} {h : AH} {H0 : Heap}

end HF

set_option maxHeartbeats 4000000 in
theorem mYN_getChars (l : Launch) (D : va_G) (ct : CT) (ck : Nat → UC) (N : Nat) (ad : Nat → Nat) (P : Nat → Nat → Option Nat) (S : US) (w : Int64) (G0 : GS) (p1 : Int32) (p2 : Int32) (p3 : (Option Nat)) (o : (Int32 × GS)) (ho : sN_getChars ct G0 p1 p2 p3 = some o) : Met l yJ18_getChars (ws_ yJ18_getChars cJ18_getChars 7 (some .int)) { frames := 1, cells := nmax ct - G0.2.1, slots := zmax ct - G0.2.2, locals := 60 } (mP D clW ct [.int p1, .int p2, va_rf p3] G0.2.1 (MW D clW ck ct N ad P (fun _ => True) S w G0)) (yC (some (.int o.1)) (MW D clW ck ct N ad P (mA N ad G0) S w o.2) G0 o.2 (mA N ad G0)) (nmax ct - G0.2.1) (zmax ct - G0.2.2) (mA N ad G0) := by
  refine Y.start (val := fun (o : (Int32 × GS)) => some (.int o.1)) (Bt := fun (o : (Int32 × GS)) => MW D clW ck ct N ad P (mA N ad G0) S w o.2) (Go := fun (o : (Int32 × GS)) => o.2) ho (by decide) (by rcases p3 with _ | _ <;> exact Nat.le_of_ble_eq_true rfl) (lv := [(0, .int p1), (1, .int p2), (2, va_rf p3)]) (by rcases p3 with _ | _ <;> rfl) ?_
  intro p e s m args below meth c E hr hlk hnm hZ hU hS ls hl
  obtain ⟨⟨hx, hb, hml, hown, hts⟩, hK, hJ⟩ := id E
  unfold sN_getChars
  refine x_iload_n hx hb dJ18_getChars_0 rfl (lv_at hl 1 rfl) ?_
  refine x_istore (lv' := [(5, .int p2), (0, .int p1), (1, .int p2), (2, va_rf p3)]) hx hb dJ18_getChars_1 hl (by decide) rfl (fun ls hl => ?_)
  refine x_iload_n hx hb dJ18_getChars_3 rfl (lv_at hl 1 rfl) ?_
  refine X.join2Y (fun (x : Int32) g H locs => YW D clW ck ct N ad P (mA N ad G0) S w G0 G0 H ∧ va_S (mA N ad G0) s.heap H locs ∧ ∃ ls : Array Slot, g = F0 m 12 ls [.int x] ∧ lv_has ls 7 [(0, .int p1), (2, va_rf p3), (5, .int p2)]) (fun (x : Int32) => G0.2.1 - G0.2.1) (fun (x : Int32) => G0.2.2 - G0.2.2) ?_ (fun j2 hj2 => ?_)
  · rintro y1 _ H locs ⟨hU, hS, ls, rfl, hl⟩
    refine X.cs (cells2 := G0.2.1 - G0.2.1) (slots2 := G0.2.2 - G0.2.2) rfl rfl ?_
    refine X.eqs (sp2 := sN_getChars_J12 p1 p2 p3 G0 ct y1) rfl ?_
    unfold sN_getChars_J12
    refine x_istore (lv' := [(6, .int y1), (0, .int p1), (2, va_rf p3), (5, .int p2)]) hx hb dJ18_getChars_12 hl (by decide) rfl (fun ls hl => ?_)
    refine x_iload hx hb dJ18_getChars_14 (lv_at hl 0 rfl) ?_
    refine X.join2Y (fun (x : Int32) g H locs => YW D clW ck ct N ad P (mA N ad G0) S w G0 G0 H ∧ va_S (mA N ad G0) s.heap H locs ∧ ∃ ls : Array Slot, g = F0 m 22 ls [] ∧ lv_has ls 7 [(0, .int x), (2, va_rf p3), (5, .int p2), (6, .int y1)]) (fun (x : Int32) => G0.2.1 - G0.2.1) (fun (x : Int32) => G0.2.2 - G0.2.2) ?_ (fun j4 hj4 => ?_)
    · rintro v3 _ H locs ⟨hU, hS, ls, rfl, hl⟩
      refine X.cs (cells2 := G0.2.1 - G0.2.1) (slots2 := G0.2.2 - G0.2.2) rfl rfl ?_
      refine X.eqs (sp2 := sN_getChars_J22 p2 p3 G0 ct y1 v3) rfl ?_
      unfold sN_getChars_J22
      refine X.loopY (I := fun (x : (GS × Int32 × Int32)) g H locs => YW D clW ck ct N ad P (mA N ad G0) S w G0 x.1 H ∧ va_S (mA N ad G0) s.heap H locs ∧ ∃ ls : Array Slot, g = F0 m 22 ls [] ∧ lv_has ls 7 [(0, .int x.2.1), (2, va_rf p3), (5, .int x.2.2), (6, .int y1)]) (cf := (fun (x : (GS × Int32 × Int32)) => x.1.2.1 - G0.2.1)) (sf := (fun (x : (GS × Int32 × Int32)) => x.1.2.2 - G0.2.2)) (fun rc8 ih8 => ?_) FUEL (G0, v3, p2) _ _ _ ⟨hU, hS, _, rfl, lv_sub hl [0, 1, 2, 3] rfl⟩
      rintro ⟨G5, v6, v7⟩ _ H locs ⟨hU, hS, ls, rfl, hl⟩
      have hU : YW D clW ck ct N ad P (mA N ad G0) S w G0 G5 H := hU
      have hl : lv_has ls 7 [(0, .int v6), (2, va_rf p3), (5, .int v7), (6, .int y1)] := hl
      refine X.cs (cells2 := G5.2.1 - G0.2.1) (slots2 := G5.2.2 - G0.2.2) rfl rfl ?_
      refine X.eqs (sp2 := sN_getChars_L22 p3 ct y1 rc8 G5 v6 v7) rfl ?_
      unfold sN_getChars_L22
      refine x_iload_n hx hb dJ18_getChars_22 rfl (lv_at hl 0 rfl) ?_
      refine x_bipush (v := -100) hx hb dJ18_getChars_23 (by decide) ?_
      refine x_icmp_gt (tgt := 72) hx hb dJ18_getChars_25 (by decide) (fun hc => ?_) (fun hc => ?_)
      · refine x_aload_nO hx hb dJ18_getChars_72 rfl (lv_at hl 1 rfl) ?_
        refine x_iinc (v := (v7 + (-1 : Int32))) (lv' := [(5, .int (v7 + (-1 : Int32))), (0, .int v6), (2, va_rf p3), (6, .int y1)]) (k := 2) hx hb dJ18_getChars_73 hl rfl rfl (by decide) rfl (fun ls hl => ?_)
        refine x_iload hx hb dJ18_getChars_76 (lv_at hl 0 rfl) ?_
        refine gx_gets E hU.1.1 (List.mem_of_getElem? (i := 6) rfl) (hts _ q1141) (fun _ h => h) dJ18_getChars_78 ?_
        refine x_iload_n hx hb dJ18_getChars_81 rfl (lv_at hl 1 rfl) ?_
        refine x_ineg hx hb dJ18_getChars_82 ?_
        refine fx_baload E hU.1.1.2.1 dJ18_getChars_83 (fun v9 => ?_)
        refine X.onR (fun b10 hb_ => ?_)
        subst hb_
        refine gy_bast E hU hS dJ18_getChars_84 (fun G11 H locs hU hS => ?_)
        refine x_iload_n hx hb dJ18_getChars_85 rfl (lv_at hl 1 rfl) ?_
        refine x_bipush (v := -9) hx hb dJ18_getChars_86 (by decide) ?_
        refine X.join2Y (fun (x : (GS × Int32)) g H locs => YW D clW ck ct N ad P (mA N ad G0) S w G0 x.1 H ∧ va_S (mA N ad G0) s.heap H locs ∧ ∃ ls : Array Slot, g = F0 m 104 ls [] ∧ lv_has ls 7 [(2, .ref b10), (5, .int x.2), (6, .int y1)]) (fun (x : (GS × Int32)) => x.1.2.1 - G0.2.1) (fun (x : (GS × Int32)) => x.1.2.2 - G0.2.2) ?_ (fun j14 hj14 => ?_)
        · rintro ⟨G12, v13⟩ _ H locs ⟨hU, hS, ls, rfl, hl⟩
          have hU : YW D clW ck ct N ad P (mA N ad G0) S w G0 G12 H := hU
          have hl : lv_has ls 7 [(2, .ref b10), (5, .int v13), (6, .int y1)] := hl
          refine X.cs (cells2 := G12.2.1 - G0.2.1) (slots2 := G12.2.2 - G0.2.2) rfl rfl ?_
          refine X.eqs (sp2 := sN_getChars_J104 y1 b10 G12 v13) rfl ?_
          unfold sN_getChars_J104
          refine x_iload hx hb dJ18_getChars_104 (lv_at hl 2 rfl) ?_
          refine x_if_eq (tgt := 118) hx hb dJ18_getChars_106 (by decide) (fun hc => ?_) (fun hc => ?_)
          · refine x_iload hx hb dJ18_getChars_118 (lv_at hl 1 rfl) ?_
            exact y_iret hx hb hr hlk hZ hU hS rfl rfl hU.1 dJ18_getChars_120
          · refine x_aload_n hx hb dJ18_getChars_109 rfl (lv_at hl 0 rfl) ?_
            refine x_iinc (v := (v13 + (-1 : Int32))) (lv' := [(5, .int (v13 + (-1 : Int32))), (2, .ref b10), (6, .int y1)]) (k := 1) hx hb dJ18_getChars_110 hl rfl rfl (by decide) rfl (fun ls hl => ?_)
            refine x_iload hx hb dJ18_getChars_113 (lv_at hl 0 rfl) ?_
            refine x_bipush (v := 45) hx hb dJ18_getChars_115 (by decide) ?_
            refine gy_bast E hU hS dJ18_getChars_117 (fun G17 H locs hU hS => ?_)
            refine x_iload hx hb dJ18_getChars_118 (lv_at hl 0 rfl) ?_
            exact y_iret hx hb hr hlk hZ hU hS rfl rfl hU.1 dJ18_getChars_120
        · refine x_icmp_ge (tgt := 104) hx hb dJ18_getChars_88 (by decide) (fun hc => ?_) (fun hc => ?_)
          · exact hj14 (G11, (v7 + (-1 : Int32))) _ _ _ ⟨hU, hS, _, rfl, lv_sub hl [2, 0, 3] rfl⟩
          · refine x_aload_n hx hb dJ18_getChars_91 rfl (lv_at hl 2 rfl) ?_
            refine x_iinc (v := ((v7 + (-1 : Int32)) + (-1 : Int32))) (lv' := [(5, .int ((v7 + (-1 : Int32)) + (-1 : Int32))), (0, .int v6), (2, .ref b10), (6, .int y1)]) (k := 0) hx hb dJ18_getChars_92 hl rfl rfl (by decide) rfl (fun ls hl => ?_)
            refine x_iload hx hb dJ18_getChars_95 (lv_at hl 0 rfl) ?_
            refine gx_gets E hU.1.1 (List.mem_of_getElem? (i := 5) rfl) (hts _ q1143) (fun _ h => h) dJ18_getChars_97 ?_
            refine x_iload_n hx hb dJ18_getChars_100 rfl (lv_at hl 1 rfl) ?_
            refine x_ineg hx hb dJ18_getChars_101 ?_
            refine fx_baload E hU.1.1.2.1 dJ18_getChars_102 (fun v15 => ?_)
            refine gy_bast E hU hS dJ18_getChars_103 (fun G16 H locs hU hS => ?_)
            exact hj14 (G16, ((v7 + (-1 : Int32)) + (-1 : Int32))) _ _ _ ⟨hU, hS, _, rfl, lv_sub hl [2, 0, 3] rfl⟩
      · refine x_iload_n hx hb dJ18_getChars_28 rfl (lv_at hl 0 rfl) ?_
        refine x_bipush (v := 100) hx hb dJ18_getChars_29 (by decide) ?_
        refine x_idiv hx hb dJ18_getChars_31 (by decide) ?_
        refine x_istore_n (lv' := [(3, .int (v6 / (100 : Int32))), (0, .int v6), (2, va_rf p3), (5, .int v7), (6, .int y1)]) hx hb dJ18_getChars_32 rfl hl (by decide) (by rcases p3 with _ | _ <;> rfl) (fun ls hl => ?_)
        refine x_iload_n hx hb dJ18_getChars_33 rfl (lv_at hl 0 rfl) ?_
        refine x_bipush (v := 100) hx hb dJ18_getChars_34 (by decide) ?_
        refine x_imul hx hb dJ18_getChars_36 ?_
        refine x_iload_n hx hb dJ18_getChars_37 rfl (lv_at hl 1 rfl) ?_
        refine x_isub hx hb dJ18_getChars_38 ?_
        refine x_istore (lv' := [(4, .int (((v6 / (100 : Int32)) * (100 : Int32)) - v6)), (3, .int (v6 / (100 : Int32))), (0, .int v6), (2, va_rf p3), (5, .int v7), (6, .int y1)]) hx hb dJ18_getChars_39 hl (by decide) rfl (fun ls hl => ?_)
        refine x_iload_n hx hb dJ18_getChars_41 rfl (lv_at hl 1 rfl) ?_
        refine x_istore_n (lv' := [(0, .int (v6 / (100 : Int32))), (4, .int (((v6 / (100 : Int32)) * (100 : Int32)) - v6)), (3, .int (v6 / (100 : Int32))), (2, va_rf p3), (5, .int v7), (6, .int y1)]) hx hb dJ18_getChars_42 rfl hl (by decide) rfl (fun ls hl => ?_)
        refine x_aload_nO hx hb dJ18_getChars_43 rfl (lv_at hl 3 rfl) ?_
        refine x_iinc (v := (v7 + (-1 : Int32))) (lv' := [(5, .int (v7 + (-1 : Int32))), (0, .int (v6 / (100 : Int32))), (4, .int (((v6 / (100 : Int32)) * (100 : Int32)) - v6)), (3, .int (v6 / (100 : Int32))), (2, va_rf p3), (6, .int y1)]) (k := 4) hx hb dJ18_getChars_44 hl rfl rfl (by decide) rfl (fun ls hl => ?_)
        refine x_iload hx hb dJ18_getChars_47 (lv_at hl 0 rfl) ?_
        refine gx_gets E hU.1.1 (List.mem_of_getElem? (i := 6) rfl) (hts _ q1141) (fun _ h => h) dJ18_getChars_49 ?_
        refine x_iload hx hb dJ18_getChars_52 (lv_at hl 2 rfl) ?_
        refine fx_baload E hU.1.1.2.1 dJ18_getChars_54 (fun v18 => ?_)
        refine X.onR (fun b19 hb_ => ?_)
        subst hb_
        refine gy_bast E hU hS dJ18_getChars_55 (fun G20 H locs hU hS => ?_)
        refine x_aload_n hx hb dJ18_getChars_56 rfl (lv_at hl 4 rfl) ?_
        refine x_iinc (v := ((v7 + (-1 : Int32)) + (-1 : Int32))) (lv' := [(5, .int ((v7 + (-1 : Int32)) + (-1 : Int32))), (0, .int (v6 / (100 : Int32))), (4, .int (((v6 / (100 : Int32)) * (100 : Int32)) - v6)), (3, .int (v6 / (100 : Int32))), (2, .ref b19), (6, .int y1)]) (k := 0) hx hb dJ18_getChars_57 hl rfl rfl (by decide) rfl (fun ls hl => ?_)
        refine x_iload hx hb dJ18_getChars_60 (lv_at hl 0 rfl) ?_
        refine gx_gets E hU.1.1 (List.mem_of_getElem? (i := 5) rfl) (hts _ q1143) (fun _ h => h) dJ18_getChars_62 ?_
        refine x_iload hx hb dJ18_getChars_65 (lv_at hl 2 rfl) ?_
        refine fx_baload E hU.1.1.2.1 dJ18_getChars_67 (fun v21 => ?_)
        refine gy_bast E hU hS dJ18_getChars_68 (fun G22 H locs hU hS => ?_)
        refine x_goto (tgt := 22) hx hb dJ18_getChars_69 (by decide) ?_
        exact ih8 (G22, (v6 / (100 : Int32)), ((v7 + (-1 : Int32)) + (-1 : Int32))) _ _ _ ⟨hU, hS, _, rfl, lv_sub hl [1, 4, 0, 5] rfl⟩
    · refine x_if_ne (tgt := 22) hx hb dJ18_getChars_16 (by decide) (fun hc => ?_) (fun hc => ?_)
      · exact hj4 p1 _ _ _ ⟨hU, hS, _, rfl, lv_sub hl [1, 2, 3, 0] rfl⟩
      · refine x_iload_n hx hb dJ18_getChars_19 rfl (lv_at hl 1 rfl) ?_
        refine x_ineg hx hb dJ18_getChars_20 ?_
        refine x_istore_n (lv' := [(0, .int (-p1)), (6, .int y1), (2, va_rf p3), (5, .int p2)]) hx hb dJ18_getChars_21 rfl hl (by decide) rfl (fun ls hl => ?_)
        exact hj4 (-p1) _ _ _ ⟨hU, hS, _, rfl, lv_sub hl [0, 2, 3, 1] rfl⟩
  · refine x_if_ge (tgt := 11) hx hb dJ18_getChars_4 (by decide) (fun hc => ?_) (fun hc => ?_)
    · refine x_iconst (v := 0) hx hb dJ18_getChars_11 (by decide) ?_
      exact hj2 (0 : Int32) _ _ _ ⟨hU, hS, _, rfl, lv_sub hl [1, 3, 0] rfl⟩
    · refine x_iconst (v := 1) hx hb dJ18_getChars_7 (by decide) ?_
      refine x_goto (tgt := 12) hx hb dJ18_getChars_8 (by decide) ?_
      exact hj2 (1 : Int32) _ _ _ ⟨hU, hS, _, rfl, lv_sub hl [1, 3, 0] rfl⟩
section KZ
variable {ρ : Type} {p : Program} {l : Launch} {e : Env} {R : Room} {s : State} {m : MethodId} {args : Array Value} {below : List Frame} {meth : Method} {c : Code} {H : Heap} {locs : List Loc} {Qf : ρ → State → Prop}
variable {cc : ByteArray} {pc nL L M q0 : Nat} {ls : Array Slot} {rest : List Value}
variable {D : va_G} {ct : CT} {ck : Nat → UC} {N : Nat} {ad : Nat → Nat} {P : Nat → Nat → Option Nat} {A : Nat → Prop} {S : US} {w : Int64} {G0 G : GS}
theorem kzJ18_N_getChars {p1 : Int32} {p2 : Int32} {p3 : (Option Nat)} (E : ME p m c cc nL s args RJ18 D clW ct) (hZ : YC ct R s A G0) (hY : YW D clW ck ct N ad P A S w G0 G H) (hS : va_S A s.heap H locs) (hR : 1 + 1 ≤ R.frames ∧ 8 + (7 + 11) + 60 ≤ R.locals) (hsize : ls.size = nL) (hW : (rest.map fun v => v.category).sum ≤ 8) (hdg : decode cc pc = .ok (.invokestatic 75, 3)) {kp : (Int32 × GS) → Option ρ} (kk : ∀ (o : (Int32 × GS)) (H1 : Heap) (locs1 : List Loc), YW D clW ck ct N ad P A S w G0 o.2 H1 → va_S A s.heap H1 locs1 → X p l e R s m args below meth c H1 locs1 (o.2.2.1 - G0.2.1) (o.2.2.2 - G0.2.2) Qf (kp o) (F0 m (pc + 3) ls (.int o.1 :: rest))) : X p l e R s m args below meth c H locs (G.2.1 - G0.2.1) (G.2.2 - G0.2.2) Qf (callK (sN_getChars ct G p1 p2 p3) kp) (F0 m pc ls (va_rf p3 :: .int p2 :: .int p1 :: rest)) := gy_mx (val' := fun (o : (Int32 × GS)) => some (.int o.1)) (len := 3) (So := fun (o : (Int32 × GS)) => S) (Po := fun (o : (Int32 × GS)) => P) (Gn := fun (o : (Int32 × GS)) => o.2) hZ hY hS (fun o ho => rqS (As := [.int p1, .int p2, va_rf p3]) E hY.1.any (by rw [hY.1.2.1]; exact mYN_getChars l D ct ck N ad P S w G p1 p2 p3 o ho) (va_cwS 3 E.1.2.2.2.2 (lw_S q1607 q1139 q138 q1140) rfl rfl rfl (by decide +kernel) hR) rfl hsize rfl hW hdg (hY.room hZ)) kk
end KZ

set_option maxHeartbeats 4000000 in
theorem mYS_init_3 (l : Launch) (D : va_G) (ct : CT) (ck : Nat → UC) (N : Nat) (ad : Nat → Nat) (P : Nat → Nat → Option Nat) (S : US) (w : Int64) (G0 : GS) (q0 : Nat) (p1 : (Option Nat)) (p2 : Int32) (o : GS) (ho : sS_init_3 ct G0 q0 p1 p2 = some o) : Met l yJ8_init_3 (ws_ yJ8_init_3 cJ8_init_3 3 none) { frames := 1, cells := nmax ct - G0.2.1, slots := zmax ct - G0.2.2, locals := 60 } (mP D clW ct [.ref q0, va_rf p1, .int p2] G0.2.1 (MW D clW ck ct N ad P (fun _ => True) S w G0)) (yC (none) (MW D clW ck ct N ad P (mA N ad G0) S w o) G0 o (mA N ad G0)) (nmax ct - G0.2.1) (zmax ct - G0.2.2) (mA N ad G0) := by
  refine Y.start (val := fun (o : GS) => none) (Bt := fun (o : GS) => MW D clW ck ct N ad P (mA N ad G0) S w o) (Go := fun (o : GS) => o) ho (by decide) (by rcases p1 with _ | _ <;> exact Nat.le_of_ble_eq_true rfl) (lv := [(0, .ref q0), (1, va_rf p1), (2, .int p2)]) (by rcases p1 with _ | _ <;> rfl) ?_
  intro p e s m args below meth c E hr hlk hnm hZ hU hS ls hl
  obtain ⟨⟨hx, hb, hml, hown, hts⟩, hK, hJ⟩ := id E
  unfold sS_init_3
  refine x_aload_n hx hb dJ8_init_3_0 rfl (lv_at hl 0 rfl) ?_
  refine gx_objInit E (hts _ q1101) (hts _ q155) (hts _ q156) ⟨Nat.le_of_ble_eq_true rfl, Nat.le_of_ble_eq_true rfl⟩ hl.1 (Nat.le_of_ble_eq_true rfl) dJ8_init_3_1 ?_
  refine x_aload_n hx hb dJ8_init_3_4 rfl (lv_at hl 0 rfl) ?_
  refine x_aload_nO hx hb dJ8_init_3_5 rfl (lv_at hl 1 rfl) ?_
  refine gy_put (v := va_rf p1) (ty0 := tyJ8) E hU hS (ci := 13) rfl in_J8 tyJ8_ok nmJ8 0 (by decide) (hts _ q1207) (fun _ h => h) (Or.inr ⟨rfl, hnm, rfl⟩) (by cases p1 <;> rfl) (by cases p1 <;> rfl) dJ8_init_3_6 (fun G1 H locs hU hS => ?_)
  refine x_aload_n hx hb dJ8_init_3_9 rfl (lv_at hl 0 rfl) ?_
  refine x_iload_n hx hb dJ8_init_3_10 rfl (lv_at hl 2 rfl) ?_
  refine X.ite (fun hf_ => ?_) (fun _ => X.none)
  refine gy_put (v := .int p2) (ty0 := tyJ8) E hU hS (ci := 13) rfl in_J8 tyJ8_ok nmJ8 1 (by decide) (hts _ q1208) (fun _ h => h) (Or.inr ⟨rfl, hnm, rfl⟩) hf_.1 hf_.2 dJ8_init_3_11 (fun G2 H locs hU hS => ?_)
  exact y_vret hx hb hr hlk hZ hU hS rfl rfl hU.1 dJ8_init_3_14
section KZ
variable {ρ : Type} {p : Program} {l : Launch} {e : Env} {R : Room} {s : State} {m : MethodId} {args : Array Value} {below : List Frame} {meth : Method} {c : Code} {H : Heap} {locs : List Loc} {Qf : ρ → State → Prop}
variable {cc : ByteArray} {pc nL L M q0 : Nat} {ls : Array Slot} {rest : List Value}
variable {D : va_G} {ct : CT} {ck : Nat → UC} {N : Nat} {ad : Nat → Nat} {P : Nat → Nat → Option Nat} {A : Nat → Prop} {S : US} {w : Int64} {G0 G : GS}
theorem kzJ18_S_init_3 {p1 : (Option Nat)} {p2 : Int32} (E : ME p m c cc nL s args RJ18 D clW ct) (hZ : YC ct R s A G0) (hY : YW D clW ck ct N ad P A S w G0 G H) (hS : va_S A s.heap H locs) (hR : 1 + 1 ≤ R.frames ∧ 8 + (3 + 11) + 60 ≤ R.locals) (hsize : ls.size = nL) (hW : (rest.map fun v => v.category).sum ≤ 8) (hdg : decode cc pc = .ok (.invokespecial 65, 3)) {kp : GS → Option ρ} (kk : ∀ (o : GS) (H1 : Heap) (locs1 : List Loc), YW D clW ck ct N ad P A S w G0 o H1 → va_S A s.heap H1 locs1 → X p l e R s m args below meth c H1 locs1 (o.2.1 - G0.2.1) (o.2.2 - G0.2.2) Qf (kp o) (F0 m (pc + 3) ls (rest))) : X p l e R s m args below meth c H locs (G.2.1 - G0.2.1) (G.2.2 - G0.2.2) Qf (callK (sS_init_3 ct G q0 p1 p2) kp) (F0 m pc ls (.int p2 :: va_rf p1 :: .ref q0 :: rest)) := gy_mx (val' := fun (o : GS) => none) (len := 3) (So := fun (o : GS) => S) (Po := fun (o : GS) => P) (Gn := fun (o : GS) => o) hZ hY hS (fun o ho => rqI (As := [va_rf p1, .int p2]) E hY.1.any (by rw [hY.1.2.1]; exact mYS_init_3 l D ct ck N ad P S w G q0 p1 p2 o ho) ⟨callB_of 2 E.1.2.2.2.2 (lw_meth q1611) rfl rfl rfl (E.1.2.2.2.2 _ q126) (E.1.2.2.2.2 _ q1609) (by decide +kernel) hR, rfl, E.1.2.2.2.2 _ q1610⟩ rfl hsize rfl hW hdg (hY.room hZ)) kk
end KZ

set_option maxHeartbeats 4000000 in
theorem mYN_toString (l : Launch) (D : va_G) (ct : CT) (ck : Nat → UC) (N : Nat) (ad : Nat → Nat) (P : Nat → Nat → Option Nat) (S : US) (w : Int64) (G0 : GS) (p1 : Int32) (o : ((Option Nat) × GS)) (ho : sN_toString ct G0 p1 = some o) : Met l yJ18_toString (ws_ yJ18_toString cJ18_toString 3 (some (.object "java/lang/String"))) { frames := 2, cells := nmax ct - G0.2.1, slots := zmax ct - G0.2.2, locals := 86 } (mP D clW ct [.int p1] G0.2.1 (MW D clW ck ct N ad P (fun _ => True) S w G0)) (yC (some (va_rf o.1)) (MW D clW ck ct N ad P (mA N ad G0) S w o.2) G0 o.2 (mA N ad G0)) (nmax ct - G0.2.1) (zmax ct - G0.2.2) (mA N ad G0) := by
  refine Y.start (val := fun (o : ((Option Nat) × GS)) => some (va_rf o.1)) (Bt := fun (o : ((Option Nat) × GS)) => MW D clW ck ct N ad P (mA N ad G0) S w o.2) (Go := fun (o : ((Option Nat) × GS)) => o.2) ho (by decide) (Nat.le_of_ble_eq_true rfl) (lv := [(0, .int p1)]) rfl ?_
  intro p e s m args below meth c E hr hlk hnm hZ hU hS ls hl
  obtain ⟨⟨hx, hb, hml, hown, hts⟩, hK, hJ⟩ := id E
  replace hr : meth.sig.returnType = some (FieldType.object "java/lang/String") ∧ ((∃ n, (FieldType.object "java/lang/String") = .object n) ∨ ∃ t, (FieldType.object "java/lang/String") = .array t) := ⟨hr, Or.inl ⟨_, rfl⟩⟩
  unfold sN_toString
  refine x_iload_n hx hb dJ18_toString_0 rfl (lv_at hl 0 rfl) ?_
  refine kzJ18_N_stringSize E hZ hU hS ⟨Nat.le_of_ble_eq_true rfl, Nat.le_of_ble_eq_true rfl⟩ hl.1 (Nat.le_of_ble_eq_true rfl) dJ18_toString_1 (fun o1 H locs hU hS => ?_)
  refine x_istore_n (lv' := [(1, .int o1), (0, .int p1)]) hx hb dJ18_toString_4 rfl hl (by decide) rfl (fun ls hl => ?_)
  refine gx_gets E hU.1.1 (List.mem_of_getElem? (i := 0) rfl) (hts _ q1606) (fun _ h => h) dJ18_toString_5 ?_
  refine x_if_eq (tgt := 32) hx hb dJ18_toString_8 (by decide) (fun hc => ?_) (fun hc => ?_)
  · refine x_iload_n hx hb dJ18_toString_32 rfl (lv_at hl 0 rfl) ?_
    refine x_iconst (v := 2) hx hb dJ18_toString_33 (by decide) ?_
    refine x_imul hx hb dJ18_toString_34 ?_
    refine gy_newa (atype := .byte) (t := 2) (ty := .byte) (x := .inl (fun _ => 0)) E hZ hU hS (hts _ q315) rfl rfl (fun h => h) (fun _ => rfl) (by decide) dJ18_toString_35 (fun q2 G3 H hU hS => ?_)
    refine x_astore_n (lv' := [(2, .ref q2), (1, .int o1), (0, .int p1)]) hx hb dJ18_toString_37 rfl hl (by decide) rfl (fun ls hl => ?_)
    refine x_iload_n hx hb dJ18_toString_38 rfl (lv_at hl 2 rfl) ?_
    refine x_iload_n hx hb dJ18_toString_39 rfl (lv_at hl 1 rfl) ?_
    refine x_aload_n hx hb dJ18_toString_40 rfl (lv_at hl 0 rfl) ?_
    exact X.none
  · refine x_iload_n hx hb dJ18_toString_11 rfl (lv_at hl 0 rfl) ?_
    refine gy_newa (atype := .byte) (t := 2) (ty := .byte) (x := .inl (fun _ => 0)) E hZ hU hS (hts _ q315) rfl rfl (fun h => h) (fun _ => rfl) (by decide) dJ18_toString_12 (fun q4 G5 H hU hS => ?_)
    refine x_astore_n (lv' := [(2, .ref q4), (1, .int o1), (0, .int p1)]) hx hb dJ18_toString_14 rfl hl (by decide) rfl (fun ls hl => ?_)
    refine x_iload_n hx hb dJ18_toString_15 rfl (lv_at hl 2 rfl) ?_
    refine x_iload_n hx hb dJ18_toString_16 rfl (lv_at hl 1 rfl) ?_
    refine x_aload_n hx hb dJ18_toString_17 rfl (lv_at hl 0 rfl) ?_
    refine kzJ18_N_getChars E hZ hU hS ⟨Nat.le_of_ble_eq_true rfl, Nat.le_of_ble_eq_true rfl⟩ hl.1 (Nat.le_of_ble_eq_true rfl) dJ18_toString_18 (fun o6 H locs hU hS => ?_)
    refine x_pop hx hb dJ18_toString_21 rfl ?_
    refine gy_new (ty := tyJ8) E hZ hU hS in_J8 tyJ8_ok (hts _ q1608) (hts _ q1094) (hts _ q126) (ci := 13) rfl (by decide) dJ18_toString_22 (fun q7 G8 H hU hS => ?_)
    refine x_dup hx hb dJ18_toString_25 rfl ?_
    refine x_aload_n hx hb dJ18_toString_26 rfl (lv_at hl 0 rfl) ?_
    refine x_iconst (v := 0) hx hb dJ18_toString_27 (by decide) ?_
    refine kzJ18_S_init_3 E hZ hU hS ⟨Nat.le_of_ble_eq_true rfl, Nat.le_of_ble_eq_true rfl⟩ hl.1 (Nat.le_of_ble_eq_true rfl) dJ18_toString_28 (fun o9 H locs hU hS => ?_)
    exact y_aret (r := (some q7)) hx hb hr hlk hZ hU hS rfl rfl hU.1 dJ18_toString_31
section KZ
variable {ρ : Type} {p : Program} {l : Launch} {e : Env} {R : Room} {s : State} {m : MethodId} {args : Array Value} {below : List Frame} {meth : Method} {c : Code} {H : Heap} {locs : List Loc} {Qf : ρ → State → Prop}
variable {cc : ByteArray} {pc nL L M q0 : Nat} {ls : Array Slot} {rest : List Value}
variable {D : va_G} {ct : CT} {ck : Nat → UC} {N : Nat} {ad : Nat → Nat} {P : Nat → Nat → Option Nat} {A : Nat → Prop} {S : US} {w : Int64} {G0 G : GS}
theorem kzX1_N_toString {p1 : Int32} (E : ME p m c cc nL s args RX1 D clW ct) (hZ : YC ct R s A G0) (hY : YW D clW ck ct N ad P A S w G0 G H) (hS : va_S A s.heap H locs) (hR : 2 + 1 ≤ R.frames ∧ 8 + (3 + 11) + 86 ≤ R.locals) (hsize : ls.size = nL) (hW : (rest.map fun v => v.category).sum ≤ 8) (hdg : decode cc pc = .ok (.invokestatic 287, 3)) {kp : ((Option Nat) × GS) → Option ρ} (kk : ∀ (o : ((Option Nat) × GS)) (H1 : Heap) (locs1 : List Loc), YW D clW ck ct N ad P A S w G0 o.2 H1 → va_S A s.heap H1 locs1 → X p l e R s m args below meth c H1 locs1 (o.2.2.1 - G0.2.1) (o.2.2.2 - G0.2.2) Qf (kp o) (F0 m (pc + 3) ls (va_rf o.1 :: rest))) : X p l e R s m args below meth c H locs (G.2.1 - G0.2.1) (G.2.2 - G0.2.2) Qf (callK (sN_toString ct G p1) kp) (F0 m pc ls (.int p1 :: rest)) := gy_mx (val' := fun (o : ((Option Nat) × GS)) => some (va_rf o.1)) (len := 3) (So := fun (o : ((Option Nat) × GS)) => S) (Po := fun (o : ((Option Nat) × GS)) => P) (Gn := fun (o : ((Option Nat) × GS)) => o.2) hZ hY hS (fun o ho => rqS (As := [.int p1]) E hY.1.any (by rw [hY.1.2.1]; exact mYN_toString l D ct ck N ad P S w G p1 o ho) (va_cwS 1 E.1.2.2.2.2 (lw_S q1602 q1603 q138 q1604) rfl rfl rfl (by decide +kernel) hR) rfl hsize rfl hW hdg (hY.room hZ)) kk
end KZ

set_option maxHeartbeats 4000000 in
theorem mY1_readings (l : Launch) (D : va_G) (ct : CT) (ad : Nat → Nat) (P : Nat → Nat → Option Nat) (S : US) (G0 : GS) (p1 : Int32) (p2 : Int32) (o : (Int32 × GS)) (ho : s1_readings ct ad P S G0 p1 p2 = some o) : Met l yX1_readings (ws_ yX1_readings cX1_readings 10 (some .int)) { frames := 4, cells := nmax ct - G0.2.1, slots := zmax ct - G0.2.2, locals := 108 } (mP D clW ct [.ref (ad (0)), .int p1, .int p2] G0.2.1 (MW D clW ckH ct 26 ad P (fun _ => True) S 0 G0)) (yC (some (.int o.1)) (MW D clW ckH ct 26 ad P (mA 26 ad G0) S 0 o.2) G0 o.2 (mA 26 ad G0)) (nmax ct - G0.2.1) (zmax ct - G0.2.2) (mA 26 ad G0) := by
  refine Y.start (val := fun (o : (Int32 × GS)) => some (.int o.1)) (Bt := fun (o : (Int32 × GS)) => MW D clW ckH ct 26 ad P (mA 26 ad G0) S 0 o.2) (Go := fun (o : (Int32 × GS)) => o.2) ho (by decide) (Nat.le_of_ble_eq_true rfl) (lv := [(0, .ref (ad (0))), (1, .int p1), (2, .int p2)]) rfl ?_
  intro p e s m args below meth c E hr hlk hnm hZ hU hS ls hl
  obtain ⟨⟨hx, hb, hml, hown, hts⟩, hK, hJ⟩ := id E
  unfold s1_readings
  refine x_iload_n hx hb dX1_readings_0 rfl (lv_at hl 2 rfl) ?_
  refine x_iconst (v := 1) hx hb dX1_readings_1 (by decide) ?_
  refine kzX1_1_oneOf E hZ hU hS ⟨Nat.le_of_ble_eq_true rfl, Nat.le_of_ble_eq_true rfl⟩ hl.1 (Nat.le_of_ble_eq_true rfl) dX1_readings_2 (fun o1 H locs hU hS => ?_)
  refine x_iload_n hx hb dX1_readings_5 rfl (lv_at hl 1 rfl) ?_
  refine x_iconst (v := 0) hx hb dX1_readings_6 (by decide) ?_
  refine x_ldcw hx hb hown (hts _ q1601) dX1_readings_7 ?_
  refine kzX1_1_in E hZ hU hS ⟨Nat.le_of_ble_eq_true rfl, Nat.le_of_ble_eq_true rfl⟩ hl.1 (Nat.le_of_ble_eq_true rfl) dX1_readings_10 (fun o2 H locs hU hS => ?_)
  refine kzX1_1_right E hZ hU hS ⟨Nat.le_of_ble_eq_true rfl, Nat.le_of_ble_eq_true rfl⟩ hl.1 (Nat.le_of_ble_eq_true rfl) dX1_readings_13 (fun o3 H locs hU hS => ?_)
  refine x_iload_n hx hb dX1_readings_16 rfl (lv_at hl 1 rfl) ?_
  refine kzX1_N_toString E hZ hU hS ⟨Nat.le_of_ble_eq_true rfl, Nat.le_of_ble_eq_true rfl⟩ hl.1 (Nat.le_of_ble_eq_true rfl) dX1_readings_17 (fun o4 H locs hU hS => ?_)
  refine X.onR (fun b5 hb_ => ?_)
  rw [hb_]
  try rw [hb_] at hl
  refine x_astore_n (lv' := [(3, .ref b5), (0, .ref (ad (0))), (1, .int p1), (2, .int p2)]) hx hb dX1_readings_20 rfl hl (by decide) rfl (fun ls hl => ?_)
  refine x_aload_n hx hb dX1_readings_21 rfl (lv_at hl 0 rfl) ?_
  refine kzX1_S_length E hZ hU hS ⟨Nat.le_of_ble_eq_true rfl, Nat.le_of_ble_eq_true rfl⟩ hl.1 (Nat.le_of_ble_eq_true rfl) dX1_readings_22 (fun o6 H locs hU hS => ?_)
  refine x_istore (lv' := [(4, .int o6), (3, .ref b5), (0, .ref (ad (0))), (1, .int p1), (2, .int p2)]) hx hb dX1_readings_25 hl (by decide) rfl (fun ls hl => ?_)
  refine x_iload hx hb dX1_readings_27 (lv_at hl 0 rfl) ?_
  refine x_iconst (v := 1) hx hb dX1_readings_29 (by decide) ?_
  refine x_iadd hx hb dX1_readings_30 ?_
  refine gy_newa (atype := .int) (t := 0) (ty := .int) (x := .inl (fun _ => 0)) E hZ hU hS (hts _ q189) rfl rfl (fun h => h) (fun _ => rfl) (by decide) dX1_readings_31 (fun q7 G8 H hU hS => ?_)
  refine x_astore (lv' := [(5, .ref q7), (4, .int o6), (3, .ref b5), (0, .ref (ad (0))), (1, .int p1), (2, .int p2)]) hx hb dX1_readings_33 hl (by decide) rfl (fun ls hl => ?_)
  refine x_iload hx hb dX1_readings_35 (lv_at hl 1 rfl) ?_
  refine x_iconst (v := 1) hx hb dX1_readings_37 (by decide) ?_
  refine x_iadd hx hb dX1_readings_38 ?_
  refine gy_newa (atype := .int) (t := 0) (ty := .int) (x := .inl (fun _ => 0)) E hZ hU hS (hts _ q189) rfl rfl (fun h => h) (fun _ => rfl) (by decide) dX1_readings_39 (fun q9 G10 H hU hS => ?_)
  refine x_astore (lv' := [(6, .ref q9), (5, .ref q7), (4, .int o6), (3, .ref b5), (0, .ref (ad (0))), (1, .int p1), (2, .int p2)]) hx hb dX1_readings_41 hl (by decide) rfl (fun ls hl => ?_)
  refine x_aload hx hb dX1_readings_43 (lv_at hl 1 rfl) ?_
  refine x_iload hx hb dX1_readings_45 (lv_at hl 2 rfl) ?_
  refine x_iconst (v := 1) hx hb dX1_readings_47 (by decide) ?_
  refine gy_iast E hU hS dX1_readings_48 (fun G11 H locs hU hS => ?_)
  refine x_iload hx hb dX1_readings_49 (lv_at hl 2 rfl) ?_
  refine x_iconst (v := 1) hx hb dX1_readings_51 (by decide) ?_
  refine x_isub hx hb dX1_readings_52 ?_
  refine x_istore (lv' := [(7, .int (o6 - (1 : Int32))), (6, .ref q9), (5, .ref q7), (4, .int o6), (3, .ref b5), (0, .ref (ad (0))), (1, .int p1), (2, .int p2)]) hx hb dX1_readings_53 hl (by decide) rfl (fun ls hl => ?_)
  refine X.loopY (I := fun (x : (GS × Int32)) g H locs => YW D clW ckH ct 26 ad P (mA 26 ad G0) S 0 G0 x.1 H ∧ va_S (mA 26 ad G0) s.heap H locs ∧ ∃ ls : Array Slot, g = F0 m 55 ls [] ∧ lv_has ls 10 [(0, .ref (ad (0))), (2, .int p2), (3, .ref b5), (5, .ref q7), (6, .ref q9), (7, .int x.2)]) (cf := (fun (x : (GS × Int32)) => x.1.2.1 - G0.2.1)) (sf := (fun (x : (GS × Int32)) => x.1.2.2 - G0.2.2)) (fun rc14 ih14 => ?_) FUEL (G11, (o6 - (1 : Int32))) _ _ _ ⟨hU, hS, _, rfl, lv_sub hl [5, 7, 4, 2, 1, 0] rfl⟩
  rintro ⟨G12, v13⟩ _ H locs ⟨hU, hS, ls, rfl, hl⟩
  have hU : YW D clW ckH ct 26 ad P (mA 26 ad G0) S 0 G0 G12 H := hU
  have hl : lv_has ls 10 [(0, .ref (ad (0))), (2, .int p2), (3, .ref b5), (5, .ref q7), (6, .ref q9), (7, .int v13)] := hl
  refine X.cs (cells2 := G12.2.1 - G0.2.1) (slots2 := G12.2.2 - G0.2.2) rfl rfl ?_
  refine X.eqs (sp2 := s1_readings_L55 p2 P b5 q7 q9 rc14 G12 v13) rfl ?_
  unfold s1_readings_L55
  refine x_iload hx hb dX1_readings_55 (lv_at hl 5 rfl) ?_
  refine x_if_lt (tgt := 177) hx hb dX1_readings_57 (by decide) (fun hc => ?_) (fun hc => ?_)
  · refine x_iload_n hx hb dX1_readings_177 rfl (lv_at hl 1 rfl) ?_
    refine x_if_ne (tgt := 188) hx hb dX1_readings_178 (by decide) (fun hc => ?_) (fun hc => ?_)
    · refine x_aload hx hb dX1_readings_188 (lv_at hl 4 rfl) ?_
      refine x_iconst (v := 0) hx hb dX1_readings_190 (by decide) ?_
      refine fx_iaload E hU.1.1.2.1 dX1_readings_191 (fun v15 => ?_)
      refine x_ldc hx hb hown (hts _ q625) dX1_readings_192 ?_
      refine x_icmp_lt (tgt := 201) hx hb dX1_readings_194 (by decide) (fun hc => ?_) (fun hc => ?_)
      · refine x_aload hx hb dX1_readings_201 (lv_at hl 4 rfl) ?_
        refine x_iconst (v := 0) hx hb dX1_readings_203 (by decide) ?_
        refine fx_iaload E hU.1.1.2.1 dX1_readings_204 (fun v16 => ?_)
        exact y_iret hx hb hr hlk hZ hU hS rfl rfl hU.1 dX1_readings_205
      · refine x_iconst (v := -1) hx hb dX1_readings_197 (by decide) ?_
        refine x_goto (tgt := 205) hx hb dX1_readings_198 (by decide) ?_
        exact y_iret hx hb hr hlk hZ hU hS rfl rfl hU.1 dX1_readings_205
    · refine x_aload hx hb dX1_readings_181 (lv_at hl 3 rfl) ?_
      refine x_iconst (v := 0) hx hb dX1_readings_183 (by decide) ?_
      refine fx_iaload E hU.1.1.2.1 dX1_readings_184 (fun v17 => ?_)
      refine x_goto (tgt := 205) hx hb dX1_readings_185 (by decide) ?_
      exact y_iret hx hb hr hlk hZ hU hS rfl rfl hU.1 dX1_readings_205
  · refine x_aload hx hb dX1_readings_60 (lv_at hl 4 rfl) ?_
    refine x_iload hx hb dX1_readings_62 (lv_at hl 5 rfl) ?_
    refine x_ldc hx hb hown (hts _ q625) dX1_readings_64 ?_
    refine gy_iast E hU hS dX1_readings_66 (fun G18 H locs hU hS => ?_)
    refine x_iconst (v := 0) hx hb dX1_readings_67 (by decide) ?_
    refine x_istore (lv' := [(8, .int (0 : Int32)), (0, .ref (ad (0))), (2, .int p2), (3, .ref b5), (5, .ref q7), (6, .ref q9), (7, .int v13)]) hx hb dX1_readings_68 hl (by decide) rfl (fun ls hl => ?_)
    refine X.loopY (I := fun (x : (GS × Int32)) g H locs => YW D clW ckH ct 26 ad P (mA 26 ad G0) S 0 G0 x.1 H ∧ va_S (mA 26 ad G0) s.heap H locs ∧ ∃ ls : Array Slot, g = F0 m 70 ls [] ∧ lv_has ls 10 [(0, .ref (ad (0))), (2, .int p2), (3, .ref b5), (5, .ref q7), (6, .ref q9), (7, .int v13), (8, .int x.2)]) (cf := (fun (x : (GS × Int32)) => x.1.2.1 - G0.2.1)) (sf := (fun (x : (GS × Int32)) => x.1.2.2 - G0.2.2)) (fun rc21 ih21 => ?_) FUEL (G18, (0 : Int32)) _ _ _ ⟨hU, hS, _, rfl, lv_sub hl [1, 2, 3, 4, 5, 6, 0] rfl⟩
    rintro ⟨G19, v20⟩ _ H locs ⟨hU, hS, ls, rfl, hl⟩
    have hU : YW D clW ckH ct 26 ad P (mA 26 ad G0) S 0 G0 G19 H := hU
    have hl : lv_has ls 10 [(0, .ref (ad (0))), (2, .int p2), (3, .ref b5), (5, .ref q7), (6, .ref q9), (7, .int v13), (8, .int v20)] := hl
    refine X.cs (cells2 := G19.2.1 - G0.2.1) (slots2 := G19.2.2 - G0.2.2) rfl rfl ?_
    refine X.eqs (sp2 := s1_readings_L70 P b5 q7 q9 v13 rc14 rc21 G19 v20) rfl ?_
    unfold s1_readings_L70
    refine x_iload hx hb dX1_readings_70 (lv_at hl 6 rfl) ?_
    refine x_aload_n hx hb dX1_readings_72 rfl (lv_at hl 0 rfl) ?_
    refine gX1_31 E hU.1.1 dX1_readings_73 ?_
    refine gX1_118 E hU.1.1 dX1_readings_76 (fun r22 => ?_)
    refine X.onR (fun b23 hb_ => ?_)
    subst hb_
    refine kzX1_L_size E hZ hU hS ⟨Nat.le_of_ble_eq_true rfl, Nat.le_of_ble_eq_true rfl⟩ hl.1 (Nat.le_of_ble_eq_true rfl) dX1_readings_79 (fun o24 H locs hU hS => ?_)
    refine x_icmp_ge (tgt := 171) hx hb dX1_readings_84 (by decide) (fun hc => ?_) (fun hc => ?_)
    · refine x_iinc (v := (v13 + (-1 : Int32))) (lv' := [(7, .int (v13 + (-1 : Int32))), (0, .ref (ad (0))), (2, .int p2), (3, .ref b5), (5, .ref q7), (6, .ref q9), (8, .int v20)]) (k := 5) hx hb dX1_readings_171 hl rfl rfl (by decide) rfl (fun ls hl => ?_)
      refine x_goto (tgt := 55) hx hb dX1_readings_174 (by decide) ?_
      exact ih14 (G19, (v13 + (-1 : Int32))) _ _ _ ⟨hU, hS, _, rfl, lv_sub hl [1, 2, 3, 4, 5, 0] rfl⟩
    · refine x_aload_n hx hb dX1_readings_87 rfl (lv_at hl 0 rfl) ?_
      refine gX1_31 E hU.1.1 dX1_readings_88 ?_
      refine gX1_118 E hU.1.1 dX1_readings_91 (fun r25 => ?_)
      refine x_iload hx hb dX1_readings_94 (lv_at hl 6 rfl) ?_
      refine X.onR (fun b26 hb_ => ?_)
      subst hb_
      refine kzX1_L_get E hZ hU hS ⟨Nat.le_of_ble_eq_true rfl, Nat.le_of_ble_eq_true rfl⟩ hl.1 (Nat.le_of_ble_eq_true rfl) dX1_readings_96 (fun o27 H locs hU hS => ?_)
      refine X.onR (fun b28 hb_ => ?_)
      subst hb_
      refine fx_cast E hU.1.1.2.1 (ci := 13) rfl (hts _ q1614) dX1_readings_101 ?_
      refine x_astore (lv' := [(9, .ref b28), (0, .ref (ad (0))), (2, .int p2), (3, .ref b5), (5, .ref q7), (6, .ref q9), (7, .int v13), (8, .int v20)]) hx hb dX1_readings_104 hl (by decide) rfl (fun ls hl => ?_)
      refine x_aload_n hx hb dX1_readings_106 rfl (lv_at hl 3 rfl) ?_
      refine x_aload hx hb dX1_readings_107 (lv_at hl 0 rfl) ?_
      refine x_iload hx hb dX1_readings_109 (lv_at hl 6 rfl) ?_
      refine kzX1_S_startsWith E hZ hU hS ⟨Nat.le_of_ble_eq_true rfl, Nat.le_of_ble_eq_true rfl⟩ hl.1 (Nat.le_of_ble_eq_true rfl) dX1_readings_111 (fun o29 H locs hU hS => ?_)
      refine x_if_ne (tgt := 120) hx hb dX1_readings_114 (by decide) (fun hc => ?_) (fun hc => ?_)
      · refine x_aload hx hb dX1_readings_120 (lv_at hl 4 rfl) ?_
        refine x_iload hx hb dX1_readings_122 (lv_at hl 6 rfl) ?_
        refine x_dup2_11 hx hb dX1_readings_124 rfl rfl ?_
        refine fx_iaload E hU.1.1.2.1 dX1_readings_125 (fun v30 => ?_)
        refine x_aload hx hb dX1_readings_126 (lv_at hl 4 rfl) ?_
        refine x_iload hx hb dX1_readings_128 (lv_at hl 6 rfl) ?_
        refine x_aload hx hb dX1_readings_130 (lv_at hl 0 rfl) ?_
        refine kzX1_S_length E hZ hU hS ⟨Nat.le_of_ble_eq_true rfl, Nat.le_of_ble_eq_true rfl⟩ hl.1 (Nat.le_of_ble_eq_true rfl) dX1_readings_132 (fun o31 H locs hU hS => ?_)
        refine x_iadd hx hb dX1_readings_135 ?_
        refine fx_iaload E hU.1.1.2.1 dX1_readings_136 (fun v32 => ?_)
        refine x_iadd hx hb dX1_readings_137 ?_
        refine gy_iast E hU hS dX1_readings_138 (fun G33 H locs hU hS => ?_)
        refine x_aload hx hb dX1_readings_139 (lv_at hl 5 rfl) ?_
        refine x_iload hx hb dX1_readings_141 (lv_at hl 6 rfl) ?_
        refine x_aload hx hb dX1_readings_143 (lv_at hl 5 rfl) ?_
        refine x_iload hx hb dX1_readings_145 (lv_at hl 6 rfl) ?_
        refine fx_iaload E hU.1.1.2.1 dX1_readings_147 (fun v34 => ?_)
        refine x_iconst (v := 1) hx hb dX1_readings_148 (by decide) ?_
        refine x_aload hx hb dX1_readings_149 (lv_at hl 5 rfl) ?_
        refine x_iload hx hb dX1_readings_151 (lv_at hl 6 rfl) ?_
        refine x_aload hx hb dX1_readings_153 (lv_at hl 0 rfl) ?_
        refine kzX1_S_length E hZ hU hS ⟨Nat.le_of_ble_eq_true rfl, Nat.le_of_ble_eq_true rfl⟩ hl.1 (Nat.le_of_ble_eq_true rfl) dX1_readings_155 (fun o35 H locs hU hS => ?_)
        refine x_iadd hx hb dX1_readings_158 ?_
        refine fx_iaload E hU.1.1.2.1 dX1_readings_159 (fun v36 => ?_)
        refine x_iadd hx hb dX1_readings_160 ?_
        refine kX1_min E ⟨Nat.le_of_ble_eq_true rfl, Nat.le_of_ble_eq_true rfl⟩ hl.1 (Nat.le_of_ble_eq_true rfl) dX1_readings_161 (hU.room0 hZ) ?_
        refine gy_iast E hU hS dX1_readings_164 (fun G37 H locs hU hS => ?_)
        refine x_iinc (v := (v20 + (1 : Int32))) (lv' := [(8, .int (v20 + (1 : Int32))), (9, .ref b28), (0, .ref (ad (0))), (2, .int p2), (3, .ref b5), (5, .ref q7), (6, .ref q9), (7, .int v13)]) (k := 7) hx hb dX1_readings_165 hl rfl rfl (by decide) rfl (fun ls hl => ?_)
        refine x_goto (tgt := 70) hx hb dX1_readings_168 (by decide) ?_
        exact ih21 (G37, (v20 + (1 : Int32))) _ _ _ ⟨hU, hS, _, rfl, lv_sub hl [2, 3, 4, 5, 6, 7, 0] rfl⟩
      · refine x_goto (tgt := 165) hx hb dX1_readings_117 (by decide) ?_
        refine x_iinc (v := (v20 + (1 : Int32))) (lv' := [(8, .int (v20 + (1 : Int32))), (9, .ref b28), (0, .ref (ad (0))), (2, .int p2), (3, .ref b5), (5, .ref q7), (6, .ref q9), (7, .int v13)]) (k := 7) hx hb dX1_readings_165 hl rfl rfl (by decide) rfl (fun ls hl => ?_)
        refine x_goto (tgt := 70) hx hb dX1_readings_168 (by decide) ?_
        exact ih21 (G19, (v20 + (1 : Int32))) _ _ _ ⟨hU, hS, _, rfl, lv_sub hl [2, 3, 4, 5, 6, 7, 0] rfl⟩
