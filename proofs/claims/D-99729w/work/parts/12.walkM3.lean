set_option maxRecDepth 100000
set_option maxHeartbeats 4000000 in
theorem mM_isHere (l : Launch) (D : va_G) (ct : CT) (ad : Nat → Nat) (S : US) (w : Int64) (p1 : Int32) (p2 : Int32) (p3 : Int32) (sz : Nat) (o : Bool) (ho : sM_isHere S p1 p2 p3 = some o) : Met l yX4_isHere (ws_ yX4_isHere cX4_isHere 6 (some .boolean)) { frames := 1, cells := 0, slots := 0, locals := 32 } (mP D clW ct [.ref (ad (0)), .int p1, .int p2, .int p3] sz (UM D ct ad (fun _ => True) S w)) (mC (some (.int (bI o))) (fun _ => True) (nA sz)) 0 0 (nA sz) := by
  refine X.start (val := fun (o : Bool) => some (.int (bI o))) (Bt := fun _ _ => True) (A := nA sz) ho (by decide) (Nat.le_of_ble_eq_true rfl) rfl ?_
  intro p e s m args below meth c E hr hlk hnm hsz hU ls hl
  subst hsz
  obtain ⟨⟨hx, hb, hml, hown, hts⟩, hK, hJ⟩ := id E
  have hA0 : ∀ q, s.heap.size ≤ q → (nA s.heap.size) q := fun q h => h
  have hS : va_S (nA s.heap.size) s.heap s.heap [] := va_S.rf
  unfold sM_isHere
  refine x_iload_n hx hb dX4_isHere_0 rfl (lv_at hl 2 rfl) ?_
  refine x_aload_n hx hb dX4_isHere_1 rfl (lv_at hl 0 rfl) ?_
  refine gM_knotLong E hU dX4_isHere_2 ?_
  refine x_iload_n hx hb dX4_isHere_5 rfl (lv_at hl 1 rfl) ?_
  refine ux_ald (i := 3) (n := 8) E hU (by decide) rfl dX4_isHere_6 ?_
  refine x_iadd hx hb dX4_isHere_7 ?_
  refine x_iload_n hx hb dX4_isHere_8 rfl (lv_at hl 3 rfl) ?_
  refine x_icmp_le (tgt := 14) hx hb dX4_isHere_9 (by decide) (fun hc => ?_) (fun hc => ?_)
  · refine x_iconst (v := 0) hx hb dX4_isHere_14 (by decide) ?_
    refine x_istore (lv' := [(4, .int (0 : Int32)), (0, .ref (ad (0))), (1, .int p1), (2, .int p2), (3, .int p3)]) hx hb dX4_isHere_15 hl (by decide) rfl (fun ls hl => ?_)
    refine x_iconst (v := 0) hx hb dX4_isHere_17 (by decide) ?_
    refine x_istore (lv' := [(5, .int (0 : Int32)), (4, .int (0 : Int32)), (0, .ref (ad (0))), (1, .int p1), (2, .int p2), (3, .int p3)]) hx hb dX4_isHere_18 hl (by decide) rfl (fun ls hl => ?_)
    refine X.loop (I := fun (x : (Int32 × Int32)) g H locs => UM D ct ad (fun _ => True) S w H ∧ va_S (nA s.heap.size) s.heap H locs ∧ ∃ ls : Array Slot, g = F0 m 20 ls [] ∧ lv_has ls 6 [(0, .ref (ad (0))), (1, .int p1), (2, .int p2), (4, .int x.1), (5, .int x.2)]) (fun rc3 ih3 => ?_) FUEL _ _ _ _ ⟨hU, hS, _, rfl, lv_sub hl [2, 3, 4, 1, 0] rfl⟩
    rintro ⟨v1, v2⟩ _ H locs ⟨hU, hS, ls, rfl, hl⟩
    have hU : UM D ct ad (fun _ => True) S w H := hU
    have hl : lv_has ls 6 [(0, .ref (ad (0))), (1, .int p1), (2, .int p2), (4, .int v1), (5, .int v2)] := hl
    refine X.eqs (sp2 := sM_isHere_L20 p1 p2 S rc3 v1 v2) rfl ?_
    unfold sM_isHere_L20
    refine x_iload hx hb dX4_isHere_20 (lv_at hl 4 rfl) ?_
    refine x_aload_n hx hb dX4_isHere_22 rfl (lv_at hl 0 rfl) ?_
    refine gM_knotLong E hU dX4_isHere_23 ?_
    refine x_iload_n hx hb dX4_isHere_26 rfl (lv_at hl 1 rfl) ?_
    refine ux_ald (i := 3) (n := 8) E hU (by decide) rfl dX4_isHere_27 ?_
    refine x_icmp_ge (tgt := 54) hx hb dX4_isHere_28 (by decide) (fun hc => ?_) (fun hc => ?_)
    · refine x_iload hx hb dX4_isHere_54 (lv_at hl 3 rfl) ?_
      refine x_aload_n hx hb dX4_isHere_56 rfl (lv_at hl 0 rfl) ?_
      refine gM_knot E hU dX4_isHere_57 ?_
      refine x_iload_n hx hb dX4_isHere_60 rfl (lv_at hl 1 rfl) ?_
      refine ux_ald (i := 2) (n := 8) E hU (by decide) rfl dX4_isHere_61 ?_
      refine x_icmp_ne (tgt := 69) hx hb dX4_isHere_62 (by decide) (fun hc => ?_) (fun hc => ?_)
      · refine x_iconst (v := 0) hx hb dX4_isHere_69 (by decide) ?_
        exact x_zret hx hb hr hlk hS rfl rfl trivial dX4_isHere_70
      · refine x_iconst (v := 1) hx hb dX4_isHere_65 (by decide) ?_
        refine x_goto (tgt := 70) hx hb dX4_isHere_66 (by decide) ?_
        exact x_zret hx hb hr hlk hS rfl rfl trivial dX4_isHere_70
    · refine x_bipush (v := 10) hx hb dX4_isHere_31 (by decide) ?_
      refine x_iload hx hb dX4_isHere_33 (lv_at hl 3 rfl) ?_
      refine x_imul hx hb dX4_isHere_35 ?_
      refine x_aload_n hx hb dX4_isHere_36 rfl (lv_at hl 0 rfl) ?_
      refine gM_digits E hU dX4_isHere_37 ?_
      refine x_iload_n hx hb dX4_isHere_40 rfl (lv_at hl 2 rfl) ?_
      refine x_iload hx hb dX4_isHere_41 (lv_at hl 4 rfl) ?_
      refine x_iadd hx hb dX4_isHere_43 ?_
      refine ux_ald (i := 21) (n := 9) E hU (by decide) rfl dX4_isHere_44 ?_
      refine x_iadd hx hb dX4_isHere_45 ?_
      refine x_istore (lv' := [(4, .int (((10 : Int32) * v1) + (S 21 (p2 + v2).toNatClampNeg))), (0, .ref (ad (0))), (1, .int p1), (2, .int p2), (5, .int v2)]) hx hb dX4_isHere_46 hl (by decide) rfl (fun ls hl => ?_)
      refine x_iinc (v := (v2 + (1 : Int32))) (lv' := [(5, .int (v2 + (1 : Int32))), (4, .int (((10 : Int32) * v1) + (S 21 (p2 + v2).toNatClampNeg))), (0, .ref (ad (0))), (1, .int p1), (2, .int p2)]) (k := 4) hx hb dX4_isHere_48 hl rfl rfl (by decide) rfl (fun ls hl => ?_)
      refine x_goto (tgt := 20) hx hb dX4_isHere_51 (by decide) ?_
      exact ih3 ((((10 : Int32) * v1) + (S 21 (p2 + v2).toNatClampNeg)), (v2 + (1 : Int32))) _ _ _ ⟨hU, hS, _, rfl, lv_sub hl [2, 3, 4, 1, 0] rfl⟩
  · refine x_iconst (v := 0) hx hb dX4_isHere_12 (by decide) ?_
    exact x_zret hx hb hr hlk hS rfl rfl trivial dX4_isHere_13
section MK
variable {ρ : Type} {p : Program} {l : Launch} {e : Env} {R : Room} {s : State} {m : MethodId} {args : Array Value} {below : List Frame} {meth : Method} {c : Code} {H : Heap} {locs : List Loc} {cells slots : Nat} {Qf : ρ → State → Prop}
variable {cc : ByteArray} {pc nL : Nat} {ls : Array Slot} {rest : List Value}
variable {D : va_G} {ct : CT} {ad : Nat → Nat} {A A0 : Nat → Prop} {S : US} {w : Int64} {H0 : Heap}
theorem kM_isHere {p1 : Int32} {p2 : Int32} {p3 : Int32} (E : ME p m c cc nL s args RX4 D clW ct) (hU : UM D ct ad A S w H) (hS : va_S A0 H0 H locs) (hA0 : ∀ q, H0.size ≤ q → A0 q) (hR : 1 + 1 ≤ R.frames ∧ 8 + (6 + 11) + 32 ≤ R.locals) (hsize : ls.size = nL) (hW : (rest.map fun v => v.category).sum ≤ 8) (hdg : decode cc pc = .ok (.invokevirtual 417, 3)) (hf : cells ≤ R.cells ∧ slots ≤ R.slots) {kp : Bool → Option ρ} (kk : ∀ (o : Bool) (H1 : Heap) (locs1 : List Loc), UM D ct ad A S w H1 → va_S A0 H0 H1 locs1 → X p l e R s m args below meth c H1 locs1 cells slots Qf (kp o) (F0 m (pc + 3) ls (.int (bI o) :: rest))) : X p l e R s m args below meth c H locs cells slots Qf (callK (sM_isHere S p1 p2 p3) kp) (F0 m pc ls (.int p3 :: .int p2 :: .int p1 :: .ref (ad 0) :: rest)) := ucV_pure (i := 0) (As := [.int p1, .int p2, .int p3]) E hU hS hA0 (by decide) rfl rfl (fun sz o ho => mM_isHere l D ct ad S w p1 p2 p3 sz o ho) (cwV 3 E.1.2.2.2.2 (lw_V q2406 q2408 qs105 q119 q2409) rfl rfl rfl (by decide +kernel) hR) rfl hsize rfl hW hdg hf kk
end MK

set_option maxHeartbeats 4000000 in
theorem mM_readings (l : Launch) (D : va_G) (ct : CT) (ad : Nat → Nat) (S : US) (w : Int64) (p1 : Int32) (p2 : Int32) (sz : Nat) (o : (Int32 × US)) (ho : sM_readings S p1 p2 = some o) : Met l yX4_readings (ws_ yX4_readings cX4_readings 7 (some .int)) { frames := 3, cells := 0, slots := 0, locals := 76 } (mP D clW ct [.ref (ad (0)), .int p1, .int p2] sz (UM D ct ad (fun _ => True) S w)) (mC (some (.int o.1)) (UM D ct ad (fun _ => True) o.2 w) (uA 31 ad sz)) 0 0 (uA 31 ad sz) := by
  refine X.start (val := fun (o : (Int32 × US)) => some (.int o.1)) (Bt := fun (o : (Int32 × US)) => UM D ct ad (fun _ => True) o.2 w) (A := uA 31 ad sz) ho (by decide) (Nat.le_of_ble_eq_true rfl) rfl ?_
  intro p e s m args below meth c E hr hlk hnm hsz hU ls hl
  subst hsz
  obtain ⟨⟨hx, hb, hml, hown, hts⟩, hK, hJ⟩ := id E
  replace hU := hU.to (B := uA 31 ad s.heap.size) (fun i hi => Or.inl ⟨i, hi, rfl⟩)
  have hA0 : ∀ q, s.heap.size ≤ q → (uA 31 ad s.heap.size) q := fun q h => Or.inr h
  have hS : va_S (uA 31 ad s.heap.size) s.heap s.heap [] := va_S.rf
  unfold sM_readings
  refine x_aload_n hx hb dX4_readings_0 rfl (lv_at hl 0 rfl) ?_
  refine x_iconst (v := 0) hx hb dX4_readings_1 (by decide) ?_
  refine pM_thrown E hU hS dX4_readings_2 (fun S1 H locs hU hS => ?_)
  refine x_aload_n hx hb dX4_readings_5 rfl (lv_at hl 0 rfl) ?_
  refine x_iload_n hx hb dX4_readings_6 rfl (lv_at hl 2 rfl) ?_
  refine x_iconst (v := 1) hx hb dX4_readings_7 (by decide) ?_
  refine kM_isWhat E hU hS hA0 ⟨by decide, by decide⟩ hl.1 (Nat.le_of_ble_eq_true rfl) dX4_readings_8 ⟨Nat.le_refl _, Nat.le_refl _⟩ (fun o2 H locs hU hS => ?_)
  refine x_if_eq (tgt := 30) hx hb dX4_readings_11 (by decide) (fun hc => ?_) (fun hc => ?_)
  · refine x_iconst (v := 0) hx hb dX4_readings_30 (by decide) ?_
    exact x_iret hx hb hr hlk hS rfl (hU.to fun _ _ => trivial) dX4_readings_31
  · refine x_aload_n hx hb dX4_readings_14 rfl (lv_at hl 0 rfl) ?_
    refine x_iload_n hx hb dX4_readings_15 rfl (lv_at hl 1 rfl) ?_
    refine x_iconst (v := 0) hx hb dX4_readings_16 (by decide) ?_
    refine x_ldcw hx hb hown (hts _ q2405) dX4_readings_17 ?_
    refine kM_within E hS hA0 ⟨by decide, by decide⟩ hl.1 (Nat.le_of_ble_eq_true rfl) dX4_readings_20 ⟨Nat.le_refl _, Nat.le_refl _⟩ (fun o3 H locs hk hS => ?_)
    replace hU := hU.kept (fun i hi => hk _ (hU.lt hi))
    refine x_iconst (v := 2) hx hb dX4_readings_23 (by decide) ?_
    refine kM_right E hU hS hA0 ⟨by decide, by decide⟩ hl.1 (Nat.le_of_ble_eq_true rfl) dX4_readings_24 ⟨Nat.le_refl _, Nat.le_refl _⟩ (fun o4 H locs hU hS => ?_)
    refine x_if_ne (tgt := 32) hx hb dX4_readings_27 (by decide) (fun hc => ?_) (fun hc => ?_)
    · refine x_iconst (v := 1) hx hb dX4_readings_32 (by decide) ?_
      refine x_istore_n (lv' := [(3, .int (1 : Int32)), (0, .ref (ad (0))), (1, .int p1), (2, .int p2)]) hx hb dX4_readings_33 rfl hl (by decide) rfl (fun ls hl => ?_)
      refine x_iload_n hx hb dX4_readings_34 rfl (lv_at hl 2 rfl) ?_
      refine x_bipush (v := 10) hx hb dX4_readings_35 (by decide) ?_
      refine x_idiv hx hb dX4_readings_37 (by decide) ?_
      refine x_istore (lv' := [(4, .int (p1 / (10 : Int32))), (3, .int (1 : Int32)), (0, .ref (ad (0))), (1, .int p1), (2, .int p2)]) hx hb dX4_readings_38 hl (by decide) rfl (fun ls hl => ?_)
      refine X.loop (I := fun (x : (Int32 × Int32)) g H locs => UM D ct ad (uA 31 ad s.heap.size) o4.2 w H ∧ va_S (uA 31 ad s.heap.size) s.heap H locs ∧ ∃ ls : Array Slot, g = F0 m 40 ls [] ∧ lv_has ls 7 [(0, .ref (ad (0))), (1, .int p1), (2, .int p2), (3, .int x.1), (4, .int x.2)]) (fun rc7 ih7 => ?_) FUEL _ _ _ _ ⟨hU, hS, _, rfl, lv_sub hl [2, 3, 4, 1, 0] rfl⟩
      rintro ⟨v5, v6⟩ _ H locs ⟨hU, hS, ls, rfl, hl⟩
      have hU : UM D ct ad (uA 31 ad s.heap.size) o4.2 w H := hU
      have hl : lv_has ls 7 [(0, .ref (ad (0))), (1, .int p1), (2, .int p2), (3, .int v5), (4, .int v6)] := hl
      refine X.eqs (sp2 := sM_readings_L40 p1 p2 o4 rc7 v5 v6) rfl ?_
      unfold sM_readings_L40
      refine x_iload hx hb dX4_readings_40 (lv_at hl 4 rfl) ?_
      refine x_if_le (tgt := 58) hx hb dX4_readings_42 (by decide) (fun hc => ?_) (fun hc => ?_)
      · refine x_iload_n hx hb dX4_readings_58 rfl (lv_at hl 1 rfl) ?_
        refine x_istore (lv' := [(4, .int p1), (0, .ref (ad (0))), (1, .int p1), (2, .int p2), (3, .int v5)]) hx hb dX4_readings_59 hl (by decide) rfl (fun ls hl => ?_)
        refine x_iload_n hx hb dX4_readings_61 rfl (lv_at hl 4 rfl) ?_
        refine x_iconst (v := 1) hx hb dX4_readings_62 (by decide) ?_
        refine x_isub hx hb dX4_readings_63 ?_
        refine x_istore (lv' := [(5, .int (v5 - (1 : Int32))), (4, .int p1), (0, .ref (ad (0))), (1, .int p1), (2, .int p2), (3, .int v5)]) hx hb dX4_readings_64 hl (by decide) rfl (fun ls hl => ?_)
        refine X.loop (I := fun (x : (US × Int32 × Int32)) g H locs => UM D ct ad (uA 31 ad s.heap.size) x.1 w H ∧ va_S (uA 31 ad s.heap.size) s.heap H locs ∧ ∃ ls : Array Slot, g = F0 m 66 ls [] ∧ lv_has ls 7 [(0, .ref (ad (0))), (2, .int p2), (3, .int v5), (4, .int x.2.1), (5, .int x.2.2)]) (fun rc11 ih11 => ?_) FUEL _ _ _ _ ⟨hU, hS, _, rfl, lv_sub hl [2, 4, 5, 1, 0] rfl⟩
        rintro ⟨S8, v9, v10⟩ _ H locs ⟨hU, hS, ls, rfl, hl⟩
        have hU : UM D ct ad (uA 31 ad s.heap.size) S8 w H := hU
        have hl : lv_has ls 7 [(0, .ref (ad (0))), (2, .int p2), (3, .int v5), (4, .int v9), (5, .int v10)] := hl
        refine X.eqs (sp2 := sM_readings_L66 p2 v5 rc11 S8 v9 v10) rfl ?_
        unfold sM_readings_L66
        refine x_iload hx hb dX4_readings_66 (lv_at hl 4 rfl) ?_
        refine x_if_lt (tgt := 96) hx hb dX4_readings_68 (by decide) (fun hc => ?_) (fun hc => ?_)
        · refine x_iload_n hx hb dX4_readings_96 rfl (lv_at hl 2 rfl) ?_
          refine x_istore (lv' := [(5, .int v5), (0, .ref (ad (0))), (2, .int p2), (3, .int v5), (4, .int v9)]) hx hb dX4_readings_97 hl (by decide) rfl (fun ls hl => ?_)
          refine X.loop (I := fun (x : (US × Int32)) g H locs => UM D ct ad (uA 31 ad s.heap.size) x.1 w H ∧ va_S (uA 31 ad s.heap.size) s.heap H locs ∧ ∃ ls : Array Slot, g = F0 m 99 ls [] ∧ lv_has ls 7 [(0, .ref (ad (0))), (2, .int p2), (3, .int v5), (5, .int x.2)]) (fun rc14 ih14 => ?_) FUEL _ _ _ _ ⟨hU, hS, _, rfl, lv_sub hl [1, 2, 3, 0] rfl⟩
          rintro ⟨S12, v13⟩ _ H locs ⟨hU, hS, ls, rfl, hl⟩
          have hU : UM D ct ad (uA 31 ad s.heap.size) S12 w H := hU
          have hl : lv_has ls 7 [(0, .ref (ad (0))), (2, .int p2), (3, .int v5), (5, .int v13)] := hl
          refine X.eqs (sp2 := sM_readings_L99 p2 v5 rc14 S12 v13) rfl ?_
          unfold sM_readings_L99
          refine x_iload hx hb dX4_readings_99 (lv_at hl 3 rfl) ?_
          refine x_if_lt (tgt := 246) hx hb dX4_readings_101 (by decide) (fun hc => ?_) (fun hc => ?_)
          · refine x_iload_n hx hb dX4_readings_246 rfl (lv_at hl 1 rfl) ?_
            refine x_if_ne (tgt := 259) hx hb dX4_readings_247 (by decide) (fun hc => ?_) (fun hc => ?_)
            · refine x_aload_n hx hb dX4_readings_259 rfl (lv_at hl 0 rfl) ?_
              refine gM_least E hU dX4_readings_260 ?_
              refine x_iconst (v := 0) hx hb dX4_readings_263 (by decide) ?_
              refine ux_ald (i := 23) (n := 10) E hU (by decide) rfl dX4_readings_264 ?_
              refine x_ldcw hx hb hown (hts _ q2352) dX4_readings_265 ?_
              refine x_icmp_lt (tgt := 275) hx hb dX4_readings_268 (by decide) (fun hc => ?_) (fun hc => ?_)
              · refine x_aload_n hx hb dX4_readings_275 rfl (lv_at hl 0 rfl) ?_
                refine gM_least E hU dX4_readings_276 ?_
                refine x_iconst (v := 0) hx hb dX4_readings_279 (by decide) ?_
                refine ux_ald (i := 23) (n := 10) E hU (by decide) rfl dX4_readings_280 ?_
                exact x_iret hx hb hr hlk hS rfl (hU.to fun _ _ => trivial) dX4_readings_281
              · refine x_iconst (v := -1) hx hb dX4_readings_271 (by decide) ?_
                refine x_goto (tgt := 281) hx hb dX4_readings_272 (by decide) ?_
                exact x_iret hx hb hr hlk hS rfl (hU.to fun _ _ => trivial) dX4_readings_281
            · refine x_aload_n hx hb dX4_readings_250 rfl (lv_at hl 0 rfl) ?_
              refine gM_ways E hU dX4_readings_251 ?_
              refine x_iconst (v := 0) hx hb dX4_readings_254 (by decide) ?_
              refine ux_ald (i := 22) (n := 10) E hU (by decide) rfl dX4_readings_255 ?_
              refine x_goto (tgt := 281) hx hb dX4_readings_256 (by decide) ?_
              exact x_iret hx hb hr hlk hS rfl (hU.to fun _ _ => trivial) dX4_readings_281
          · refine x_aload_n hx hb dX4_readings_104 rfl (lv_at hl 0 rfl) ?_
            refine gM_ways E hU dX4_readings_105 ?_
            refine x_iload hx hb dX4_readings_108 (lv_at hl 3 rfl) ?_
            refine x_iload hx hb dX4_readings_110 (lv_at hl 3 rfl) ?_
            refine x_iload_n hx hb dX4_readings_112 rfl (lv_at hl 2 rfl) ?_
            refine X.join2 (fun (x : Int32) g H locs => UM D ct ad (uA 31 ad s.heap.size) S12 w H ∧ va_S (uA 31 ad s.heap.size) s.heap H locs ∧ ∃ ls : Array Slot, g = F0 m 121 ls [.int x, .int v13, .ref (ad (22))] ∧ lv_has ls 7 [(0, .ref (ad (0))), (2, .int p2), (3, .int v5), (5, .int v13)]) ?_ (fun j16 hj16 => ?_)
            · rintro y15 _ H locs ⟨hU, hS, ls, rfl, hl⟩
              refine X.eqs (sp2 := sM_readings_J121 v5 S12 v13 rc14 y15) rfl ?_
              unfold sM_readings_J121
              refine ux_ast (i := 22) (n := 10) E hU hS (by decide) rfl dX4_readings_121 (fun S17 H locs hU hS => ?_)
              refine x_aload_n hx hb dX4_readings_122 rfl (lv_at hl 0 rfl) ?_
              refine gM_least E hU dX4_readings_123 ?_
              refine x_iload hx hb dX4_readings_126 (lv_at hl 3 rfl) ?_
              refine x_iload hx hb dX4_readings_128 (lv_at hl 3 rfl) ?_
              refine x_iload_n hx hb dX4_readings_130 rfl (lv_at hl 2 rfl) ?_
              refine X.join2 (fun (x : Int32) g H locs => UM D ct ad (uA 31 ad s.heap.size) S17 w H ∧ va_S (uA 31 ad s.heap.size) s.heap H locs ∧ ∃ ls : Array Slot, g = F0 m 141 ls [.int x, .int v13, .ref (ad (23))] ∧ lv_has ls 7 [(0, .ref (ad (0))), (2, .int p2), (3, .int v5), (5, .int v13)]) ?_ (fun j19 hj19 => ?_)
              · rintro y18 _ H locs ⟨hU, hS, ls, rfl, hl⟩
                refine X.eqs (sp2 := sM_readings_J141 v5 v13 rc14 S17 y18) rfl ?_
                unfold sM_readings_J141
                refine ux_ast (i := 23) (n := 10) E hU hS (by decide) rfl dX4_readings_141 (fun S20 H locs hU hS => ?_)
                refine x_iconst (v := 0) hx hb dX4_readings_142 (by decide) ?_
                refine x_istore (lv' := [(6, .int (0 : Int32)), (0, .ref (ad (0))), (2, .int p2), (3, .int v5), (5, .int v13)]) hx hb dX4_readings_143 hl (by decide) rfl (fun ls hl => ?_)
                refine X.loop (I := fun (x : (US × Int32)) g H locs => UM D ct ad (uA 31 ad s.heap.size) x.1 w H ∧ va_S (uA 31 ad s.heap.size) s.heap H locs ∧ ∃ ls : Array Slot, g = F0 m 145 ls [] ∧ lv_has ls 7 [(0, .ref (ad (0))), (2, .int p2), (3, .int v5), (5, .int v13), (6, .int x.2)]) (fun rc23 ih23 => ?_) FUEL _ _ _ _ ⟨hU, hS, _, rfl, lv_sub hl [1, 2, 3, 4, 0] rfl⟩
                rintro ⟨S21, v22⟩ _ H locs ⟨hU, hS, ls, rfl, hl⟩
                have hU : UM D ct ad (uA 31 ad s.heap.size) S21 w H := hU
                have hl : lv_has ls 7 [(0, .ref (ad (0))), (2, .int p2), (3, .int v5), (5, .int v13), (6, .int v22)] := hl
                refine X.eqs (sp2 := sM_readings_L145 v5 v13 rc14 rc23 S21 v22) rfl ?_
                unfold sM_readings_L145
                refine x_iload hx hb dX4_readings_145 (lv_at hl 4 rfl) ?_
                refine x_aload_n hx hb dX4_readings_147 rfl (lv_at hl 0 rfl) ?_
                refine gM_knots E hU dX4_readings_148 ?_
                refine x_icmp_ge (tgt := 240) hx hb dX4_readings_151 (by decide) (fun hc => ?_) (fun hc => ?_)
                · refine x_iinc (v := (v13 + (-1 : Int32))) (lv' := [(5, .int (v13 + (-1 : Int32))), (0, .ref (ad (0))), (2, .int p2), (3, .int v5), (6, .int v22)]) (k := 3) hx hb dX4_readings_240 hl rfl rfl (by decide) rfl (fun ls hl => ?_)
                  refine x_goto (tgt := 99) hx hb dX4_readings_243 (by decide) ?_
                  exact ih14 (S21, (v13 + (-1 : Int32))) _ _ _ ⟨hU, hS, _, rfl, lv_sub hl [1, 2, 3, 0] rfl⟩
                · refine x_iload hx hb dX4_readings_154 (lv_at hl 3 rfl) ?_
                  refine x_iload_n hx hb dX4_readings_156 rfl (lv_at hl 2 rfl) ?_
                  refine x_icmp_eq (tgt := 234) hx hb dX4_readings_157 (by decide) (fun hc => ?_) (fun hc => ?_)
                  · refine x_iinc (v := (v22 + (1 : Int32))) (lv' := [(6, .int (v22 + (1 : Int32))), (0, .ref (ad (0))), (2, .int p2), (3, .int v5), (5, .int v13)]) (k := 4) hx hb dX4_readings_234 hl rfl rfl (by decide) rfl (fun ls hl => ?_)
                    refine x_goto (tgt := 145) hx hb dX4_readings_237 (by decide) ?_
                    exact ih23 (S21, (v22 + (1 : Int32))) _ _ _ ⟨hU, hS, _, rfl, lv_sub hl [1, 2, 3, 4, 0] rfl⟩
                  · refine x_aload_n hx hb dX4_readings_160 rfl (lv_at hl 0 rfl) ?_
                    refine x_iload hx hb dX4_readings_161 (lv_at hl 4 rfl) ?_
                    refine x_iload hx hb dX4_readings_163 (lv_at hl 3 rfl) ?_
                    refine x_iload_n hx hb dX4_readings_165 rfl (lv_at hl 2 rfl) ?_
                    refine kM_isHere E hU hS hA0 ⟨by decide, by decide⟩ hl.1 (Nat.le_of_ble_eq_true rfl) dX4_readings_166 ⟨Nat.le_refl _, Nat.le_refl _⟩ (fun o24 H locs hU hS => ?_)
                    refine x_if_ne (tgt := 175) hx hb dX4_readings_169 (by decide) (fun hc => ?_) (fun hc => ?_)
                    · refine x_aload_n hx hb dX4_readings_175 rfl (lv_at hl 0 rfl) ?_
                      refine gM_ways E hU dX4_readings_176 ?_
                      refine x_iload hx hb dX4_readings_179 (lv_at hl 3 rfl) ?_
                      refine x_dup2_11 hx hb dX4_readings_181 rfl rfl ?_
                      refine ux_ald (i := 22) (n := 10) E hU (by decide) rfl dX4_readings_182 ?_
                      refine x_aload_n hx hb dX4_readings_183 rfl (lv_at hl 0 rfl) ?_
                      refine gM_ways E hU dX4_readings_184 ?_
                      refine x_iload hx hb dX4_readings_187 (lv_at hl 3 rfl) ?_
                      refine x_aload_n hx hb dX4_readings_189 rfl (lv_at hl 0 rfl) ?_
                      refine gM_knotLong E hU dX4_readings_190 ?_
                      refine x_iload hx hb dX4_readings_193 (lv_at hl 4 rfl) ?_
                      refine ux_ald (i := 3) (n := 8) E hU (by decide) rfl dX4_readings_195 ?_
                      refine x_iadd hx hb dX4_readings_196 ?_
                      refine ux_ald (i := 22) (n := 10) E hU (by decide) rfl dX4_readings_197 ?_
                      refine x_iadd hx hb dX4_readings_198 ?_
                      refine ux_ast (i := 22) (n := 10) E hU hS (by decide) rfl dX4_readings_199 (fun S25 H locs hU hS => ?_)
                      refine x_aload_n hx hb dX4_readings_200 rfl (lv_at hl 0 rfl) ?_
                      refine gM_least E hU dX4_readings_201 ?_
                      refine x_iload hx hb dX4_readings_204 (lv_at hl 3 rfl) ?_
                      refine x_aload_n hx hb dX4_readings_206 rfl (lv_at hl 0 rfl) ?_
                      refine gM_least E hU dX4_readings_207 ?_
                      refine x_iload hx hb dX4_readings_210 (lv_at hl 3 rfl) ?_
                      refine ux_ald (i := 23) (n := 10) E hU (by decide) rfl dX4_readings_212 ?_
                      refine x_iconst (v := 1) hx hb dX4_readings_213 (by decide) ?_
                      refine x_aload_n hx hb dX4_readings_214 rfl (lv_at hl 0 rfl) ?_
                      refine gM_least E hU dX4_readings_215 ?_
                      refine x_iload hx hb dX4_readings_218 (lv_at hl 3 rfl) ?_
                      refine x_aload_n hx hb dX4_readings_220 rfl (lv_at hl 0 rfl) ?_
                      refine gM_knotLong E hU dX4_readings_221 ?_
                      refine x_iload hx hb dX4_readings_224 (lv_at hl 4 rfl) ?_
                      refine ux_ald (i := 3) (n := 8) E hU (by decide) rfl dX4_readings_226 ?_
                      refine x_iadd hx hb dX4_readings_227 ?_
                      refine ux_ald (i := 23) (n := 10) E hU (by decide) rfl dX4_readings_228 ?_
                      refine x_iadd hx hb dX4_readings_229 ?_
                      refine kM_lesser E hS hA0 ⟨by decide, by decide⟩ hl.1 (Nat.le_of_ble_eq_true rfl) dX4_readings_230 ⟨Nat.le_refl _, Nat.le_refl _⟩ (fun o26 H locs hk hS => ?_)
                      replace hU := hU.kept (fun i hi => hk _ (hU.lt hi))
                      refine ux_ast (i := 23) (n := 10) E hU hS (by decide) rfl dX4_readings_233 (fun S27 H locs hU hS => ?_)
                      refine x_iinc (v := (v22 + (1 : Int32))) (lv' := [(6, .int (v22 + (1 : Int32))), (0, .ref (ad (0))), (2, .int p2), (3, .int v5), (5, .int v13)]) (k := 4) hx hb dX4_readings_234 hl rfl rfl (by decide) rfl (fun ls hl => ?_)
                      refine x_goto (tgt := 145) hx hb dX4_readings_237 (by decide) ?_
                      exact ih23 (S27, (v22 + (1 : Int32))) _ _ _ ⟨hU, hS, _, rfl, lv_sub hl [1, 2, 3, 4, 0] rfl⟩
                    · refine x_goto (tgt := 234) hx hb dX4_readings_172 (by decide) ?_
                      refine x_iinc (v := (v22 + (1 : Int32))) (lv' := [(6, .int (v22 + (1 : Int32))), (0, .ref (ad (0))), (2, .int p2), (3, .int v5), (5, .int v13)]) (k := 4) hx hb dX4_readings_234 hl rfl rfl (by decide) rfl (fun ls hl => ?_)
                      refine x_goto (tgt := 145) hx hb dX4_readings_237 (by decide) ?_
                      exact ih23 (S21, (v22 + (1 : Int32))) _ _ _ ⟨hU, hS, _, rfl, lv_sub hl [1, 2, 3, 4, 0] rfl⟩
              · refine x_icmp_ne (tgt := 138) hx hb dX4_readings_131 (by decide) (fun hc => ?_) (fun hc => ?_)
                · refine x_ldcw hx hb hown (hts _ q2352) dX4_readings_138 ?_
                  exact hj19 (99999 : Int32) _ _ _ ⟨hU, hS, _, rfl, lv_sub hl [0, 1, 2, 3] rfl⟩
                · refine x_iconst (v := 0) hx hb dX4_readings_134 (by decide) ?_
                  refine x_goto (tgt := 141) hx hb dX4_readings_135 (by decide) ?_
                  exact hj19 (0 : Int32) _ _ _ ⟨hU, hS, _, rfl, lv_sub hl [0, 1, 2, 3] rfl⟩
            · refine x_icmp_ne (tgt := 120) hx hb dX4_readings_113 (by decide) (fun hc => ?_) (fun hc => ?_)
              · refine x_iconst (v := 0) hx hb dX4_readings_120 (by decide) ?_
                exact hj16 (0 : Int32) _ _ _ ⟨hU, hS, _, rfl, lv_sub hl [0, 1, 2, 3] rfl⟩
              · refine x_iconst (v := 1) hx hb dX4_readings_116 (by decide) ?_
                refine x_goto (tgt := 121) hx hb dX4_readings_117 (by decide) ?_
                exact hj16 (1 : Int32) _ _ _ ⟨hU, hS, _, rfl, lv_sub hl [0, 1, 2, 3] rfl⟩
        · refine x_aload_n hx hb dX4_readings_71 rfl (lv_at hl 0 rfl) ?_
          refine gM_digits E hU dX4_readings_72 ?_
          refine x_iload hx hb dX4_readings_75 (lv_at hl 4 rfl) ?_
          refine x_iload hx hb dX4_readings_77 (lv_at hl 3 rfl) ?_
          refine x_bipush (v := 10) hx hb dX4_readings_79 (by decide) ?_
          refine x_irem hx hb dX4_readings_81 (by decide) ?_
          refine ux_ast (i := 21) (n := 9) E hU hS (by decide) rfl dX4_readings_82 (fun S28 H locs hU hS => ?_)
          refine x_iload hx hb dX4_readings_83 (lv_at hl 3 rfl) ?_
          refine x_bipush (v := 10) hx hb dX4_readings_85 (by decide) ?_
          refine x_idiv hx hb dX4_readings_87 (by decide) ?_
          refine x_istore (lv' := [(4, .int (v9 / (10 : Int32))), (0, .ref (ad (0))), (2, .int p2), (3, .int v5), (5, .int v10)]) hx hb dX4_readings_88 hl (by decide) rfl (fun ls hl => ?_)
          refine x_iinc (v := (v10 + (-1 : Int32))) (lv' := [(5, .int (v10 + (-1 : Int32))), (4, .int (v9 / (10 : Int32))), (0, .ref (ad (0))), (2, .int p2), (3, .int v5)]) (k := 4) hx hb dX4_readings_90 hl rfl rfl (by decide) rfl (fun ls hl => ?_)
          refine x_goto (tgt := 66) hx hb dX4_readings_93 (by decide) ?_
          exact ih11 (S28, (v9 / (10 : Int32)), (v10 + (-1 : Int32))) _ _ _ ⟨hU, hS, _, rfl, lv_sub hl [2, 3, 4, 1, 0] rfl⟩
      · refine x_iinc (v := (v5 + (1 : Int32))) (lv' := [(3, .int (v5 + (1 : Int32))), (0, .ref (ad (0))), (1, .int p1), (2, .int p2), (4, .int v6)]) (k := 3) hx hb dX4_readings_45 hl rfl rfl (by decide) rfl (fun ls hl => ?_)
        refine x_iload hx hb dX4_readings_48 (lv_at hl 4 rfl) ?_
        refine x_bipush (v := 10) hx hb dX4_readings_50 (by decide) ?_
        refine x_idiv hx hb dX4_readings_52 (by decide) ?_
        refine x_istore (lv' := [(4, .int (v6 / (10 : Int32))), (3, .int (v5 + (1 : Int32))), (0, .ref (ad (0))), (1, .int p1), (2, .int p2)]) hx hb dX4_readings_53 hl (by decide) rfl (fun ls hl => ?_)
        refine x_goto (tgt := 40) hx hb dX4_readings_55 (by decide) ?_
        exact ih7 ((v5 + (1 : Int32)), (v6 / (10 : Int32))) _ _ _ ⟨hU, hS, _, rfl, lv_sub hl [2, 3, 4, 1, 0] rfl⟩
    · refine x_iconst (v := 0) hx hb dX4_readings_30 (by decide) ?_
      exact x_iret hx hb hr hlk hS rfl (hU.to fun _ _ => trivial) dX4_readings_31

set_option maxHeartbeats 4000000 in
theorem mM_see (l : Launch) (D : va_G) (ct : CT) (ad : Nat → Nat) (S : US) (w : Int64) (p1 : Int32) (p2 : Int32) (p3 : Int32) (sz : Nat) (o : (Int32 × US)) (ho : sM_see S p1 p2 p3 = some o) : Met l yX4_see (ws_ yX4_see cX4_see 4 (some .int)) { frames := 3, cells := 0, slots := 0, locals := 75 } (mP D clW ct [.ref (ad (0)), .int p1, .int p2, .int p3] sz (UM D ct ad (fun _ => True) S w)) (mC (some (.int o.1)) (UM D ct ad (fun _ => True) o.2 w) (uA 31 ad sz)) 0 0 (uA 31 ad sz) := by
  refine X.start (val := fun (o : (Int32 × US)) => some (.int o.1)) (Bt := fun (o : (Int32 × US)) => UM D ct ad (fun _ => True) o.2 w) (A := uA 31 ad sz) ho (by decide) (Nat.le_of_ble_eq_true rfl) rfl ?_
  intro p e s m args below meth c E hr hlk hnm hsz hU ls hl
  subst hsz
  obtain ⟨⟨hx, hb, hml, hown, hts⟩, hK, hJ⟩ := id E
  replace hU := hU.to (B := uA 31 ad s.heap.size) (fun i hi => Or.inl ⟨i, hi, rfl⟩)
  have hA0 : ∀ q, s.heap.size ≤ q → (uA 31 ad s.heap.size) q := fun q h => Or.inr h
  have hS : va_S (uA 31 ad s.heap.size) s.heap s.heap [] := va_S.rf
  unfold sM_see
  refine x_aload_n hx hb dX4_see_0 rfl (lv_at hl 0 rfl) ?_
  refine x_iconst (v := 0) hx hb dX4_see_1 (by decide) ?_
  refine pM_thrown E hU hS dX4_see_2 (fun S1 H locs hU hS => ?_)
  refine x_aload_n hx hb dX4_see_5 rfl (lv_at hl 0 rfl) ?_
  refine x_iload_n hx hb dX4_see_6 rfl (lv_at hl 1 rfl) ?_
  refine kM_isStretch E hU hS hA0 ⟨by decide, by decide⟩ hl.1 (Nat.le_of_ble_eq_true rfl) dX4_see_7 ⟨Nat.le_refl _, Nat.le_refl _⟩ (fun o2 H locs hU hS => ?_)
  refine x_if_ne (tgt := 15) hx hb dX4_see_10 (by decide) (fun hc => ?_) (fun hc => ?_)
  · refine x_aload_n hx hb dX4_see_15 rfl (lv_at hl 0 rfl) ?_
    refine gM_seenMany E hU dX4_see_16 ?_
    refine x_bipush (v := 8) hx hb dX4_see_19 (by decide) ?_
    refine x_icmp_eq (tgt := 44) hx hb dX4_see_21 (by decide) (fun hc => ?_) (fun hc => ?_)
    · refine x_aload_n hx hb dX4_see_44 rfl (lv_at hl 0 rfl) ?_
      refine x_iconst (v := 2) hx hb dX4_see_45 (by decide) ?_
      refine kM_refuses E hU hS hA0 ⟨by decide, by decide⟩ hl.1 (Nat.le_of_ble_eq_true rfl) dX4_see_46 ⟨Nat.le_refl _, Nat.le_refl _⟩ (fun o3 H locs hU hS => ?_)
      exact x_iret hx hb hr hlk hS rfl (hU.to fun _ _ => trivial) dX4_see_49
    · refine x_iload_n hx hb dX4_see_24 rfl (lv_at hl 2 rfl) ?_
      refine x_iconst (v := 0) hx hb dX4_see_25 (by decide) ?_
      refine x_bipush (v := 20) hx hb dX4_see_26 (by decide) ?_
      refine kM_within E hS hA0 ⟨by decide, by decide⟩ hl.1 (Nat.le_of_ble_eq_true rfl) dX4_see_28 ⟨Nat.le_refl _, Nat.le_refl _⟩ (fun o4 H locs hk hS => ?_)
      replace hU := hU.kept (fun i hi => hk _ (hU.lt hi))
      refine x_if_eq (tgt := 44) hx hb dX4_see_31 (by decide) (fun hc => ?_) (fun hc => ?_)
      · refine x_aload_n hx hb dX4_see_44 rfl (lv_at hl 0 rfl) ?_
        refine x_iconst (v := 2) hx hb dX4_see_45 (by decide) ?_
        refine kM_refuses E hU hS hA0 ⟨by decide, by decide⟩ hl.1 (Nat.le_of_ble_eq_true rfl) dX4_see_46 ⟨Nat.le_refl _, Nat.le_refl _⟩ (fun o5 H locs hU hS => ?_)
        exact x_iret hx hb hr hlk hS rfl (hU.to fun _ _ => trivial) dX4_see_49
      · refine x_iload_n hx hb dX4_see_34 rfl (lv_at hl 3 rfl) ?_
        refine x_iconst (v := 0) hx hb dX4_see_35 (by decide) ?_
        refine x_bipush (v := 99) hx hb dX4_see_36 (by decide) ?_
        refine kM_within E hS hA0 ⟨by decide, by decide⟩ hl.1 (Nat.le_of_ble_eq_true rfl) dX4_see_38 ⟨Nat.le_refl _, Nat.le_refl _⟩ (fun o6 H locs hk hS => ?_)
        replace hU := hU.kept (fun i hi => hk _ (hU.lt hi))
        refine x_if_ne (tgt := 50) hx hb dX4_see_41 (by decide) (fun hc => ?_) (fun hc => ?_)
        · refine x_aload_n hx hb dX4_see_50 rfl (lv_at hl 0 rfl) ?_
          refine gM_seen E hU dX4_see_51 ?_
          refine x_iconst (v := 3) hx hb dX4_see_54 (by decide) ?_
          refine x_aload_n hx hb dX4_see_55 rfl (lv_at hl 0 rfl) ?_
          refine gM_seenMany E hU dX4_see_56 ?_
          refine x_imul hx hb dX4_see_59 ?_
          refine x_iload_n hx hb dX4_see_60 rfl (lv_at hl 1 rfl) ?_
          refine ux_ast (i := 24) (n := 24) E hU hS (by decide) rfl dX4_see_61 (fun S7 H locs hU hS => ?_)
          refine x_aload_n hx hb dX4_see_62 rfl (lv_at hl 0 rfl) ?_
          refine gM_seen E hU dX4_see_63 ?_
          refine x_iconst (v := 3) hx hb dX4_see_66 (by decide) ?_
          refine x_aload_n hx hb dX4_see_67 rfl (lv_at hl 0 rfl) ?_
          refine gM_seenMany E hU dX4_see_68 ?_
          refine x_imul hx hb dX4_see_71 ?_
          refine x_iconst (v := 1) hx hb dX4_see_72 (by decide) ?_
          refine x_iadd hx hb dX4_see_73 ?_
          refine x_iload_n hx hb dX4_see_74 rfl (lv_at hl 2 rfl) ?_
          refine ux_ast (i := 24) (n := 24) E hU hS (by decide) rfl dX4_see_75 (fun S8 H locs hU hS => ?_)
          refine x_aload_n hx hb dX4_see_76 rfl (lv_at hl 0 rfl) ?_
          refine gM_seen E hU dX4_see_77 ?_
          refine x_iconst (v := 3) hx hb dX4_see_80 (by decide) ?_
          refine x_aload_n hx hb dX4_see_81 rfl (lv_at hl 0 rfl) ?_
          refine gM_seenMany E hU dX4_see_82 ?_
          refine x_imul hx hb dX4_see_85 ?_
          refine x_iconst (v := 2) hx hb dX4_see_86 (by decide) ?_
          refine x_iadd hx hb dX4_see_87 ?_
          refine x_iload_n hx hb dX4_see_88 rfl (lv_at hl 3 rfl) ?_
          refine ux_ast (i := 24) (n := 24) E hU hS (by decide) rfl dX4_see_89 (fun S9 H locs hU hS => ?_)
          refine x_aload_n hx hb dX4_see_90 rfl (lv_at hl 0 rfl) ?_
          refine x_dup hx hb dX4_see_91 rfl ?_
          refine gM_seenMany E hU dX4_see_92 ?_
          refine x_iconst (v := 1) hx hb dX4_see_95 (by decide) ?_
          refine x_iadd hx hb dX4_see_96 ?_
          refine pM_seenMany E hU hS dX4_see_97 (fun S10 H locs hU hS => ?_)
          refine x_aload_n hx hb dX4_see_100 rfl (lv_at hl 0 rfl) ?_
          refine gM_seenMany E hU dX4_see_101 ?_
          exact x_iret hx hb hr hlk hS rfl (hU.to fun _ _ => trivial) dX4_see_104
        · refine x_aload_n hx hb dX4_see_44 rfl (lv_at hl 0 rfl) ?_
          refine x_iconst (v := 2) hx hb dX4_see_45 (by decide) ?_
          refine kM_refuses E hU hS hA0 ⟨by decide, by decide⟩ hl.1 (Nat.le_of_ble_eq_true rfl) dX4_see_46 ⟨Nat.le_refl _, Nat.le_refl _⟩ (fun o11 H locs hU hS => ?_)
          exact x_iret hx hb hr hlk hS rfl (hU.to fun _ _ => trivial) dX4_see_49
  · refine x_iconst (v := 0) hx hb dX4_see_13 (by decide) ?_
    exact x_iret hx hb hr hlk hS rfl (hU.to fun _ _ => trivial) dX4_see_14

set_option maxHeartbeats 4000000 in
theorem mM_forget (l : Launch) (D : va_G) (ct : CT) (ad : Nat → Nat) (S : US) (w : Int64) (sz : Nat) (o : US) (ho : sM_forget S = some o) : Met l yX4_forget (ws_ yX4_forget cX4_forget 1 none) { frames := 1, cells := 0, slots := 0, locals := 32 } (mP D clW ct [.ref (ad (0))] sz (UM D ct ad (fun _ => True) S w)) (mC (none) (UM D ct ad (fun _ => True) o w) (uA 31 ad sz)) 0 0 (uA 31 ad sz) := by
  refine X.start (val := fun (o : US) => none) (Bt := fun (o : US) => UM D ct ad (fun _ => True) o w) (A := uA 31 ad sz) ho (by decide) (Nat.le_of_ble_eq_true rfl) rfl ?_
  intro p e s m args below meth c E hr hlk hnm hsz hU ls hl
  subst hsz
  obtain ⟨⟨hx, hb, hml, hown, hts⟩, hK, hJ⟩ := id E
  replace hU := hU.to (B := uA 31 ad s.heap.size) (fun i hi => Or.inl ⟨i, hi, rfl⟩)
  have hA0 : ∀ q, s.heap.size ≤ q → (uA 31 ad s.heap.size) q := fun q h => Or.inr h
  have hS : va_S (uA 31 ad s.heap.size) s.heap s.heap [] := va_S.rf
  unfold sM_forget
  refine x_aload_n hx hb dX4_forget_0 rfl (lv_at hl 0 rfl) ?_
  refine x_iconst (v := 0) hx hb dX4_forget_1 (by decide) ?_
  refine pM_thrown E hU hS dX4_forget_2 (fun S1 H locs hU hS => ?_)
  refine x_aload_n hx hb dX4_forget_5 rfl (lv_at hl 0 rfl) ?_
  refine x_iconst (v := 0) hx hb dX4_forget_6 (by decide) ?_
  refine pM_seenMany E hU hS dX4_forget_7 (fun S2 H locs hU hS => ?_)
  exact x_vret hx hb hr hlk hS rfl (hU.to fun _ _ => trivial) dX4_forget_10

set_option maxHeartbeats 4000000 in
theorem mM_isSeen (l : Launch) (D : va_G) (ct : CT) (ad : Nat → Nat) (S : US) (w : Int64) (sz : Nat) (o : (Bool × US)) (ho : sM_isSeen S = some o) : Met l yX4_isSeen (ws_ yX4_isSeen cX4_isSeen 3 (some .boolean)) { frames := 6, cells := 0, slots := 0, locals := 145 } (mP D clW ct [.ref (ad (0))] sz (UM D ct ad (fun _ => True) S w)) (mC (some (.int (bI o.1))) (UM D ct ad (fun _ => True) o.2 w) (uA 31 ad sz)) 0 0 (uA 31 ad sz) := by
  refine X.start (val := fun (o : (Bool × US)) => some (.int (bI o.1))) (Bt := fun (o : (Bool × US)) => UM D ct ad (fun _ => True) o.2 w) (A := uA 31 ad sz) ho (by decide) (Nat.le_of_ble_eq_true rfl) rfl ?_
  intro p e s m args below meth c E hr hlk hnm hsz hU ls hl
  subst hsz
  obtain ⟨⟨hx, hb, hml, hown, hts⟩, hK, hJ⟩ := id E
  replace hU := hU.to (B := uA 31 ad s.heap.size) (fun i hi => Or.inl ⟨i, hi, rfl⟩)
  have hA0 : ∀ q, s.heap.size ≤ q → (uA 31 ad s.heap.size) q := fun q h => Or.inr h
  have hS : va_S (uA 31 ad s.heap.size) s.heap s.heap [] := va_S.rf
  unfold sM_isSeen
  refine x_iconst (v := 0) hx hb dX4_isSeen_0 (by decide) ?_
  refine x_istore_n (lv' := [(1, .int (0 : Int32)), (0, .ref (ad (0)))]) hx hb dX4_isSeen_1 rfl hl (by decide) rfl (fun ls hl => ?_)
  refine X.loop (I := fun (x : (US × Int32)) g H locs => UM D ct ad (uA 31 ad s.heap.size) x.1 w H ∧ va_S (uA 31 ad s.heap.size) s.heap H locs ∧ ∃ ls : Array Slot, g = F0 m 2 ls [] ∧ lv_has ls 3 [(0, .ref (ad (0))), (1, .int x.2)]) (fun rc3 ih3 => ?_) FUEL _ _ _ _ ⟨hU, hS, _, rfl, lv_sub hl [1, 0] rfl⟩
  rintro ⟨S1, v2⟩ _ H locs ⟨hU, hS, ls, rfl, hl⟩
  have hU : UM D ct ad (uA 31 ad s.heap.size) S1 w H := hU
  have hl : lv_has ls 3 [(0, .ref (ad (0))), (1, .int v2)] := hl
  refine X.eqs (sp2 := sM_isSeen_L2 rc3 S1 v2) rfl ?_
  unfold sM_isSeen_L2
  refine x_iload_n hx hb dX4_isSeen_2 rfl (lv_at hl 1 rfl) ?_
  refine x_bipush (v := 20) hx hb dX4_isSeen_3 (by decide) ?_
  refine x_icmp_gt (tgt := 117) hx hb dX4_isSeen_5 (by decide) (fun hc => ?_) (fun hc => ?_)
  · refine x_iconst (v := 1) hx hb dX4_isSeen_117 (by decide) ?_
    exact x_zret hx hb hr hlk hS rfl rfl (hU.to fun _ _ => trivial) dX4_isSeen_118
  · refine x_iconst (v := 0) hx hb dX4_isSeen_8 (by decide) ?_
    refine x_istore_n (lv' := [(2, .int (0 : Int32)), (0, .ref (ad (0))), (1, .int v2)]) hx hb dX4_isSeen_9 rfl hl (by decide) rfl (fun ls hl => ?_)
    refine X.loop (I := fun (x : Int32) g H locs => UM D ct ad (uA 31 ad s.heap.size) S1 w H ∧ va_S (uA 31 ad s.heap.size) s.heap H locs ∧ ∃ ls : Array Slot, g = F0 m 10 ls [] ∧ lv_has ls 3 [(0, .ref (ad (0))), (1, .int v2), (2, .int x)]) (fun rc5 ih5 => ?_) FUEL _ _ _ _ ⟨hU, hS, _, rfl, lv_sub hl [1, 2, 0] rfl⟩
    rintro v4 _ H locs ⟨hU, hS, ls, rfl, hl⟩
    refine X.eqs (sp2 := sM_isSeen_L10 S1 v2 rc3 rc5 v4) rfl ?_
    unfold sM_isSeen_L10
    refine x_iload_n hx hb dX4_isSeen_10 rfl (lv_at hl 2 rfl) ?_
    refine x_aload_n hx hb dX4_isSeen_11 rfl (lv_at hl 0 rfl) ?_
    refine gM_seenMany E hU dX4_isSeen_12 ?_
    refine x_icmp_ge (tgt := 69) hx hb dX4_isSeen_15 (by decide) (fun hc => ?_) (fun hc => ?_)
    · refine x_iload_n hx hb dX4_isSeen_69 rfl (lv_at hl 1 rfl) ?_
      refine x_iconst (v := 5) hx hb dX4_isSeen_70 (by decide) ?_
      refine x_icmp_ne (tgt := 105) hx hb dX4_isSeen_71 (by decide) (fun hc => ?_) (fun hc => ?_)
      · refine x_aload_n hx hb dX4_isSeen_105 rfl (lv_at hl 0 rfl) ?_
        refine x_bipush (v := 49) hx hb dX4_isSeen_106 (by decide) ?_
        refine kM_dayGoes E hU hS hA0 ⟨by decide, by decide⟩ hl.1 (Nat.le_of_ble_eq_true rfl) dX4_isSeen_108 ⟨Nat.le_refl _, Nat.le_refl _⟩ (fun o6 H locs hU hS => ?_)
        refine x_iinc (v := (v2 + (1 : Int32))) (lv' := [(1, .int (v2 + (1 : Int32))), (0, .ref (ad (0))), (2, .int v4)]) (k := 1) hx hb dX4_isSeen_111 hl rfl rfl (by decide) rfl (fun ls hl => ?_)
        refine x_goto (tgt := 2) hx hb dX4_isSeen_114 (by decide) ?_
        exact ih3 (o6, (v2 + (1 : Int32))) _ _ _ ⟨hU, hS, _, rfl, lv_sub hl [1, 0] rfl⟩
      · refine x_iconst (v := 0) hx hb dX4_isSeen_74 (by decide) ?_
        refine x_istore_n (lv' := [(2, .int (0 : Int32)), (0, .ref (ad (0))), (1, .int v2)]) hx hb dX4_isSeen_75 rfl hl (by decide) rfl (fun ls hl => ?_)
        refine X.loop (I := fun (x : (US × Int32)) g H locs => UM D ct ad (uA 31 ad s.heap.size) x.1 w H ∧ va_S (uA 31 ad s.heap.size) s.heap H locs ∧ ∃ ls : Array Slot, g = F0 m 76 ls [] ∧ lv_has ls 3 [(0, .ref (ad (0))), (1, .int v2), (2, .int x.2)]) (fun rc9 ih9 => ?_) FUEL _ _ _ _ ⟨hU, hS, _, rfl, lv_sub hl [1, 2, 0] rfl⟩
        rintro ⟨S7, v8⟩ _ H locs ⟨hU, hS, ls, rfl, hl⟩
        have hU : UM D ct ad (uA 31 ad s.heap.size) S7 w H := hU
        have hl : lv_has ls 3 [(0, .ref (ad (0))), (1, .int v2), (2, .int v8)] := hl
        refine X.eqs (sp2 := sM_isSeen_L76 v2 rc3 rc9 S7 v8) rfl ?_
        unfold sM_isSeen_L76
        refine x_iload_n hx hb dX4_isSeen_76 rfl (lv_at hl 2 rfl) ?_
        refine x_aload_n hx hb dX4_isSeen_77 rfl (lv_at hl 0 rfl) ?_
        refine gM_many E hU dX4_isSeen_78 ?_
        refine x_icmp_ge (tgt := 105) hx hb dX4_isSeen_81 (by decide) (fun hc => ?_) (fun hc => ?_)
        · refine x_aload_n hx hb dX4_isSeen_105 rfl (lv_at hl 0 rfl) ?_
          refine x_bipush (v := 49) hx hb dX4_isSeen_106 (by decide) ?_
          refine kM_dayGoes E hU hS hA0 ⟨by decide, by decide⟩ hl.1 (Nat.le_of_ble_eq_true rfl) dX4_isSeen_108 ⟨Nat.le_refl _, Nat.le_refl _⟩ (fun o10 H locs hU hS => ?_)
          refine x_iinc (v := (v2 + (1 : Int32))) (lv' := [(1, .int (v2 + (1 : Int32))), (0, .ref (ad (0))), (2, .int v8)]) (k := 1) hx hb dX4_isSeen_111 hl rfl rfl (by decide) rfl (fun ls hl => ?_)
          refine x_goto (tgt := 2) hx hb dX4_isSeen_114 (by decide) ?_
          exact ih3 (o10, (v2 + (1 : Int32))) _ _ _ ⟨hU, hS, _, rfl, lv_sub hl [1, 0] rfl⟩
        · refine x_aload_n hx hb dX4_isSeen_84 rfl (lv_at hl 0 rfl) ?_
          refine gM_soon E hU dX4_isSeen_85 ?_
          refine x_iload_n hx hb dX4_isSeen_88 rfl (lv_at hl 2 rfl) ?_
          refine x_aload_n hx hb dX4_isSeen_89 rfl (lv_at hl 0 rfl) ?_
          refine gM_rows E hU dX4_isSeen_90 ?_
          refine x_bipush (v := 62) hx hb dX4_isSeen_93 (by decide) ?_
          refine x_iload_n hx hb dX4_isSeen_95 rfl (lv_at hl 2 rfl) ?_
          refine x_iadd hx hb dX4_isSeen_96 ?_
          refine ux_ald (i := 14) (n := 98) E hU (by decide) rfl dX4_isSeen_97 ?_
          refine ux_ast (i := 25) (n := 12) E hU hS (by decide) rfl dX4_isSeen_98 (fun S11 H locs hU hS => ?_)
          refine x_iinc (v := (v8 + (1 : Int32))) (lv' := [(2, .int (v8 + (1 : Int32))), (0, .ref (ad (0))), (1, .int v2)]) (k := 2) hx hb dX4_isSeen_99 hl rfl rfl (by decide) rfl (fun ls hl => ?_)
          refine x_goto (tgt := 76) hx hb dX4_isSeen_102 (by decide) ?_
          exact ih9 (S11, (v8 + (1 : Int32))) _ _ _ ⟨hU, hS, _, rfl, lv_sub hl [1, 2, 0] rfl⟩
    · refine x_aload_n hx hb dX4_isSeen_18 rfl (lv_at hl 0 rfl) ?_
      refine gM_seen E hU dX4_isSeen_19 ?_
      refine x_iconst (v := 3) hx hb dX4_isSeen_22 (by decide) ?_
      refine x_iload_n hx hb dX4_isSeen_23 rfl (lv_at hl 2 rfl) ?_
      refine x_imul hx hb dX4_isSeen_24 ?_
      refine x_iconst (v := 1) hx hb dX4_isSeen_25 (by decide) ?_
      refine x_iadd hx hb dX4_isSeen_26 ?_
      refine ux_ald (i := 24) (n := 24) E hU (by decide) rfl dX4_isSeen_27 ?_
      refine x_iload_n hx hb dX4_isSeen_28 rfl (lv_at hl 1 rfl) ?_
      refine x_icmp_ne (tgt := 63) hx hb dX4_isSeen_29 (by decide) (fun hc => ?_) (fun hc => ?_)
      · refine x_iinc (v := (v4 + (1 : Int32))) (lv' := [(2, .int (v4 + (1 : Int32))), (0, .ref (ad (0))), (1, .int v2)]) (k := 2) hx hb dX4_isSeen_63 hl rfl rfl (by decide) rfl (fun ls hl => ?_)
        refine x_goto (tgt := 10) hx hb dX4_isSeen_66 (by decide) ?_
        exact ih5 (v4 + (1 : Int32)) _ _ _ ⟨hU, hS, _, rfl, lv_sub hl [1, 2, 0] rfl⟩
      · refine x_aload_n hx hb dX4_isSeen_32 rfl (lv_at hl 0 rfl) ?_
        refine gM_rows E hU dX4_isSeen_33 ?_
        refine x_bipush (v := 62) hx hb dX4_isSeen_36 (by decide) ?_
        refine x_aload_n hx hb dX4_isSeen_38 rfl (lv_at hl 0 rfl) ?_
        refine gM_seen E hU dX4_isSeen_39 ?_
        refine x_iconst (v := 3) hx hb dX4_isSeen_42 (by decide) ?_
        refine x_iload_n hx hb dX4_isSeen_43 rfl (lv_at hl 2 rfl) ?_
        refine x_imul hx hb dX4_isSeen_44 ?_
        refine ux_ald (i := 24) (n := 24) E hU (by decide) rfl dX4_isSeen_45 ?_
        refine x_iadd hx hb dX4_isSeen_46 ?_
        refine ux_ald (i := 14) (n := 98) E hU (by decide) rfl dX4_isSeen_47 ?_
        refine x_aload_n hx hb dX4_isSeen_48 rfl (lv_at hl 0 rfl) ?_
        refine gM_seen E hU dX4_isSeen_49 ?_
        refine x_iconst (v := 3) hx hb dX4_isSeen_52 (by decide) ?_
        refine x_iload_n hx hb dX4_isSeen_53 rfl (lv_at hl 2 rfl) ?_
        refine x_imul hx hb dX4_isSeen_54 ?_
        refine x_iconst (v := 2) hx hb dX4_isSeen_55 (by decide) ?_
        refine x_iadd hx hb dX4_isSeen_56 ?_
        refine ux_ald (i := 24) (n := 24) E hU (by decide) rfl dX4_isSeen_57 ?_
        refine x_icmp_eq (tgt := 63) hx hb dX4_isSeen_58 (by decide) (fun hc => ?_) (fun hc => ?_)
        · refine x_iinc (v := (v4 + (1 : Int32))) (lv' := [(2, .int (v4 + (1 : Int32))), (0, .ref (ad (0))), (1, .int v2)]) (k := 2) hx hb dX4_isSeen_63 hl rfl rfl (by decide) rfl (fun ls hl => ?_)
          refine x_goto (tgt := 10) hx hb dX4_isSeen_66 (by decide) ?_
          exact ih5 (v4 + (1 : Int32)) _ _ _ ⟨hU, hS, _, rfl, lv_sub hl [1, 2, 0] rfl⟩
        · refine x_iconst (v := 0) hx hb dX4_isSeen_61 (by decide) ?_
          exact x_zret hx hb hr hlk hS rfl rfl (hU.to fun _ _ => trivial) dX4_isSeen_62
section MK
variable {ρ : Type} {p : Program} {l : Launch} {e : Env} {R : Room} {s : State} {m : MethodId} {args : Array Value} {below : List Frame} {meth : Method} {c : Code} {H : Heap} {locs : List Loc} {cells slots : Nat} {Qf : ρ → State → Prop}
variable {cc : ByteArray} {pc nL : Nat} {ls : Array Slot} {rest : List Value}
variable {D : va_G} {ct : CT} {ad : Nat → Nat} {A A0 : Nat → Prop} {S : US} {w : Int64} {H0 : Heap}
theorem kM_isSeen (E : ME p m c cc nL s args RX4 D clW ct) (hU : UM D ct ad A S w H) (hS : va_S A H0 H locs) (hA0 : ∀ q, H0.size ≤ q → A q) (hR : 6 + 1 ≤ R.frames ∧ 8 + (3 + 11) + 145 ≤ R.locals) (hsize : ls.size = nL) (hW : (rest.map fun v => v.category).sum ≤ 8) (hdg : decode cc pc = .ok (.invokevirtual 420, 3)) (hf : cells ≤ R.cells ∧ slots ≤ R.slots) {kp : (Bool × US) → Option ρ} (kk : ∀ (o : (Bool × US)) (H1 : Heap) (locs1 : List Loc), UM D ct ad A o.2 w H1 → va_S A H0 H1 locs1 → X p l e R s m args below meth c H1 locs1 cells slots Qf (kp o) (F0 m (pc + 3) ls (.int (bI o.1) :: rest))) : X p l e R s m args below meth c H locs cells slots Qf (callK (sM_isSeen S) kp) (F0 m pc ls (.ref (ad 0) :: rest)) := ucV_mod (i := 0) (So := fun (o : (Bool × US)) => o.2) (wo := fun (o : (Bool × US)) => w) (As := []) E hU hS hA0 (by decide) rfl rfl (fun sz o ho => mM_isSeen l D ct ad S w sz o ho) (cwV 0 E.1.2.2.2.2 (lw_V q2422 q2424 qs106 q119 q2425) rfl rfl rfl (by decide +kernel) hR) rfl hsize rfl hW hdg hf kk
end MK

set_option maxHeartbeats 4000000 in
theorem mM_isGuess (l : Launch) (D : va_G) (ct : CT) (ad : Nat → Nat) (S : US) (w : Int64) (p1 : Int32) (sz : Nat) (o : (Bool × US)) (ho : sM_isGuess S p1 = some o) : Met l yX4_isGuess (ws_ yX4_isGuess cX4_isGuess 3 (some .boolean)) { frames := 7, cells := 0, slots := 0, locals := 167 } (mP D clW ct [.ref (ad (0)), .int p1] sz (UM D ct ad (fun _ => True) S w)) (mC (some (.int (bI o.1))) (UM D ct ad (fun _ => True) o.2 w) (uA 31 ad sz)) 0 0 (uA 31 ad sz) := by
  refine X.start (val := fun (o : (Bool × US)) => some (.int (bI o.1))) (Bt := fun (o : (Bool × US)) => UM D ct ad (fun _ => True) o.2 w) (A := uA 31 ad sz) ho (by decide) (Nat.le_of_ble_eq_true rfl) rfl ?_
  intro p e s m args below meth c E hr hlk hnm hsz hU ls hl
  subst hsz
  obtain ⟨⟨hx, hb, hml, hown, hts⟩, hK, hJ⟩ := id E
  replace hU := hU.to (B := uA 31 ad s.heap.size) (fun i hi => Or.inl ⟨i, hi, rfl⟩)
  have hA0 : ∀ q, s.heap.size ≤ q → (uA 31 ad s.heap.size) q := fun q h => Or.inr h
  have hS : va_S (uA 31 ad s.heap.size) s.heap s.heap [] := va_S.rf
  unfold sM_isGuess
  refine x_iload_n hx hb dX4_isGuess_0 rfl (lv_at hl 1 rfl) ?_
  refine x_bipush (v := 50) hx hb dX4_isGuess_1 (by decide) ?_
  refine x_idiv hx hb dX4_isGuess_3 (by decide) ?_
  refine x_istore_n (lv' := [(2, .int (p1 / (50 : Int32))), (0, .ref (ad (0))), (1, .int p1)]) hx hb dX4_isGuess_4 rfl hl (by decide) rfl (fun ls hl => ?_)
  refine x_aload_n hx hb dX4_isGuess_5 rfl (lv_at hl 1 rfl) ?_
  refine x_iconst (v := 0) hx hb dX4_isGuess_6 (by decide) ?_
  refine x_iload_n hx hb dX4_isGuess_7 rfl (lv_at hl 0 rfl) ?_
  refine kM_isGap E hU hS hA0 ⟨by decide, by decide⟩ hl.1 (Nat.le_of_ble_eq_true rfl) dX4_isGuess_8 ⟨Nat.le_refl _, Nat.le_refl _⟩ (fun o1 H locs hU hS => ?_)
  refine x_if_eq (tgt := 16) hx hb dX4_isGuess_11 (by decide) (fun hc => ?_) (fun hc => ?_)
  · refine x_aload_n hx hb dX4_isGuess_16 rfl (lv_at hl 1 rfl) ?_
    refine kM_tries E hU hS hA0 ⟨by decide, by decide⟩ hl.1 (Nat.le_of_ble_eq_true rfl) dX4_isGuess_17 ⟨Nat.le_refl _, Nat.le_refl _⟩ (fun o2 H locs hU hS => ?_)
    refine x_aload_n hx hb dX4_isGuess_20 rfl (lv_at hl 1 rfl) ?_
    refine x_bipush (v := 49) hx hb dX4_isGuess_21 (by decide) ?_
    refine x_iload_n hx hb dX4_isGuess_23 rfl (lv_at hl 0 rfl) ?_
    refine x_iload_n hx hb dX4_isGuess_24 rfl (lv_at hl 2 rfl) ?_
    refine x_bipush (v := 50) hx hb dX4_isGuess_25 (by decide) ?_
    refine x_irem hx hb dX4_isGuess_27 (by decide) ?_
    refine x_iconst (v := 1) hx hb dX4_isGuess_28 (by decide) ?_
    refine x_iadd hx hb dX4_isGuess_29 ?_
    refine kM_loosens E hU hS hA0 ⟨by decide, by decide⟩ hl.1 (Nat.le_of_ble_eq_true rfl) dX4_isGuess_30 ⟨Nat.le_refl _, Nat.le_refl _⟩ (fun o3 H locs hU hS => ?_)
    refine x_aload_n hx hb dX4_isGuess_33 rfl (lv_at hl 1 rfl) ?_
    refine kM_isSeen E hU hS hA0 ⟨by decide, by decide⟩ hl.1 (Nat.le_of_ble_eq_true rfl) dX4_isGuess_34 ⟨Nat.le_refl _, Nat.le_refl _⟩ (fun o4 H locs hU hS => ?_)
    exact x_zret hx hb hr hlk hS (bI_z _) rfl (hU.to fun _ _ => trivial) dX4_isGuess_37
  · refine x_iconst (v := 0) hx hb dX4_isGuess_14 (by decide) ?_
    exact x_zret hx hb hr hlk hS rfl rfl (hU.to fun _ _ => trivial) dX4_isGuess_15
section MK
variable {ρ : Type} {p : Program} {l : Launch} {e : Env} {R : Room} {s : State} {m : MethodId} {args : Array Value} {below : List Frame} {meth : Method} {c : Code} {H : Heap} {locs : List Loc} {cells slots : Nat} {Qf : ρ → State → Prop}
variable {cc : ByteArray} {pc nL : Nat} {ls : Array Slot} {rest : List Value}
variable {D : va_G} {ct : CT} {ad : Nat → Nat} {A A0 : Nat → Prop} {S : US} {w : Int64} {H0 : Heap}
theorem kM_isGuess {p1 : Int32} (E : ME p m c cc nL s args RX4 D clW ct) (hU : UM D ct ad A S w H) (hS : va_S A H0 H locs) (hA0 : ∀ q, H0.size ≤ q → A q) (hR : 7 + 1 ≤ R.frames ∧ 8 + (3 + 11) + 167 ≤ R.locals) (hsize : ls.size = nL) (hW : (rest.map fun v => v.category).sum ≤ 8) (hdg : decode cc pc = .ok (.invokevirtual 423, 3)) (hf : cells ≤ R.cells ∧ slots ≤ R.slots) {kp : (Bool × US) → Option ρ} (kk : ∀ (o : (Bool × US)) (H1 : Heap) (locs1 : List Loc), UM D ct ad A o.2 w H1 → va_S A H0 H1 locs1 → X p l e R s m args below meth c H1 locs1 cells slots Qf (kp o) (F0 m (pc + 3) ls (.int (bI o.1) :: rest))) : X p l e R s m args below meth c H locs cells slots Qf (callK (sM_isGuess S p1) kp) (F0 m pc ls (.int p1 :: .ref (ad 0) :: rest)) := ucV_mod (i := 0) (So := fun (o : (Bool × US)) => o.2) (wo := fun (o : (Bool × US)) => w) (As := [.int p1]) E hU hS hA0 (by decide) rfl rfl (fun sz o ho => mM_isGuess l D ct ad S w p1 sz o ho) (cwV 1 E.1.2.2.2.2 (lw_V q2426 q2428 qs107 q119 q2429) rfl rfl rfl (by decide +kernel) hR) rfl hsize rfl hW hdg hf kk
end MK

set_option maxHeartbeats 4000000 in
theorem mM_torn (l : Launch) (D : va_G) (ct : CT) (ad : Nat → Nat) (S : US) (w : Int64) (p1 : Int32) (sz : Nat) (o : (Int32 × US)) (ho : sM_torn S p1 = some o) : Met l yX4_torn (ws_ yX4_torn cX4_torn 5 (some .int)) { frames := 8, cells := 0, slots := 0, locals := 189 } (mP D clW ct [.ref (ad (0)), .int p1] sz (UM D ct ad (fun _ => True) S w)) (mC (some (.int o.1)) (UM D ct ad (fun _ => True) o.2 w) (uA 31 ad sz)) 0 0 (uA 31 ad sz) := by
  refine X.start (val := fun (o : (Int32 × US)) => some (.int o.1)) (Bt := fun (o : (Int32 × US)) => UM D ct ad (fun _ => True) o.2 w) (A := uA 31 ad sz) ho (by decide) (Nat.le_of_ble_eq_true rfl) rfl ?_
  intro p e s m args below meth c E hr hlk hnm hsz hU ls hl
  subst hsz
  obtain ⟨⟨hx, hb, hml, hown, hts⟩, hK, hJ⟩ := id E
  replace hU := hU.to (B := uA 31 ad s.heap.size) (fun i hi => Or.inl ⟨i, hi, rfl⟩)
  have hA0 : ∀ q, s.heap.size ≤ q → (uA 31 ad s.heap.size) q := fun q h => Or.inr h
  have hS : va_S (uA 31 ad s.heap.size) s.heap s.heap [] := va_S.rf
  unfold sM_torn
  refine x_aload_n hx hb dX4_torn_0 rfl (lv_at hl 0 rfl) ?_
  refine x_iconst (v := 0) hx hb dX4_torn_1 (by decide) ?_
  refine pM_thrown E hU hS dX4_torn_2 (fun S1 H locs hU hS => ?_)
  refine x_aload_n hx hb dX4_torn_5 rfl (lv_at hl 0 rfl) ?_
  refine x_iload_n hx hb dX4_torn_6 rfl (lv_at hl 1 rfl) ?_
  refine x_iconst (v := 2) hx hb dX4_torn_7 (by decide) ?_
  refine kM_isWhat E hU hS hA0 ⟨by decide, by decide⟩ hl.1 (Nat.le_of_ble_eq_true rfl) dX4_torn_8 ⟨Nat.le_refl _, Nat.le_refl _⟩ (fun o2 H locs hU hS => ?_)
  refine x_if_ne (tgt := 16) hx hb dX4_torn_11 (by decide) (fun hc => ?_) (fun hc => ?_)
  · refine x_iload_n hx hb dX4_torn_16 rfl (lv_at hl 1 rfl) ?_
    refine x_iconst (v := 2) hx hb dX4_torn_17 (by decide) ?_
    refine x_icmp_ne (tgt := 38) hx hb dX4_torn_18 (by decide) (fun hc => ?_) (fun hc => ?_)
    · refine x_iconst (v := 0) hx hb dX4_torn_38 (by decide) ?_
      refine x_istore_n (lv' := [(2, .int (0 : Int32)), (0, .ref (ad (0))), (1, .int p1)]) hx hb dX4_torn_39 rfl hl (by decide) rfl (fun ls hl => ?_)
      refine x_iconst (v := -1) hx hb dX4_torn_40 (by decide) ?_
      refine x_istore_n (lv' := [(3, .int (-1 : Int32)), (2, .int (0 : Int32)), (0, .ref (ad (0))), (1, .int p1)]) hx hb dX4_torn_41 rfl hl (by decide) rfl (fun ls hl => ?_)
      refine x_iconst (v := 0) hx hb dX4_torn_42 (by decide) ?_
      refine x_istore (lv' := [(4, .int (0 : Int32)), (3, .int (-1 : Int32)), (2, .int (0 : Int32)), (0, .ref (ad (0))), (1, .int p1)]) hx hb dX4_torn_43 hl (by decide) rfl (fun ls hl => ?_)
      refine X.loop (I := fun (x : (US × Int32 × Int32 × Int32)) g H locs => UM D ct ad (uA 31 ad s.heap.size) x.1 w H ∧ va_S (uA 31 ad s.heap.size) s.heap H locs ∧ ∃ ls : Array Slot, g = F0 m 45 ls [] ∧ lv_has ls 5 [(0, .ref (ad (0))), (1, .int p1), (2, .int x.2.1), (3, .int x.2.2.1), (4, .int x.2.2.2)]) (fun rc7 ih7 => ?_) FUEL _ _ _ _ ⟨hU, hS, _, rfl, lv_sub hl [3, 4, 2, 1, 0] rfl⟩
      rintro ⟨S3, v4, v5, v6⟩ _ H locs ⟨hU, hS, ls, rfl, hl⟩
      have hU : UM D ct ad (uA 31 ad s.heap.size) S3 w H := hU
      have hl : lv_has ls 5 [(0, .ref (ad (0))), (1, .int p1), (2, .int v4), (3, .int v5), (4, .int v6)] := hl
      refine X.eqs (sp2 := sM_torn_L45 p1 rc7 S3 v4 v5 v6) rfl ?_
      unfold sM_torn_L45
      refine x_iload hx hb dX4_torn_45 (lv_at hl 4 rfl) ?_
      refine x_bipush (v := 50) hx hb dX4_torn_47 (by decide) ?_
      refine x_aload_n hx hb dX4_torn_49 rfl (lv_at hl 0 rfl) ?_
      refine gM_many E hU dX4_torn_50 ?_
      refine x_imul hx hb dX4_torn_53 ?_
      refine x_icmp_ge (tgt := 100) hx hb dX4_torn_54 (by decide) (fun hc => ?_) (fun hc => ?_)
      · refine x_iload_n hx hb dX4_torn_100 rfl (lv_at hl 1 rfl) ?_
        refine x_if_ne (tgt := 108) hx hb dX4_torn_101 (by decide) (fun hc => ?_) (fun hc => ?_)
        · refine x_iload_n hx hb dX4_torn_108 rfl (lv_at hl 3 rfl) ?_
          exact x_iret hx hb hr hlk hS rfl (hU.to fun _ _ => trivial) dX4_torn_109
        · refine x_iload_n hx hb dX4_torn_104 rfl (lv_at hl 2 rfl) ?_
          refine x_goto (tgt := 109) hx hb dX4_torn_105 (by decide) ?_
          exact x_iret hx hb hr hlk hS rfl (hU.to fun _ _ => trivial) dX4_torn_109
      · refine x_aload_n hx hb dX4_torn_57 rfl (lv_at hl 0 rfl) ?_
        refine x_iload hx hb dX4_torn_58 (lv_at hl 4 rfl) ?_
        refine kM_isGuess E hU hS hA0 ⟨by decide, by decide⟩ hl.1 (Nat.le_of_ble_eq_true rfl) dX4_torn_60 ⟨Nat.le_refl _, Nat.le_refl _⟩ (fun o8 H locs hU hS => ?_)
        refine x_if_ne (tgt := 69) hx hb dX4_torn_63 (by decide) (fun hc => ?_) (fun hc => ?_)
        · refine x_iinc (v := (v4 + (1 : Int32))) (lv' := [(2, .int (v4 + (1 : Int32))), (0, .ref (ad (0))), (1, .int p1), (3, .int v5), (4, .int v6)]) (k := 2) hx hb dX4_torn_69 hl rfl rfl (by decide) rfl (fun ls hl => ?_)
          refine x_iload_n hx hb dX4_torn_72 rfl (lv_at hl 3 rfl) ?_
          refine x_iconst (v := -1) hx hb dX4_torn_73 (by decide) ?_
          refine x_icmp_ne (tgt := 94) hx hb dX4_torn_74 (by decide) (fun hc => ?_) (fun hc => ?_)
          · refine x_iinc (v := (v6 + (1 : Int32))) (lv' := [(4, .int (v6 + (1 : Int32))), (2, .int (v4 + (1 : Int32))), (0, .ref (ad (0))), (1, .int p1), (3, .int v5)]) (k := 4) hx hb dX4_torn_94 hl rfl rfl (by decide) rfl (fun ls hl => ?_)
            refine x_goto (tgt := 45) hx hb dX4_torn_97 (by decide) ?_
            exact ih7 (o8.2, (v4 + (1 : Int32)), v5, (v6 + (1 : Int32))) _ _ _ ⟨hU, hS, _, rfl, lv_sub hl [2, 3, 1, 4, 0] rfl⟩
          · refine x_iload hx hb dX4_torn_77 (lv_at hl 4 rfl) ?_
            refine x_bipush (v := 50) hx hb dX4_torn_79 (by decide) ?_
            refine x_idiv hx hb dX4_torn_81 (by decide) ?_
            refine x_bipush (v := 100) hx hb dX4_torn_82 (by decide) ?_
            refine x_imul hx hb dX4_torn_84 ?_
            refine x_iload hx hb dX4_torn_85 (lv_at hl 4 rfl) ?_
            refine x_bipush (v := 50) hx hb dX4_torn_87 (by decide) ?_
            refine x_irem hx hb dX4_torn_89 (by decide) ?_
            refine x_iadd hx hb dX4_torn_90 ?_
            refine x_iconst (v := 1) hx hb dX4_torn_91 (by decide) ?_
            refine x_iadd hx hb dX4_torn_92 ?_
            refine x_topi (fun e9 => ?_)
            refine x_istore_n (lv' := [(3, .int e9), (2, .int (v4 + (1 : Int32))), (0, .ref (ad (0))), (1, .int p1), (4, .int v6)]) hx hb dX4_torn_93 rfl hl (by decide) rfl (fun ls hl => ?_)
            refine x_iinc (v := (v6 + (1 : Int32))) (lv' := [(4, .int (v6 + (1 : Int32))), (3, .int e9), (2, .int (v4 + (1 : Int32))), (0, .ref (ad (0))), (1, .int p1)]) (k := 4) hx hb dX4_torn_94 hl rfl rfl (by decide) rfl (fun ls hl => ?_)
            refine x_goto (tgt := 45) hx hb dX4_torn_97 (by decide) ?_
            exact ih7 (o8.2, (v4 + (1 : Int32)), e9, (v6 + (1 : Int32))) _ _ _ ⟨hU, hS, _, rfl, lv_sub hl [3, 4, 2, 1, 0] rfl⟩
        · refine x_goto (tgt := 94) hx hb dX4_torn_66 (by decide) ?_
          refine x_iinc (v := (v6 + (1 : Int32))) (lv' := [(4, .int (v6 + (1 : Int32))), (0, .ref (ad (0))), (1, .int p1), (2, .int v4), (3, .int v5)]) (k := 4) hx hb dX4_torn_94 hl rfl rfl (by decide) rfl (fun ls hl => ?_)
          refine x_goto (tgt := 45) hx hb dX4_torn_97 (by decide) ?_
          exact ih7 (o8.2, v4, v5, (v6 + (1 : Int32))) _ _ _ ⟨hU, hS, _, rfl, lv_sub hl [1, 2, 3, 4, 0] rfl⟩
    · refine x_aload_n hx hb dX4_torn_21 rfl (lv_at hl 0 rfl) ?_
      refine kM_tries E hU hS hA0 ⟨by decide, by decide⟩ hl.1 (Nat.le_of_ble_eq_true rfl) dX4_torn_22 ⟨Nat.le_refl _, Nat.le_refl _⟩ (fun o10 H locs hU hS => ?_)
      refine x_aload_n hx hb dX4_torn_25 rfl (lv_at hl 0 rfl) ?_
      refine kM_isSeen E hU hS hA0 ⟨by decide, by decide⟩ hl.1 (Nat.le_of_ble_eq_true rfl) dX4_torn_26 ⟨Nat.le_refl _, Nat.le_refl _⟩ (fun o11 H locs hU hS => ?_)
      refine x_if_eq (tgt := 36) hx hb dX4_torn_29 (by decide) (fun hc => ?_) (fun hc => ?_)
      · refine x_iconst (v := 0) hx hb dX4_torn_36 (by decide) ?_
        exact x_iret hx hb hr hlk hS rfl (hU.to fun _ _ => trivial) dX4_torn_37
      · refine x_iconst (v := 1) hx hb dX4_torn_32 (by decide) ?_
        refine x_goto (tgt := 37) hx hb dX4_torn_33 (by decide) ?_
        exact x_iret hx hb hr hlk hS rfl (hU.to fun _ _ => trivial) dX4_torn_37
  · refine x_iconst (v := 0) hx hb dX4_torn_14 (by decide) ?_
    exact x_iret hx hb hr hlk hS rfl (hU.to fun _ _ => trivial) dX4_torn_15

set_option maxHeartbeats 4000000 in
theorem mM_look (l : Launch) (D : va_G) (ct : CT) (ad : Nat → Nat) (S : US) (w : Int64) (p1 : Int32) (sz : Nat) (o : (Int32 × US)) (ho : sM_look S p1 = some o) : Met l yX4_look (ws_ yX4_look cX4_look 10 (some .int)) { frames := 8, cells := 0, slots := 0, locals := 189 } (mP D clW ct [.ref (ad (0)), .int p1] sz (UM D ct ad (fun _ => True) S w)) (mC (some (.int o.1)) (UM D ct ad (fun _ => True) o.2 w) (uA 31 ad sz)) 0 0 (uA 31 ad sz) := by
  refine X.start (val := fun (o : (Int32 × US)) => some (.int o.1)) (Bt := fun (o : (Int32 × US)) => UM D ct ad (fun _ => True) o.2 w) (A := uA 31 ad sz) ho (by decide) (Nat.le_of_ble_eq_true rfl) rfl ?_
  intro p e s m args below meth c E hr hlk hnm hsz hU ls hl
  subst hsz
  obtain ⟨⟨hx, hb, hml, hown, hts⟩, hK, hJ⟩ := id E
  replace hU := hU.to (B := uA 31 ad s.heap.size) (fun i hi => Or.inl ⟨i, hi, rfl⟩)
  have hA0 : ∀ q, s.heap.size ≤ q → (uA 31 ad s.heap.size) q := fun q h => Or.inr h
  have hS : va_S (uA 31 ad s.heap.size) s.heap s.heap [] := va_S.rf
  unfold sM_look
  refine x_aload_n hx hb dX4_look_0 rfl (lv_at hl 0 rfl) ?_
  refine x_iconst (v := 0) hx hb dX4_look_1 (by decide) ?_
  refine pM_thrown E hU hS dX4_look_2 (fun S1 H locs hU hS => ?_)
  refine x_aload_n hx hb dX4_look_5 rfl (lv_at hl 0 rfl) ?_
  refine x_iload_n hx hb dX4_look_6 rfl (lv_at hl 1 rfl) ?_
  refine x_iconst (v := 1) hx hb dX4_look_7 (by decide) ?_
  refine kM_isWhat E hU hS hA0 ⟨by decide, by decide⟩ hl.1 (Nat.le_of_ble_eq_true rfl) dX4_look_8 ⟨Nat.le_refl _, Nat.le_refl _⟩ (fun o2 H locs hU hS => ?_)
  refine x_if_ne (tgt := 16) hx hb dX4_look_11 (by decide) (fun hc => ?_) (fun hc => ?_)
  · refine x_iconst (v := 0) hx hb dX4_look_16 (by decide) ?_
    refine x_istore_n (lv' := [(2, .int (0 : Int32)), (0, .ref (ad (0))), (1, .int p1)]) hx hb dX4_look_17 rfl hl (by decide) rfl (fun ls hl => ?_)
    refine x_iconst (v := 0) hx hb dX4_look_18 (by decide) ?_
    refine x_istore_n (lv' := [(3, .int (0 : Int32)), (2, .int (0 : Int32)), (0, .ref (ad (0))), (1, .int p1)]) hx hb dX4_look_19 rfl hl (by decide) rfl (fun ls hl => ?_)
    refine X.loop (I := fun (x : (US × Int32 × Int32)) g H locs => UM D ct ad (uA 31 ad s.heap.size) x.1 w H ∧ va_S (uA 31 ad s.heap.size) s.heap H locs ∧ ∃ ls : Array Slot, g = F0 m 20 ls [] ∧ lv_has ls 10 [(0, .ref (ad (0))), (1, .int p1), (2, .int x.2.1), (3, .int x.2.2)]) (fun rc6 ih6 => ?_) FUEL _ _ _ _ ⟨hU, hS, _, rfl, lv_sub hl [2, 3, 1, 0] rfl⟩
    rintro ⟨S3, v4, v5⟩ _ H locs ⟨hU, hS, ls, rfl, hl⟩
    have hU : UM D ct ad (uA 31 ad s.heap.size) S3 w H := hU
    have hl : lv_has ls 10 [(0, .ref (ad (0))), (1, .int p1), (2, .int v4), (3, .int v5)] := hl
    refine X.eqs (sp2 := sM_look_L20 p1 rc6 S3 v4 v5) rfl ?_
    unfold sM_look_L20
    refine x_iload_n hx hb dX4_look_20 rfl (lv_at hl 3 rfl) ?_
    refine x_bipush (v := 50) hx hb dX4_look_21 (by decide) ?_
    refine x_aload_n hx hb dX4_look_23 rfl (lv_at hl 0 rfl) ?_
    refine gM_many E hU dX4_look_24 ?_
    refine x_imul hx hb dX4_look_27 ?_
    refine x_icmp_ge (tgt := 88) hx hb dX4_look_28 (by decide) (fun hc => ?_) (fun hc => ?_)
    · refine x_iconst (v := -1) hx hb dX4_look_88 (by decide) ?_
      refine x_istore_n (lv' := [(3, .int (-1 : Int32)), (0, .ref (ad (0))), (1, .int p1), (2, .int v4)]) hx hb dX4_look_89 rfl hl (by decide) rfl (fun ls hl => ?_)
      refine x_iconst (v := 0) hx hb dX4_look_90 (by decide) ?_
      refine x_istore (lv' := [(4, .int (0 : Int32)), (3, .int (-1 : Int32)), (0, .ref (ad (0))), (1, .int p1), (2, .int v4)]) hx hb dX4_look_91 hl (by decide) rfl (fun ls hl => ?_)
      refine x_iconst (v := 0) hx hb dX4_look_93 (by decide) ?_
      refine x_istore (lv' := [(5, .int (0 : Int32)), (4, .int (0 : Int32)), (3, .int (-1 : Int32)), (0, .ref (ad (0))), (1, .int p1), (2, .int v4)]) hx hb dX4_look_94 hl (by decide) rfl (fun ls hl => ?_)
      refine X.loop (I := fun (x : (Int32 × Int32 × Int32)) g H locs => UM D ct ad (uA 31 ad s.heap.size) S3 w H ∧ va_S (uA 31 ad s.heap.size) s.heap H locs ∧ ∃ ls : Array Slot, g = F0 m 96 ls [] ∧ lv_has ls 10 [(0, .ref (ad (0))), (1, .int p1), (2, .int v4), (3, .int x.1), (4, .int x.2.1), (5, .int x.2.2)]) (fun rc10 ih10 => ?_) FUEL _ _ _ _ ⟨hU, hS, _, rfl, lv_sub hl [3, 4, 5, 2, 1, 0] rfl⟩
      rintro ⟨v7, v8, v9⟩ _ H locs ⟨hU, hS, ls, rfl, hl⟩
      have hU : UM D ct ad (uA 31 ad s.heap.size) S3 w H := hU
      have hl : lv_has ls 10 [(0, .ref (ad (0))), (1, .int p1), (2, .int v4), (3, .int v7), (4, .int v8), (5, .int v9)] := hl
      refine X.eqs (sp2 := sM_look_L96 p1 S3 v4 rc10 v7 v8 v9) rfl ?_
      unfold sM_look_L96
      refine x_iload hx hb dX4_look_96 (lv_at hl 5 rfl) ?_
      refine x_aload_n hx hb dX4_look_98 rfl (lv_at hl 0 rfl) ?_
      refine gM_many E hU dX4_look_99 ?_
      refine x_icmp_ge (tgt := 221) hx hb dX4_look_102 (by decide) (fun hc => ?_) (fun hc => ?_)
      · refine x_iload_n hx hb dX4_look_221 rfl (lv_at hl 1 rfl) ?_
        refine x_if_ne (tgt := 229) hx hb dX4_look_222 (by decide) (fun hc => ?_) (fun hc => ?_)
        · refine x_iload hx hb dX4_look_229 (lv_at hl 4 rfl) ?_
          exact x_iret hx hb hr hlk hS rfl (hU.to fun _ _ => trivial) dX4_look_231
        · refine x_iload_n hx hb dX4_look_225 rfl (lv_at hl 3 rfl) ?_
          refine x_goto (tgt := 231) hx hb dX4_look_226 (by decide) ?_
          exact x_iret hx hb hr hlk hS rfl (hU.to fun _ _ => trivial) dX4_look_231
      · refine x_iconst (v := 0) hx hb dX4_look_105 (by decide) ?_
        refine x_istore (lv' := [(6, .int (0 : Int32)), (0, .ref (ad (0))), (1, .int p1), (2, .int v4), (3, .int v7), (4, .int v8), (5, .int v9)]) hx hb dX4_look_106 hl (by decide) rfl (fun ls hl => ?_)
        refine x_iconst (v := 0) hx hb dX4_look_108 (by decide) ?_
        refine x_istore (lv' := [(7, .int (0 : Int32)), (6, .int (0 : Int32)), (0, .ref (ad (0))), (1, .int p1), (2, .int v4), (3, .int v7), (4, .int v8), (5, .int v9)]) hx hb dX4_look_109 hl (by decide) rfl (fun ls hl => ?_)
        refine X.loop (I := fun (x : (Int32 × Int32)) g H locs => UM D ct ad (uA 31 ad s.heap.size) S3 w H ∧ va_S (uA 31 ad s.heap.size) s.heap H locs ∧ ∃ ls : Array Slot, g = F0 m 111 ls [] ∧ lv_has ls 10 [(0, .ref (ad (0))), (1, .int p1), (2, .int v4), (3, .int v7), (4, .int v8), (5, .int v9), (6, .int x.1), (7, .int x.2)]) (fun rc13 ih13 => ?_) FUEL _ _ _ _ ⟨hU, hS, _, rfl, lv_sub hl [2, 3, 4, 5, 6, 7, 1, 0] rfl⟩
        rintro ⟨v11, v12⟩ _ H locs ⟨hU, hS, ls, rfl, hl⟩
        have hU : UM D ct ad (uA 31 ad s.heap.size) S3 w H := hU
        have hl : lv_has ls 10 [(0, .ref (ad (0))), (1, .int p1), (2, .int v4), (3, .int v7), (4, .int v8), (5, .int v9), (6, .int v11), (7, .int v12)] := hl
        refine X.eqs (sp2 := sM_look_L111 S3 v4 v7 v8 v9 rc10 rc13 v11 v12) rfl ?_
        unfold sM_look_L111
        refine x_iload hx hb dX4_look_111 (lv_at hl 7 rfl) ?_
        refine x_iload_n hx hb dX4_look_113 rfl (lv_at hl 2 rfl) ?_
        refine x_icmp_ge (tgt := 198) hx hb dX4_look_114 (by decide) (fun hc => ?_) (fun hc => ?_)
        · refine x_iload hx hb dX4_look_198 (lv_at hl 6 rfl) ?_
          refine x_iload hx hb dX4_look_200 (lv_at hl 4 rfl) ?_
          refine x_icmp_gt (tgt := 208) hx hb dX4_look_202 (by decide) (fun hc => ?_) (fun hc => ?_)
          · refine x_iload hx hb dX4_look_208 (lv_at hl 5 rfl) ?_
            refine x_istore_n (lv' := [(3, .int v9), (0, .ref (ad (0))), (1, .int p1), (2, .int v4), (4, .int v8), (5, .int v9), (6, .int v11), (7, .int v12)]) hx hb dX4_look_210 rfl hl (by decide) rfl (fun ls hl => ?_)
            refine x_iload hx hb dX4_look_211 (lv_at hl 6 rfl) ?_
            refine x_istore (lv' := [(4, .int v11), (3, .int v9), (0, .ref (ad (0))), (1, .int p1), (2, .int v4), (5, .int v9), (6, .int v11), (7, .int v12)]) hx hb dX4_look_213 hl (by decide) rfl (fun ls hl => ?_)
            refine x_iinc (v := (v9 + (1 : Int32))) (lv' := [(5, .int (v9 + (1 : Int32))), (4, .int v11), (3, .int v9), (0, .ref (ad (0))), (1, .int p1), (2, .int v4), (6, .int v11), (7, .int v12)]) (k := 5) hx hb dX4_look_215 hl rfl rfl (by decide) rfl (fun ls hl => ?_)
            refine x_goto (tgt := 96) hx hb dX4_look_218 (by decide) ?_
            exact ih10 (v9, v11, (v9 + (1 : Int32))) _ _ _ ⟨hU, hS, _, rfl, lv_sub hl [3, 4, 5, 2, 1, 0] rfl⟩
          · refine x_goto (tgt := 215) hx hb dX4_look_205 (by decide) ?_
            refine x_iinc (v := (v9 + (1 : Int32))) (lv' := [(5, .int (v9 + (1 : Int32))), (0, .ref (ad (0))), (1, .int p1), (2, .int v4), (3, .int v7), (4, .int v8), (6, .int v11), (7, .int v12)]) (k := 5) hx hb dX4_look_215 hl rfl rfl (by decide) rfl (fun ls hl => ?_)
            refine x_goto (tgt := 96) hx hb dX4_look_218 (by decide) ?_
            exact ih10 (v7, v8, (v9 + (1 : Int32))) _ _ _ ⟨hU, hS, _, rfl, lv_sub hl [1, 2, 3, 4, 5, 0] rfl⟩
        · refine x_iconst (v := 1) hx hb dX4_look_117 (by decide) ?_
          refine x_istore (lv' := [(8, .int (1 : Int32)), (0, .ref (ad (0))), (1, .int p1), (2, .int v4), (3, .int v7), (4, .int v8), (5, .int v9), (6, .int v11), (7, .int v12)]) hx hb dX4_look_118 hl (by decide) rfl (fun ls hl => ?_)
          refine x_iconst (v := 0) hx hb dX4_look_120 (by decide) ?_
          refine x_istore (lv' := [(9, .int (0 : Int32)), (8, .int (1 : Int32)), (0, .ref (ad (0))), (1, .int p1), (2, .int v4), (3, .int v7), (4, .int v8), (5, .int v9), (6, .int v11), (7, .int v12)]) hx hb dX4_look_121 hl (by decide) rfl (fun ls hl => ?_)
          refine X.join2 (fun (x : Int32) g H locs => UM D ct ad (uA 31 ad s.heap.size) S3 w H ∧ va_S (uA 31 ad s.heap.size) s.heap H locs ∧ ∃ ls : Array Slot, g = F0 m 177 ls [] ∧ lv_has ls 10 [(0, .ref (ad (0))), (1, .int p1), (2, .int v4), (3, .int v7), (4, .int v8), (5, .int v9), (6, .int v11), (7, .int v12), (8, .int x)]) ?_ (fun j15 hj15 => ?_)
          · rintro v14 _ H locs ⟨hU, hS, ls, rfl, hl⟩
            refine X.eqs (sp2 := sM_look_J177 v11 v12 rc13 v14) rfl ?_
            unfold sM_look_J177
            refine x_iload hx hb dX4_look_177 (lv_at hl 6 rfl) ?_
            refine x_iload hx hb dX4_look_179 (lv_at hl 8 rfl) ?_
            refine x_if_eq (tgt := 188) hx hb dX4_look_181 (by decide) (fun hc => ?_) (fun hc => ?_)
            · refine x_iconst (v := 0) hx hb dX4_look_188 (by decide) ?_
              refine x_iadd hx hb dX4_look_189 ?_
              refine x_istore (lv' := [(6, .int (v11 + (0 : Int32))), (0, .ref (ad (0))), (1, .int p1), (2, .int v4), (3, .int v7), (4, .int v8), (5, .int v9), (7, .int v12), (8, .int v14)]) hx hb dX4_look_190 hl (by decide) rfl (fun ls hl => ?_)
              refine x_iinc (v := (v12 + (1 : Int32))) (lv' := [(7, .int (v12 + (1 : Int32))), (6, .int (v11 + (0 : Int32))), (0, .ref (ad (0))), (1, .int p1), (2, .int v4), (3, .int v7), (4, .int v8), (5, .int v9), (8, .int v14)]) (k := 7) hx hb dX4_look_192 hl rfl rfl (by decide) rfl (fun ls hl => ?_)
              refine x_goto (tgt := 111) hx hb dX4_look_195 (by decide) ?_
              exact ih13 ((v11 + (0 : Int32)), (v12 + (1 : Int32))) _ _ _ ⟨hU, hS, _, rfl, lv_sub hl [2, 3, 4, 5, 6, 7, 1, 0] rfl⟩
            · refine x_iconst (v := 1) hx hb dX4_look_184 (by decide) ?_
              refine x_goto (tgt := 189) hx hb dX4_look_185 (by decide) ?_
              refine x_iadd hx hb dX4_look_189 ?_
              refine x_istore (lv' := [(6, .int (v11 + (1 : Int32))), (0, .ref (ad (0))), (1, .int p1), (2, .int v4), (3, .int v7), (4, .int v8), (5, .int v9), (7, .int v12), (8, .int v14)]) hx hb dX4_look_190 hl (by decide) rfl (fun ls hl => ?_)
              refine x_iinc (v := (v12 + (1 : Int32))) (lv' := [(7, .int (v12 + (1 : Int32))), (6, .int (v11 + (1 : Int32))), (0, .ref (ad (0))), (1, .int p1), (2, .int v4), (3, .int v7), (4, .int v8), (5, .int v9), (8, .int v14)]) (k := 7) hx hb dX4_look_192 hl rfl rfl (by decide) rfl (fun ls hl => ?_)
              refine x_goto (tgt := 111) hx hb dX4_look_195 (by decide) ?_
              exact ih13 ((v11 + (1 : Int32)), (v12 + (1 : Int32))) _ _ _ ⟨hU, hS, _, rfl, lv_sub hl [2, 3, 4, 5, 6, 7, 1, 0] rfl⟩
          · refine X.loop (I := fun (x : (Int32 × Int32)) g H locs => UM D ct ad (uA 31 ad s.heap.size) S3 w H ∧ va_S (uA 31 ad s.heap.size) s.heap H locs ∧ ∃ ls : Array Slot, g = F0 m 123 ls [] ∧ lv_has ls 10 [(0, .ref (ad (0))), (1, .int p1), (2, .int v4), (3, .int v7), (4, .int v8), (5, .int v9), (6, .int v11), (7, .int v12), (8, .int x.1), (9, .int x.2)]) (fun rc18 ih18 => ?_) FUEL _ _ _ _ ⟨hU, hS, _, rfl, lv_sub hl [2, 3, 4, 5, 6, 7, 8, 9, 1, 0] rfl⟩
            rintro ⟨v16, v17⟩ _ H locs ⟨hU, hS, ls, rfl, hl⟩
            have hU : UM D ct ad (uA 31 ad s.heap.size) S3 w H := hU
            have hl : lv_has ls 10 [(0, .ref (ad (0))), (1, .int p1), (2, .int v4), (3, .int v7), (4, .int v8), (5, .int v9), (6, .int v11), (7, .int v12), (8, .int v16), (9, .int v17)] := hl
            refine X.eqs (sp2 := sM_look_L123 S3 v9 v12 j15 rc18 v16 v17) rfl ?_
            unfold sM_look_L123
            refine x_iload hx hb dX4_look_123 (lv_at hl 9 rfl) ?_
            refine x_iload hx hb dX4_look_125 (lv_at hl 7 rfl) ?_
            refine x_icmp_ge (tgt := 177) hx hb dX4_look_127 (by decide) (fun hc => ?_) (fun hc => ?_)
            · exact hj15 v16 _ _ _ ⟨hU, hS, _, rfl, lv_sub hl [0, 1, 2, 3, 4, 5, 6, 7, 8] rfl⟩
            · refine x_iload hx hb dX4_look_130 (lv_at hl 8 rfl) ?_
              refine x_if_eq (tgt := 177) hx hb dX4_look_132 (by decide) (fun hc => ?_) (fun hc => ?_)
              · exact hj15 v16 _ _ _ ⟨hU, hS, _, rfl, lv_sub hl [0, 1, 2, 3, 4, 5, 6, 7, 8] rfl⟩
              · refine x_aload_n hx hb dX4_look_135 rfl (lv_at hl 0 rfl) ?_
                refine gM_soonAll E hU dX4_look_136 ?_
                refine x_bipush (v := 12) hx hb dX4_look_139 (by decide) ?_
                refine x_iload hx hb dX4_look_141 (lv_at hl 7 rfl) ?_
                refine x_imul hx hb dX4_look_143 ?_
                refine x_iload hx hb dX4_look_144 (lv_at hl 5 rfl) ?_
                refine x_iadd hx hb dX4_look_146 ?_
                refine ux_ald (i := 26) (n := 7200) E hU (by decide) rfl dX4_look_147 ?_
                refine x_aload_n hx hb dX4_look_148 rfl (lv_at hl 0 rfl) ?_
                refine gM_soonAll E hU dX4_look_149 ?_
                refine x_bipush (v := 12) hx hb dX4_look_152 (by decide) ?_
                refine x_iload hx hb dX4_look_154 (lv_at hl 9 rfl) ?_
                refine x_imul hx hb dX4_look_156 ?_
                refine x_iload hx hb dX4_look_157 (lv_at hl 5 rfl) ?_
                refine x_iadd hx hb dX4_look_159 ?_
                refine ux_ald (i := 26) (n := 7200) E hU (by decide) rfl dX4_look_160 ?_
                refine x_icmp_eq (tgt := 168) hx hb dX4_look_161 (by decide) (fun hc => ?_) (fun hc => ?_)
                · refine x_iconst (v := 0) hx hb dX4_look_168 (by decide) ?_
                  refine x_istore (lv' := [(8, .int (0 : Int32)), (0, .ref (ad (0))), (1, .int p1), (2, .int v4), (3, .int v7), (4, .int v8), (5, .int v9), (6, .int v11), (7, .int v12), (9, .int v17)]) hx hb dX4_look_169 hl (by decide) rfl (fun ls hl => ?_)
                  refine x_iinc (v := (v17 + (1 : Int32))) (lv' := [(9, .int (v17 + (1 : Int32))), (8, .int (0 : Int32)), (0, .ref (ad (0))), (1, .int p1), (2, .int v4), (3, .int v7), (4, .int v8), (5, .int v9), (6, .int v11), (7, .int v12)]) (k := 9) hx hb dX4_look_171 hl rfl rfl (by decide) rfl (fun ls hl => ?_)
                  refine x_goto (tgt := 123) hx hb dX4_look_174 (by decide) ?_
                  exact ih18 ((0 : Int32), (v17 + (1 : Int32))) _ _ _ ⟨hU, hS, _, rfl, lv_sub hl [2, 3, 4, 5, 6, 7, 8, 9, 1, 0] rfl⟩
                · refine x_iconst (v := 1) hx hb dX4_look_164 (by decide) ?_
                  refine x_goto (tgt := 169) hx hb dX4_look_165 (by decide) ?_
                  refine x_istore (lv' := [(8, .int (1 : Int32)), (0, .ref (ad (0))), (1, .int p1), (2, .int v4), (3, .int v7), (4, .int v8), (5, .int v9), (6, .int v11), (7, .int v12), (9, .int v17)]) hx hb dX4_look_169 hl (by decide) rfl (fun ls hl => ?_)
                  refine x_iinc (v := (v17 + (1 : Int32))) (lv' := [(9, .int (v17 + (1 : Int32))), (8, .int (1 : Int32)), (0, .ref (ad (0))), (1, .int p1), (2, .int v4), (3, .int v7), (4, .int v8), (5, .int v9), (6, .int v11), (7, .int v12)]) (k := 9) hx hb dX4_look_171 hl rfl rfl (by decide) rfl (fun ls hl => ?_)
                  refine x_goto (tgt := 123) hx hb dX4_look_174 (by decide) ?_
                  exact ih18 ((1 : Int32), (v17 + (1 : Int32))) _ _ _ ⟨hU, hS, _, rfl, lv_sub hl [2, 3, 4, 5, 6, 7, 8, 9, 1, 0] rfl⟩
    · refine x_aload_n hx hb dX4_look_31 rfl (lv_at hl 0 rfl) ?_
      refine x_iload_n hx hb dX4_look_32 rfl (lv_at hl 3 rfl) ?_
      refine kM_isGuess E hU hS hA0 ⟨by decide, by decide⟩ hl.1 (Nat.le_of_ble_eq_true rfl) dX4_look_33 ⟨Nat.le_refl _, Nat.le_refl _⟩ (fun o19 H locs hU hS => ?_)
      refine x_if_ne (tgt := 42) hx hb dX4_look_36 (by decide) (fun hc => ?_) (fun hc => ?_)
      · refine x_iconst (v := 0) hx hb dX4_look_42 (by decide) ?_
        refine x_istore (lv' := [(4, .int (0 : Int32)), (0, .ref (ad (0))), (1, .int p1), (2, .int v4), (3, .int v5)]) hx hb dX4_look_43 hl (by decide) rfl (fun ls hl => ?_)
        refine X.loop (I := fun (x : (US × Int32)) g H locs => UM D ct ad (uA 31 ad s.heap.size) x.1 w H ∧ va_S (uA 31 ad s.heap.size) s.heap H locs ∧ ∃ ls : Array Slot, g = F0 m 45 ls [] ∧ lv_has ls 10 [(0, .ref (ad (0))), (1, .int p1), (2, .int v4), (3, .int v5), (4, .int x.2)]) (fun rc22 ih22 => ?_) FUEL _ _ _ _ ⟨hU, hS, _, rfl, lv_sub hl [1, 2, 3, 4, 0] rfl⟩
        rintro ⟨S20, v21⟩ _ H locs ⟨hU, hS, ls, rfl, hl⟩
        have hU : UM D ct ad (uA 31 ad s.heap.size) S20 w H := hU
        have hl : lv_has ls 10 [(0, .ref (ad (0))), (1, .int p1), (2, .int v4), (3, .int v5), (4, .int v21)] := hl
        refine X.eqs (sp2 := sM_look_L45 v4 v5 rc6 rc22 S20 v21) rfl ?_
        unfold sM_look_L45
        refine x_iload hx hb dX4_look_45 (lv_at hl 4 rfl) ?_
        refine x_aload_n hx hb dX4_look_47 rfl (lv_at hl 0 rfl) ?_
        refine gM_many E hU dX4_look_48 ?_
        refine x_icmp_ge (tgt := 79) hx hb dX4_look_51 (by decide) (fun hc => ?_) (fun hc => ?_)
        · refine x_iinc (v := (v4 + (1 : Int32))) (lv' := [(2, .int (v4 + (1 : Int32))), (0, .ref (ad (0))), (1, .int p1), (3, .int v5), (4, .int v21)]) (k := 2) hx hb dX4_look_79 hl rfl rfl (by decide) rfl (fun ls hl => ?_)
          refine x_iinc (v := (v5 + (1 : Int32))) (lv' := [(3, .int (v5 + (1 : Int32))), (2, .int (v4 + (1 : Int32))), (0, .ref (ad (0))), (1, .int p1), (4, .int v21)]) (k := 3) hx hb dX4_look_82 hl rfl rfl (by decide) rfl (fun ls hl => ?_)
          refine x_goto (tgt := 20) hx hb dX4_look_85 (by decide) ?_
          exact ih6 (S20, (v4 + (1 : Int32)), (v5 + (1 : Int32))) _ _ _ ⟨hU, hS, _, rfl, lv_sub hl [2, 3, 1, 0] rfl⟩
        · refine x_aload_n hx hb dX4_look_54 rfl (lv_at hl 0 rfl) ?_
          refine gM_soonAll E hU dX4_look_55 ?_
          refine x_bipush (v := 12) hx hb dX4_look_58 (by decide) ?_
          refine x_iload_n hx hb dX4_look_60 rfl (lv_at hl 2 rfl) ?_
          refine x_imul hx hb dX4_look_61 ?_
          refine x_iload hx hb dX4_look_62 (lv_at hl 4 rfl) ?_
          refine x_iadd hx hb dX4_look_64 ?_
          refine x_aload_n hx hb dX4_look_65 rfl (lv_at hl 0 rfl) ?_
          refine gM_soon E hU dX4_look_66 ?_
          refine x_iload hx hb dX4_look_69 (lv_at hl 4 rfl) ?_
          refine ux_ald (i := 25) (n := 12) E hU (by decide) rfl dX4_look_71 ?_
          refine ux_ast (i := 26) (n := 7200) E hU hS (by decide) rfl dX4_look_72 (fun S23 H locs hU hS => ?_)
          refine x_iinc (v := (v21 + (1 : Int32))) (lv' := [(4, .int (v21 + (1 : Int32))), (0, .ref (ad (0))), (1, .int p1), (2, .int v4), (3, .int v5)]) (k := 4) hx hb dX4_look_73 hl rfl rfl (by decide) rfl (fun ls hl => ?_)
          refine x_goto (tgt := 45) hx hb dX4_look_76 (by decide) ?_
          exact ih22 (S23, (v21 + (1 : Int32))) _ _ _ ⟨hU, hS, _, rfl, lv_sub hl [1, 2, 3, 4, 0] rfl⟩
      · refine x_goto (tgt := 82) hx hb dX4_look_39 (by decide) ?_
        refine x_iinc (v := (v5 + (1 : Int32))) (lv' := [(3, .int (v5 + (1 : Int32))), (0, .ref (ad (0))), (1, .int p1), (2, .int v4)]) (k := 3) hx hb dX4_look_82 hl rfl rfl (by decide) rfl (fun ls hl => ?_)
        refine x_goto (tgt := 20) hx hb dX4_look_85 (by decide) ?_
        exact ih6 (o19.2, v4, (v5 + (1 : Int32))) _ _ _ ⟨hU, hS, _, rfl, lv_sub hl [1, 2, 3, 0] rfl⟩
  · refine x_iconst (v := 0) hx hb dX4_look_14 (by decide) ?_
    exact x_iret hx hb hr hlk hS rfl (hU.to fun _ _ => trivial) dX4_look_15

set_option maxHeartbeats 4000000 in
theorem mM_gales (l : Launch) (D : va_G) (ct : CT) (ad : Nat → Nat) (S : US) (w : Int64) (p1 : Int32) (p2 : Int32) (sz : Nat) (o : (Int32 × US)) (ho : sM_gales S p1 p2 = some o) : Met l yX4_gales (ws_ yX4_gales cX4_gales 9 (some .int)) { frames := 6, cells := 0, slots := 0, locals := 145 } (mP D clW ct [.ref (ad (0)), .int p1, .int p2] sz (UM D ct ad (fun _ => True) S w)) (mC (some (.int o.1)) (UM D ct ad (fun _ => True) o.2 w) (uA 31 ad sz)) 0 0 (uA 31 ad sz) := by
  refine X.start (val := fun (o : (Int32 × US)) => some (.int o.1)) (Bt := fun (o : (Int32 × US)) => UM D ct ad (fun _ => True) o.2 w) (A := uA 31 ad sz) ho (by decide) (Nat.le_of_ble_eq_true rfl) rfl ?_
  intro p e s m args below meth c E hr hlk hnm hsz hU ls hl
  subst hsz
  obtain ⟨⟨hx, hb, hml, hown, hts⟩, hK, hJ⟩ := id E
  replace hU := hU.to (B := uA 31 ad s.heap.size) (fun i hi => Or.inl ⟨i, hi, rfl⟩)
  have hA0 : ∀ q, s.heap.size ≤ q → (uA 31 ad s.heap.size) q := fun q h => Or.inr h
  have hS : va_S (uA 31 ad s.heap.size) s.heap s.heap [] := va_S.rf
  unfold sM_gales
  refine x_aload_n hx hb dX4_gales_0 rfl (lv_at hl 0 rfl) ?_
  refine x_iconst (v := 0) hx hb dX4_gales_1 (by decide) ?_
  refine pM_thrown E hU hS dX4_gales_2 (fun S1 H locs hU hS => ?_)
  refine x_aload_n hx hb dX4_gales_5 rfl (lv_at hl 0 rfl) ?_
  refine x_iload_n hx hb dX4_gales_6 rfl (lv_at hl 1 rfl) ?_
  refine x_iconst (v := 1) hx hb dX4_gales_7 (by decide) ?_
  refine x_iconst (v := 5) hx hb dX4_gales_8 (by decide) ?_
  refine kM_within E hS hA0 ⟨by decide, by decide⟩ hl.1 (Nat.le_of_ble_eq_true rfl) dX4_gales_9 ⟨Nat.le_refl _, Nat.le_refl _⟩ (fun o2 H locs hk hS => ?_)
  replace hU := hU.kept (fun i hi => hk _ (hU.lt hi))
  refine X.join2 (fun (x : Int32) g H locs => UM D ct ad (uA 31 ad s.heap.size) S1 w H ∧ va_S (uA 31 ad s.heap.size) s.heap H locs ∧ ∃ ls : Array Slot, g = F0 m 30 ls [.int x, .ref (ad (0))] ∧ lv_has ls 9 [(0, .ref (ad (0))), (1, .int p1), (2, .int p2)]) ?_ (fun j4 hj4 => ?_)
  · rintro y3 _ H locs ⟨hU, hS, ls, rfl, hl⟩
    refine X.eqs (sp2 := sM_gales_J30 p1 p2 S1 y3) rfl ?_
    unfold sM_gales_J30
    refine x_iconst (v := 1) hx hb dX4_gales_30 (by decide) ?_
    refine kM_right E hU hS hA0 ⟨by decide, by decide⟩ hl.1 (Nat.le_of_ble_eq_true rfl) dX4_gales_31 ⟨Nat.le_refl _, Nat.le_refl _⟩ (fun o5 H locs hU hS => ?_)
    refine x_if_ne (tgt := 39) hx hb dX4_gales_34 (by decide) (fun hc => ?_) (fun hc => ?_)
    · refine x_iconst (v := 0) hx hb dX4_gales_39 (by decide) ?_
      refine x_istore_n (lv' := [(3, .int (0 : Int32)), (0, .ref (ad (0))), (1, .int p1), (2, .int p2)]) hx hb dX4_gales_40 rfl hl (by decide) rfl (fun ls hl => ?_)
      refine x_iconst (v := 0) hx hb dX4_gales_41 (by decide) ?_
      refine x_istore (lv' := [(4, .int (0 : Int32)), (3, .int (0 : Int32)), (0, .ref (ad (0))), (1, .int p1), (2, .int p2)]) hx hb dX4_gales_42 hl (by decide) rfl (fun ls hl => ?_)
      refine X.loop (I := fun (x : (US × Int32 × Int32)) g H locs => UM D ct ad (uA 31 ad s.heap.size) x.1 w H ∧ va_S (uA 31 ad s.heap.size) s.heap H locs ∧ ∃ ls : Array Slot, g = F0 m 44 ls [] ∧ lv_has ls 9 [(0, .ref (ad (0))), (1, .int p1), (2, .int p2), (3, .int x.2.1), (4, .int x.2.2)]) (fun rc9 ih9 => ?_) FUEL _ _ _ _ ⟨hU, hS, _, rfl, lv_sub hl [2, 3, 4, 1, 0] rfl⟩
      rintro ⟨S6, v7, v8⟩ _ H locs ⟨hU, hS, ls, rfl, hl⟩
      have hU : UM D ct ad (uA 31 ad s.heap.size) S6 w H := hU
      have hl : lv_has ls 9 [(0, .ref (ad (0))), (1, .int p1), (2, .int p2), (3, .int v7), (4, .int v8)] := hl
      refine X.eqs (sp2 := sM_gales_L44 p1 p2 rc9 S6 v7 v8) rfl ?_
      unfold sM_gales_L44
      refine x_iload hx hb dX4_gales_44 (lv_at hl 4 rfl) ?_
      refine x_iconst (v := 1) hx hb dX4_gales_46 (by decide) ?_
      refine x_iload_n hx hb dX4_gales_47 rfl (lv_at hl 1 rfl) ?_
      refine x_ishl hx hb dX4_gales_48 ?_
      refine x_icmp_ge (tgt := 192) hx hb dX4_gales_49 (by decide) (fun hc => ?_) (fun hc => ?_)
      · refine x_iload_n hx hb dX4_gales_192 rfl (lv_at hl 3 rfl) ?_
        exact x_iret hx hb hr hlk hS rfl (hU.to fun _ _ => trivial) dX4_gales_193
      · refine x_iconst (v := 1) hx hb dX4_gales_52 (by decide) ?_
        refine x_istore (lv' := [(5, .int (1 : Int32)), (0, .ref (ad (0))), (1, .int p1), (2, .int p2), (3, .int v7), (4, .int v8)]) hx hb dX4_gales_53 hl (by decide) rfl (fun ls hl => ?_)
        refine x_aload_n hx hb dX4_gales_55 rfl (lv_at hl 1 rfl) ?_
        refine kM_tries E hU hS hA0 ⟨by decide, by decide⟩ hl.1 (Nat.le_of_ble_eq_true rfl) dX4_gales_56 ⟨Nat.le_refl _, Nat.le_refl _⟩ (fun o10 H locs hU hS => ?_)
        refine x_iconst (v := 0) hx hb dX4_gales_59 (by decide) ?_
        refine x_istore (lv' := [(6, .int (0 : Int32)), (5, .int (1 : Int32)), (0, .ref (ad (0))), (1, .int p1), (2, .int p2), (3, .int v7), (4, .int v8)]) hx hb dX4_gales_60 hl (by decide) rfl (fun ls hl => ?_)
        refine X.loop (I := fun (x : (US × Int32 × Int32)) g H locs => UM D ct ad (uA 31 ad s.heap.size) x.1 w H ∧ va_S (uA 31 ad s.heap.size) s.heap H locs ∧ ∃ ls : Array Slot, g = F0 m 62 ls [] ∧ lv_has ls 9 [(0, .ref (ad (0))), (1, .int p1), (2, .int p2), (3, .int v7), (4, .int v8), (5, .int x.2.1), (6, .int x.2.2)]) (fun rc14 ih14 => ?_) FUEL _ _ _ _ ⟨hU, hS, _, rfl, lv_sub hl [2, 3, 4, 5, 6, 1, 0] rfl⟩
        rintro ⟨S11, v12, v13⟩ _ H locs ⟨hU, hS, ls, rfl, hl⟩
        have hU : UM D ct ad (uA 31 ad s.heap.size) S11 w H := hU
        have hl : lv_has ls 9 [(0, .ref (ad (0))), (1, .int p1), (2, .int p2), (3, .int v7), (4, .int v8), (5, .int v12), (6, .int v13)] := hl
        refine X.eqs (sp2 := sM_gales_L62 p1 p2 v7 v8 rc9 rc14 S11 v12 v13) rfl ?_
        unfold sM_gales_L62
        refine x_iload hx hb dX4_gales_62 (lv_at hl 6 rfl) ?_
        refine x_iload_n hx hb dX4_gales_64 rfl (lv_at hl 1 rfl) ?_
        refine x_icmp_ge (tgt := 160) hx hb dX4_gales_65 (by decide) (fun hc => ?_) (fun hc => ?_)
        · refine x_iload_n hx hb dX4_gales_160 rfl (lv_at hl 3 rfl) ?_
          refine x_aload_n hx hb dX4_gales_161 rfl (lv_at hl 0 rfl) ?_
          refine x_bipush (v := 49) hx hb dX4_gales_162 (by decide) ?_
          refine kM_openOnes E hU hS hA0 ⟨by decide, by decide⟩ hl.1 (Nat.le_of_ble_eq_true rfl) dX4_gales_164 ⟨Nat.le_refl _, Nat.le_refl _⟩ (fun o15 H locs hU hS => ?_)
          refine x_aload_n hx hb dX4_gales_167 rfl (lv_at hl 0 rfl) ?_
          refine x_iconst (v := 0) hx hb dX4_gales_168 (by decide) ?_
          refine kM_openOnes E hU hS hA0 ⟨by decide, by decide⟩ hl.1 (Nat.le_of_ble_eq_true rfl) dX4_gales_169 ⟨Nat.le_refl _, Nat.le_refl _⟩ (fun o16 H locs hU hS => ?_)
          refine x_iconst (v := -1) hx hb dX4_gales_172 (by decide) ?_
          refine x_ixor hx hb dX4_gales_173 ?_
          refine x_iand hx hb dX4_gales_174 ?_
          refine x_if_eq (tgt := 183) hx hb dX4_gales_175 (by decide) (fun hc => ?_) (fun hc => ?_)
          · refine x_iconst (v := 0) hx hb dX4_gales_183 (by decide) ?_
            refine x_iadd hx hb dX4_gales_184 ?_
            refine x_istore_n (lv' := [(3, .int (v7 + (0 : Int32))), (0, .ref (ad (0))), (1, .int p1), (2, .int p2), (4, .int v8), (5, .int v12), (6, .int v13)]) hx hb dX4_gales_185 rfl hl (by decide) rfl (fun ls hl => ?_)
            refine x_iinc (v := (v8 + (1 : Int32))) (lv' := [(4, .int (v8 + (1 : Int32))), (3, .int (v7 + (0 : Int32))), (0, .ref (ad (0))), (1, .int p1), (2, .int p2), (5, .int v12), (6, .int v13)]) (k := 4) hx hb dX4_gales_186 hl rfl rfl (by decide) rfl (fun ls hl => ?_)
            refine x_goto (tgt := 44) hx hb dX4_gales_189 (by decide) ?_
            exact ih9 (S11, (v7 + (0 : Int32)), (v8 + (1 : Int32))) _ _ _ ⟨hU, hS, _, rfl, lv_sub hl [2, 3, 4, 1, 0] rfl⟩
          · refine x_iload hx hb dX4_gales_178 (lv_at hl 5 rfl) ?_
            refine x_goto (tgt := 184) hx hb dX4_gales_180 (by decide) ?_
            refine x_iadd hx hb dX4_gales_184 ?_
            refine x_istore_n (lv' := [(3, .int (v7 + v12)), (0, .ref (ad (0))), (1, .int p1), (2, .int p2), (4, .int v8), (5, .int v12), (6, .int v13)]) hx hb dX4_gales_185 rfl hl (by decide) rfl (fun ls hl => ?_)
            refine x_iinc (v := (v8 + (1 : Int32))) (lv' := [(4, .int (v8 + (1 : Int32))), (3, .int (v7 + v12)), (0, .ref (ad (0))), (1, .int p1), (2, .int p2), (5, .int v12), (6, .int v13)]) (k := 4) hx hb dX4_gales_186 hl rfl rfl (by decide) rfl (fun ls hl => ?_)
            refine x_goto (tgt := 44) hx hb dX4_gales_189 (by decide) ?_
            exact ih9 (S11, (v7 + v12), (v8 + (1 : Int32))) _ _ _ ⟨hU, hS, _, rfl, lv_sub hl [2, 3, 4, 1, 0] rfl⟩
        · refine x_iload hx hb dX4_gales_68 (lv_at hl 4 rfl) ?_
          refine x_iload hx hb dX4_gales_70 (lv_at hl 6 rfl) ?_
          refine x_ishr hx hb dX4_gales_72 ?_
          refine x_iconst (v := 1) hx hb dX4_gales_73 (by decide) ?_
          refine x_iand hx hb dX4_gales_74 ?_
          refine x_iconst (v := 1) hx hb dX4_gales_75 (by decide) ?_
          refine X.join2 (fun (x : Int32) g H locs => UM D ct ad (uA 31 ad s.heap.size) S11 w H ∧ va_S (uA 31 ad s.heap.size) s.heap H locs ∧ ∃ ls : Array Slot, g = F0 m 84 ls [.int x] ∧ lv_has ls 9 [(0, .ref (ad (0))), (1, .int p1), (2, .int p2), (3, .int v7), (4, .int v8), (5, .int v12), (6, .int v13)]) ?_ (fun j18 hj18 => ?_)
          · rintro y17 _ H locs ⟨hU, hS, ls, rfl, hl⟩
            refine X.eqs (sp2 := sM_gales_J84 p2 S11 v12 v13 rc14 y17) rfl ?_
            unfold sM_gales_J84
            refine x_istore (lv' := [(7, .int y17), (0, .ref (ad (0))), (1, .int p1), (2, .int p2), (3, .int v7), (4, .int v8), (5, .int v12), (6, .int v13)]) hx hb dX4_gales_84 hl (by decide) rfl (fun ls hl => ?_)
            refine x_iload hx hb dX4_gales_86 (lv_at hl 6 rfl) ?_
            refine x_iload hx hb dX4_gales_88 (lv_at hl 0 rfl) ?_
            refine X.join2 (fun (x : Int32) g H locs => UM D ct ad (uA 31 ad s.heap.size) S11 w H ∧ va_S (uA 31 ad s.heap.size) s.heap H locs ∧ ∃ ls : Array Slot, g = F0 m 101 ls [.int x, .int v12] ∧ lv_has ls 9 [(0, .ref (ad (0))), (1, .int p1), (2, .int p2), (3, .int v7), (4, .int v8), (6, .int v13), (7, .int y17)]) ?_ (fun j20 hj20 => ?_)
            · rintro y19 _ H locs ⟨hU, hS, ls, rfl, hl⟩
              refine X.eqs (sp2 := sM_gales_J101 S11 v12 v13 rc14 y17 y19) rfl ?_
              unfold sM_gales_J101
              refine x_imul hx hb dX4_gales_101 ?_
              refine x_istore (lv' := [(5, .int (v12 * y19)), (0, .ref (ad (0))), (1, .int p1), (2, .int p2), (3, .int v7), (4, .int v8), (6, .int v13), (7, .int y17)]) hx hb dX4_gales_102 hl (by decide) rfl (fun ls hl => ?_)
              refine x_iconst (v := 0) hx hb dX4_gales_104 (by decide) ?_
              refine x_istore (lv' := [(8, .int (0 : Int32)), (5, .int (v12 * y19)), (0, .ref (ad (0))), (1, .int p1), (2, .int p2), (3, .int v7), (4, .int v8), (6, .int v13), (7, .int y17)]) hx hb dX4_gales_105 hl (by decide) rfl (fun ls hl => ?_)
              refine X.loop (I := fun (x : (US × Int32)) g H locs => UM D ct ad (uA 31 ad s.heap.size) x.1 w H ∧ va_S (uA 31 ad s.heap.size) s.heap H locs ∧ ∃ ls : Array Slot, g = F0 m 107 ls [] ∧ lv_has ls 9 [(0, .ref (ad (0))), (1, .int p1), (2, .int p2), (3, .int v7), (4, .int v8), (5, .int (v12 * y19)), (6, .int v13), (7, .int y17), (8, .int x.2)]) (fun rc23 ih23 => ?_) FUEL _ _ _ _ ⟨hU, hS, _, rfl, lv_sub hl [2, 3, 4, 5, 6, 1, 7, 8, 0] rfl⟩
              rintro ⟨S21, v22⟩ _ H locs ⟨hU, hS, ls, rfl, hl⟩
              have hU : UM D ct ad (uA 31 ad s.heap.size) S21 w H := hU
              have hl : lv_has ls 9 [(0, .ref (ad (0))), (1, .int p1), (2, .int p2), (3, .int v7), (4, .int v8), (5, .int (v12 * y19)), (6, .int v13), (7, .int y17), (8, .int v22)] := hl
              refine X.eqs (sp2 := sM_gales_L107 v12 v13 rc14 y17 y19 rc23 S21 v22) rfl ?_
              unfold sM_gales_L107
              refine x_iload hx hb dX4_gales_107 (lv_at hl 8 rfl) ?_
              refine x_aload_n hx hb dX4_gales_109 rfl (lv_at hl 0 rfl) ?_
              refine gM_many E hU dX4_gales_110 ?_
              refine x_icmp_ge (tgt := 148) hx hb dX4_gales_113 (by decide) (fun hc => ?_) (fun hc => ?_)
              · refine x_aload_n hx hb dX4_gales_148 rfl (lv_at hl 0 rfl) ?_
                refine x_bipush (v := 49) hx hb dX4_gales_149 (by decide) ?_
                refine kM_dayGoes E hU hS hA0 ⟨by decide, by decide⟩ hl.1 (Nat.le_of_ble_eq_true rfl) dX4_gales_151 ⟨Nat.le_refl _, Nat.le_refl _⟩ (fun o24 H locs hU hS => ?_)
                refine x_iinc (v := (v13 + (1 : Int32))) (lv' := [(6, .int (v13 + (1 : Int32))), (0, .ref (ad (0))), (1, .int p1), (2, .int p2), (3, .int v7), (4, .int v8), (5, .int (v12 * y19)), (7, .int y17), (8, .int v22)]) (k := 6) hx hb dX4_gales_154 hl rfl rfl (by decide) rfl (fun ls hl => ?_)
                refine x_goto (tgt := 62) hx hb dX4_gales_157 (by decide) ?_
                exact ih14 (o24, (v12 * y19), (v13 + (1 : Int32))) _ _ _ ⟨hU, hS, _, rfl, lv_sub hl [1, 2, 3, 4, 5, 6, 0] rfl⟩
              · refine x_iload hx hb dX4_gales_116 (lv_at hl 7 rfl) ?_
                refine x_if_eq (tgt := 148) hx hb dX4_gales_118 (by decide) (fun hc => ?_) (fun hc => ?_)
                · refine x_aload_n hx hb dX4_gales_148 rfl (lv_at hl 0 rfl) ?_
                  refine x_bipush (v := 49) hx hb dX4_gales_149 (by decide) ?_
                  refine kM_dayGoes E hU hS hA0 ⟨by decide, by decide⟩ hl.1 (Nat.le_of_ble_eq_true rfl) dX4_gales_151 ⟨Nat.le_refl _, Nat.le_refl _⟩ (fun o25 H locs hU hS => ?_)
                  refine x_iinc (v := (v13 + (1 : Int32))) (lv' := [(6, .int (v13 + (1 : Int32))), (0, .ref (ad (0))), (1, .int p1), (2, .int p2), (3, .int v7), (4, .int v8), (5, .int (v12 * y19)), (7, .int y17), (8, .int v22)]) (k := 6) hx hb dX4_gales_154 hl rfl rfl (by decide) rfl (fun ls hl => ?_)
                  refine x_goto (tgt := 62) hx hb dX4_gales_157 (by decide) ?_
                  exact ih14 (o25, (v12 * y19), (v13 + (1 : Int32))) _ _ _ ⟨hU, hS, _, rfl, lv_sub hl [1, 2, 3, 4, 5, 6, 0] rfl⟩
                · refine x_aload_n hx hb dX4_gales_121 rfl (lv_at hl 0 rfl) ?_
                  refine x_bipush (v := 49) hx hb dX4_gales_122 (by decide) ?_
                  refine x_iload hx hb dX4_gales_124 (lv_at hl 8 rfl) ?_
                  refine kM_isGap E hU hS hA0 ⟨by decide, by decide⟩ hl.1 (Nat.le_of_ble_eq_true rfl) dX4_gales_126 ⟨Nat.le_refl _, Nat.le_refl _⟩ (fun o26 H locs hU hS => ?_)
                  refine x_if_ne (tgt := 142) hx hb dX4_gales_129 (by decide) (fun hc => ?_) (fun hc => ?_)
                  · refine x_iinc (v := (v22 + (1 : Int32))) (lv' := [(8, .int (v22 + (1 : Int32))), (0, .ref (ad (0))), (1, .int p1), (2, .int p2), (3, .int v7), (4, .int v8), (5, .int (v12 * y19)), (6, .int v13), (7, .int y17)]) (k := 8) hx hb dX4_gales_142 hl rfl rfl (by decide) rfl (fun ls hl => ?_)
                    refine x_goto (tgt := 107) hx hb dX4_gales_145 (by decide) ?_
                    exact ih23 (S21, (v22 + (1 : Int32))) _ _ _ ⟨hU, hS, _, rfl, lv_sub hl [1, 2, 3, 4, 5, 6, 7, 8, 0] rfl⟩
                  · refine x_aload_n hx hb dX4_gales_132 rfl (lv_at hl 0 rfl) ?_
                    refine x_bipush (v := 49) hx hb dX4_gales_133 (by decide) ?_
                    refine x_iload hx hb dX4_gales_135 (lv_at hl 8 rfl) ?_
                    refine x_bipush (v := 15) hx hb dX4_gales_137 (by decide) ?_
                    refine kM_strains E hU hS hA0 ⟨by decide, by decide⟩ hl.1 (Nat.le_of_ble_eq_true rfl) dX4_gales_139 ⟨Nat.le_refl _, Nat.le_refl _⟩ (fun o27 H locs hU hS => ?_)
                    refine x_iinc (v := (v22 + (1 : Int32))) (lv' := [(8, .int (v22 + (1 : Int32))), (0, .ref (ad (0))), (1, .int p1), (2, .int p2), (3, .int v7), (4, .int v8), (5, .int (v12 * y19)), (6, .int v13), (7, .int y17)]) (k := 8) hx hb dX4_gales_142 hl rfl rfl (by decide) rfl (fun ls hl => ?_)
                    refine x_goto (tgt := 107) hx hb dX4_gales_145 (by decide) ?_
                    exact ih23 (o27, (v22 + (1 : Int32))) _ _ _ ⟨hU, hS, _, rfl, lv_sub hl [1, 2, 3, 4, 5, 6, 7, 8, 0] rfl⟩
            · refine x_if_eq (tgt := 97) hx hb dX4_gales_90 (by decide) (fun hc => ?_) (fun hc => ?_)
              · refine x_bipush (v := 10) hx hb dX4_gales_97 (by decide) ?_
                refine x_iload_n hx hb dX4_gales_99 rfl (lv_at hl 3 rfl) ?_
                refine x_isub hx hb dX4_gales_100 ?_
                exact hj20 ((10 : Int32) - p2) _ _ _ ⟨hU, hS, _, rfl, lv_sub hl [1, 2, 3, 4, 5, 7, 0] rfl⟩
              · refine x_iload_n hx hb dX4_gales_93 rfl (lv_at hl 3 rfl) ?_
                refine x_goto (tgt := 101) hx hb dX4_gales_94 (by decide) ?_
                exact hj20 p2 _ _ _ ⟨hU, hS, _, rfl, lv_sub hl [1, 2, 3, 4, 5, 7, 0] rfl⟩
          · refine x_icmp_ne (tgt := 83) hx hb dX4_gales_76 (by decide) (fun hc => ?_) (fun hc => ?_)
            · refine x_iconst (v := 0) hx hb dX4_gales_83 (by decide) ?_
              exact hj18 (0 : Int32) _ _ _ ⟨hU, hS, _, rfl, lv_sub hl [0, 1, 2, 3, 4, 5, 6] rfl⟩
            · refine x_iconst (v := 1) hx hb dX4_gales_79 (by decide) ?_
              refine x_goto (tgt := 84) hx hb dX4_gales_80 (by decide) ?_
              exact hj18 (1 : Int32) _ _ _ ⟨hU, hS, _, rfl, lv_sub hl [0, 1, 2, 3, 4, 5, 6] rfl⟩
    · refine x_iconst (v := 0) hx hb dX4_gales_37 (by decide) ?_
      exact x_iret hx hb hr hlk hS rfl (hU.to fun _ _ => trivial) dX4_gales_38
  · refine x_if_eq (tgt := 29) hx hb dX4_gales_12 (by decide) (fun hc => ?_) (fun hc => ?_)
    · refine x_iconst (v := 0) hx hb dX4_gales_29 (by decide) ?_
      exact hj4 (0 : Int32) _ _ _ ⟨hU, hS, _, rfl, lv_sub hl [0, 1, 2] rfl⟩
    · refine x_iload_n hx hb dX4_gales_15 rfl (lv_at hl 2 rfl) ?_
      refine x_iconst (v := 0) hx hb dX4_gales_16 (by decide) ?_
      refine x_bipush (v := 10) hx hb dX4_gales_17 (by decide) ?_
      refine kM_within E hS hA0 ⟨by decide, by decide⟩ hl.1 (Nat.le_of_ble_eq_true rfl) dX4_gales_19 ⟨Nat.le_refl _, Nat.le_refl _⟩ (fun o28 H locs hk hS => ?_)
      replace hU := hU.kept (fun i hi => hk _ (hU.lt hi))
      refine x_if_eq (tgt := 29) hx hb dX4_gales_22 (by decide) (fun hc => ?_) (fun hc => ?_)
      · refine x_iconst (v := 0) hx hb dX4_gales_29 (by decide) ?_
        exact hj4 (0 : Int32) _ _ _ ⟨hU, hS, _, rfl, lv_sub hl [0, 1, 2] rfl⟩
      · refine x_iconst (v := 1) hx hb dX4_gales_25 (by decide) ?_
        refine x_goto (tgt := 30) hx hb dX4_gales_26 (by decide) ?_
        exact hj4 (1 : Int32) _ _ _ ⟨hU, hS, _, rfl, lv_sub hl [0, 1, 2] rfl⟩

set_option maxHeartbeats 4000000 in
theorem mM_plays (l : Launch) (D : va_G) (ct : CT) (ad : Nat → Nat) (S : US) (w : Int64) (p1 : Int32) (p2 : Int32) (sz : Nat) (o : US) (ho : sM_plays S p1 p2 = some o) : Met l yX4_plays (ws_ yX4_plays cX4_plays 3 none) { frames := 3, cells := 0, slots := 0, locals := 76 } (mP D clW ct [.ref (ad (0)), .int p1, .int p2] sz (UM D ct ad (fun _ => True) S w)) (mC (none) (UM D ct ad (fun _ => True) o w) (uA 31 ad sz)) 0 0 (uA 31 ad sz) := by
  refine X.start (val := fun (o : US) => none) (Bt := fun (o : US) => UM D ct ad (fun _ => True) o w) (A := uA 31 ad sz) ho (by decide) (Nat.le_of_ble_eq_true rfl) rfl ?_
  intro p e s m args below meth c E hr hlk hnm hsz hU ls hl
  subst hsz
  obtain ⟨⟨hx, hb, hml, hown, hts⟩, hK, hJ⟩ := id E
  replace hU := hU.to (B := uA 31 ad s.heap.size) (fun i hi => Or.inl ⟨i, hi, rfl⟩)
  have hA0 : ∀ q, s.heap.size ≤ q → (uA 31 ad s.heap.size) q := fun q h => Or.inr h
  have hS : va_S (uA 31 ad s.heap.size) s.heap s.heap [] := va_S.rf
  unfold sM_plays
  refine x_iload_n hx hb dX4_plays_0 rfl (lv_at hl 2 rfl) ?_
  refine x_iconst (v := 1) hx hb dX4_plays_1 (by decide) ?_
  refine x_icmp_ne (tgt := 12) hx hb dX4_plays_2 (by decide) (fun hc => ?_) (fun hc => ?_)
  · refine x_aload_n hx hb dX4_plays_12 rfl (lv_at hl 0 rfl) ?_
    refine x_bipush (v := 49) hx hb dX4_plays_13 (by decide) ?_
    refine x_iload_n hx hb dX4_plays_15 rfl (lv_at hl 1 rfl) ?_
    refine kM_mends E hU hS hA0 ⟨by decide, by decide⟩ hl.1 (Nat.le_of_ble_eq_true rfl) dX4_plays_16 ⟨Nat.le_refl _, Nat.le_refl _⟩ (fun o1 H locs hU hS => ?_)
    exact x_vret hx hb hr hlk hS rfl (hU.to fun _ _ => trivial) dX4_plays_19
  · refine x_aload_n hx hb dX4_plays_5 rfl (lv_at hl 0 rfl) ?_
    refine x_bipush (v := 49) hx hb dX4_plays_6 (by decide) ?_
    refine x_iload_n hx hb dX4_plays_8 rfl (lv_at hl 1 rfl) ?_
    refine kM_goesOn E hU hS hA0 ⟨by decide, by decide⟩ hl.1 (Nat.le_of_ble_eq_true rfl) dX4_plays_9 ⟨Nat.le_refl _, Nat.le_refl _⟩ (fun o2 H locs hU hS => ?_)
    refine x_aload_n hx hb dX4_plays_12 rfl (lv_at hl 0 rfl) ?_
    refine x_bipush (v := 49) hx hb dX4_plays_13 (by decide) ?_
    refine x_iload_n hx hb dX4_plays_15 rfl (lv_at hl 1 rfl) ?_
    refine kM_mends E hU hS hA0 ⟨by decide, by decide⟩ hl.1 (Nat.le_of_ble_eq_true rfl) dX4_plays_16 ⟨Nat.le_refl _, Nat.le_refl _⟩ (fun o3 H locs hU hS => ?_)
    exact x_vret hx hb hr hlk hS rfl (hU.to fun _ _ => trivial) dX4_plays_19
section MK
variable {ρ : Type} {p : Program} {l : Launch} {e : Env} {R : Room} {s : State} {m : MethodId} {args : Array Value} {below : List Frame} {meth : Method} {c : Code} {H : Heap} {locs : List Loc} {cells slots : Nat} {Qf : ρ → State → Prop}
variable {cc : ByteArray} {pc nL : Nat} {ls : Array Slot} {rest : List Value}
variable {D : va_G} {ct : CT} {ad : Nat → Nat} {A A0 : Nat → Prop} {S : US} {w : Int64} {H0 : Heap}
theorem kM_plays {p1 : Int32} {p2 : Int32} (E : ME p m c cc nL s args RX4 D clW ct) (hU : UM D ct ad A S w H) (hS : va_S A H0 H locs) (hA0 : ∀ q, H0.size ≤ q → A q) (hR : 3 + 1 ≤ R.frames ∧ 8 + (3 + 11) + 76 ≤ R.locals) (hsize : ls.size = nL) (hW : (rest.map fun v => v.category).sum ≤ 8) (hdg : decode cc pc = .ok (.invokevirtual 426, 3)) (hf : cells ≤ R.cells ∧ slots ≤ R.slots) {kp : US → Option ρ} (kk : ∀ (o : US) (H1 : Heap) (locs1 : List Loc), UM D ct ad A o w H1 → va_S A H0 H1 locs1 → X p l e R s m args below meth c H1 locs1 cells slots Qf (kp o) (F0 m (pc + 3) ls (rest))) : X p l e R s m args below meth c H locs cells slots Qf (callK (sM_plays S p1 p2) kp) (F0 m pc ls (.int p2 :: .int p1 :: .ref (ad 0) :: rest)) := ucV_mod (i := 0) (So := fun (o : US) => o) (wo := fun (o : US) => w) (As := [.int p1, .int p2]) E hU hS hA0 (by decide) rfl rfl (fun sz o ho => mM_plays l D ct ad S w p1 p2 sz o ho) (cwV 2 E.1.2.2.2.2 (lw_V q2446 q2448 qs109 q119 q2449) rfl rfl rfl (by decide +kernel) hR) rfl hsize rfl hW hdg hf kk
end MK

set_option maxHeartbeats 4000000 in
theorem mM_gains (l : Launch) (D : va_G) (ct : CT) (ad : Nat → Nat) (S : US) (w : Int64) (p1 : Int32) (p2 : Int32) (p3 : Int32) (p4 : Int32) (sz : Nat) (o : (Int32 × US)) (ho : sM_gains S p1 p2 p3 p4 = some o) : Met l yX4_gains (ws_ yX4_gains cX4_gains 5 (some .int)) { frames := 7, cells := 0, slots := 0, locals := 167 } (mP D clW ct [.ref (ad (0)), .int p1, .int p2, .int p3, .int p4] sz (UM D ct ad (fun _ => True) S w)) (mC (some (.int o.1)) (UM D ct ad (fun _ => True) o.2 w) (uA 31 ad sz)) 0 0 (uA 31 ad sz) := by
  refine X.start (val := fun (o : (Int32 × US)) => some (.int o.1)) (Bt := fun (o : (Int32 × US)) => UM D ct ad (fun _ => True) o.2 w) (A := uA 31 ad sz) ho (by decide) (Nat.le_of_ble_eq_true rfl) rfl ?_
  intro p e s m args below meth c E hr hlk hnm hsz hU ls hl
  subst hsz
  obtain ⟨⟨hx, hb, hml, hown, hts⟩, hK, hJ⟩ := id E
  replace hU := hU.to (B := uA 31 ad s.heap.size) (fun i hi => Or.inl ⟨i, hi, rfl⟩)
  have hA0 : ∀ q, s.heap.size ≤ q → (uA 31 ad s.heap.size) q := fun q h => Or.inr h
  have hS : va_S (uA 31 ad s.heap.size) s.heap s.heap [] := va_S.rf
  unfold sM_gains
  refine x_aload_n hx hb dX4_gains_0 rfl (lv_at hl 0 rfl) ?_
  refine kM_tries E hU hS hA0 ⟨by decide, by decide⟩ hl.1 (Nat.le_of_ble_eq_true rfl) dX4_gains_1 ⟨Nat.le_refl _, Nat.le_refl _⟩ (fun o1 H locs hU hS => ?_)
  refine x_iload_n hx hb dX4_gains_4 rfl (lv_at hl 1 rfl) ?_
  refine x_iload_n hx hb dX4_gains_5 rfl (lv_at hl 2 rfl) ?_
  refine X.join2 (fun (x : US) g H locs => UM D ct ad (uA 31 ad s.heap.size) x w H ∧ va_S (uA 31 ad s.heap.size) s.heap H locs ∧ ∃ ls : Array Slot, g = F0 m 15 ls [] ∧ lv_has ls 5 [(0, .ref (ad (0))), (1, .int p1), (2, .int p2), (3, .int p3), (4, .int p4)]) ?_ (fun j3 hj3 => ?_)
  · rintro S2 _ H locs ⟨hU, hS, ls, rfl, hl⟩
    refine X.eqs (sp2 := sM_gains_J15 p1 p2 p3 p4 S2) rfl ?_
    unfold sM_gains_J15
    refine x_aload_n hx hb dX4_gains_15 rfl (lv_at hl 0 rfl) ?_
    refine x_iload_n hx hb dX4_gains_16 rfl (lv_at hl 2 rfl) ?_
    refine x_iload hx hb dX4_gains_17 (lv_at hl 4 rfl) ?_
    refine kM_plays E hU hS hA0 ⟨by decide, by decide⟩ hl.1 (Nat.le_of_ble_eq_true rfl) dX4_gains_19 ⟨Nat.le_refl _, Nat.le_refl _⟩ (fun o4 H locs hU hS => ?_)
    refine x_iload_n hx hb dX4_gains_22 rfl (lv_at hl 1 rfl) ?_
    refine x_iload_n hx hb dX4_gains_23 rfl (lv_at hl 2 rfl) ?_
    refine X.join2 (fun (x : US) g H locs => UM D ct ad (uA 31 ad s.heap.size) x w H ∧ va_S (uA 31 ad s.heap.size) s.heap H locs ∧ ∃ ls : Array Slot, g = F0 m 33 ls [] ∧ lv_has ls 5 [(0, .ref (ad (0))), (1, .int p1), (3, .int p3)]) ?_ (fun j6 hj6 => ?_)
    · rintro S5 _ H locs ⟨hU, hS, ls, rfl, hl⟩
      refine X.eqs (sp2 := sM_gains_J33 p1 p3 S5) rfl ?_
      unfold sM_gains_J33
      refine x_aload_n hx hb dX4_gains_33 rfl (lv_at hl 0 rfl) ?_
      refine x_iconst (v := 5) hx hb dX4_gains_34 (by decide) ?_
      refine kM_daysGo E hU hS hA0 ⟨by decide, by decide⟩ hl.1 (Nat.le_of_ble_eq_true rfl) dX4_gains_35 ⟨Nat.le_refl _, Nat.le_refl _⟩ (fun o7 H locs hU hS => ?_)
      refine x_aload_n hx hb dX4_gains_38 rfl (lv_at hl 0 rfl) ?_
      refine gM_rows E hU dX4_gains_39 ?_
      refine x_bipush (v := 62) hx hb dX4_gains_42 (by decide) ?_
      refine x_aload_n hx hb dX4_gains_44 rfl (lv_at hl 0 rfl) ?_
      refine gM_rows E hU dX4_gains_45 ?_
      refine x_bipush (v := 37) hx hb dX4_gains_48 (by decide) ?_
      refine x_iload_n hx hb dX4_gains_50 rfl (lv_at hl 1 rfl) ?_
      refine x_iadd hx hb dX4_gains_51 ?_
      refine ux_ald (i := 14) (n := 98) E hU (by decide) rfl dX4_gains_52 ?_
      refine x_iadd hx hb dX4_gains_53 ?_
      refine ux_ald (i := 14) (n := 98) E hU (by decide) rfl dX4_gains_54 ?_
      refine x_bipush (v := 10) hx hb dX4_gains_55 (by decide) ?_
      refine x_idiv hx hb dX4_gains_57 (by decide) ?_
      refine x_iload_n hx hb dX4_gains_58 rfl (lv_at hl 2 rfl) ?_
      refine x_isub hx hb dX4_gains_59 ?_
      exact x_iret hx hb hr hlk hS rfl (hU.to fun _ _ => trivial) dX4_gains_60
    · refine x_icmp_le (tgt := 33) hx hb dX4_gains_24 (by decide) (fun hc => ?_) (fun hc => ?_)
      · exact hj6 o4 _ _ _ ⟨hU, hS, _, rfl, lv_sub hl [0, 1, 3] rfl⟩
      · refine x_aload_n hx hb dX4_gains_27 rfl (lv_at hl 0 rfl) ?_
        refine x_iload_n hx hb dX4_gains_28 rfl (lv_at hl 1 rfl) ?_
        refine x_iload_n hx hb dX4_gains_29 rfl (lv_at hl 3 rfl) ?_
        refine kM_plays E hU hS hA0 ⟨by decide, by decide⟩ hl.1 (Nat.le_of_ble_eq_true rfl) dX4_gains_30 ⟨Nat.le_refl _, Nat.le_refl _⟩ (fun o8 H locs hU hS => ?_)
        exact hj6 o8 _ _ _ ⟨hU, hS, _, rfl, lv_sub hl [0, 1, 3] rfl⟩
  · refine x_icmp_ge (tgt := 15) hx hb dX4_gains_6 (by decide) (fun hc => ?_) (fun hc => ?_)
    · exact hj3 o1 _ _ _ ⟨hU, hS, _, rfl, lv_sub hl [0, 1, 2, 3, 4] rfl⟩
    · refine x_aload_n hx hb dX4_gains_9 rfl (lv_at hl 0 rfl) ?_
      refine x_iload_n hx hb dX4_gains_10 rfl (lv_at hl 1 rfl) ?_
      refine x_iload_n hx hb dX4_gains_11 rfl (lv_at hl 3 rfl) ?_
      refine kM_plays E hU hS hA0 ⟨by decide, by decide⟩ hl.1 (Nat.le_of_ble_eq_true rfl) dX4_gains_12 ⟨Nat.le_refl _, Nat.le_refl _⟩ (fun o9 H locs hU hS => ?_)
      exact hj3 o9 _ _ _ ⟨hU, hS, _, rfl, lv_sub hl [0, 1, 2, 3, 4] rfl⟩
section MK
variable {ρ : Type} {p : Program} {l : Launch} {e : Env} {R : Room} {s : State} {m : MethodId} {args : Array Value} {below : List Frame} {meth : Method} {c : Code} {H : Heap} {locs : List Loc} {cells slots : Nat} {Qf : ρ → State → Prop}
variable {cc : ByteArray} {pc nL : Nat} {ls : Array Slot} {rest : List Value}
variable {D : va_G} {ct : CT} {ad : Nat → Nat} {A A0 : Nat → Prop} {S : US} {w : Int64} {H0 : Heap}
theorem kM_gains {p1 : Int32} {p2 : Int32} {p3 : Int32} {p4 : Int32} (E : ME p m c cc nL s args RX4 D clW ct) (hU : UM D ct ad A S w H) (hS : va_S A H0 H locs) (hA0 : ∀ q, H0.size ≤ q → A q) (hR : 7 + 1 ≤ R.frames ∧ 8 + (5 + 11) + 167 ≤ R.locals) (hsize : ls.size = nL) (hW : (rest.map fun v => v.category).sum ≤ 8) (hdg : decode cc pc = .ok (.invokevirtual 429, 3)) (hf : cells ≤ R.cells ∧ slots ≤ R.slots) {kp : (Int32 × US) → Option ρ} (kk : ∀ (o : (Int32 × US)) (H1 : Heap) (locs1 : List Loc), UM D ct ad A o.2 w H1 → va_S A H0 H1 locs1 → X p l e R s m args below meth c H1 locs1 cells slots Qf (kp o) (F0 m (pc + 3) ls (.int o.1 :: rest))) : X p l e R s m args below meth c H locs cells slots Qf (callK (sM_gains S p1 p2 p3 p4) kp) (F0 m pc ls (.int p4 :: .int p3 :: .int p2 :: .int p1 :: .ref (ad 0) :: rest)) := ucV_mod (i := 0) (So := fun (o : (Int32 × US)) => o.2) (wo := fun (o : (Int32 × US)) => w) (As := [.int p1, .int p2, .int p3, .int p4]) E hU hS hA0 (by decide) rfl rfl (fun sz o ho => mM_gains l D ct ad S w p1 p2 p3 p4 sz o ho) (cwV 4 E.1.2.2.2.2 (lw_V q2442 q2444 qs108 q119 q2445) rfl rfl rfl (by decide +kernel) hR) rfl hsize rfl hW hdg hf kk
end MK

set_option maxHeartbeats 4000000 in
theorem mM_game (l : Launch) (D : va_G) (ct : CT) (ad : Nat → Nat) (S : US) (w : Int64) (p1 : Int32) (p2 : Int32) (p3 : Int32) (sz : Nat) (o : (Int32 × US)) (ho : sM_game S p1 p2 p3 = some o) : Met l yX4_game (ws_ yX4_game cX4_game 9 (some .int)) { frames := 8, cells := 0, slots := 0, locals := 191 } (mP D clW ct [.ref (ad (0)), .int p1, .int p2, .int p3] sz (UM D ct ad (fun _ => True) S w)) (mC (some (.int o.1)) (UM D ct ad (fun _ => True) o.2 w) (uA 31 ad sz)) 0 0 (uA 31 ad sz) := by
  refine X.start (val := fun (o : (Int32 × US)) => some (.int o.1)) (Bt := fun (o : (Int32 × US)) => UM D ct ad (fun _ => True) o.2 w) (A := uA 31 ad sz) ho (by decide) (Nat.le_of_ble_eq_true rfl) rfl ?_
  intro p e s m args below meth c E hr hlk hnm hsz hU ls hl
  subst hsz
  obtain ⟨⟨hx, hb, hml, hown, hts⟩, hK, hJ⟩ := id E
  replace hU := hU.to (B := uA 31 ad s.heap.size) (fun i hi => Or.inl ⟨i, hi, rfl⟩)
  have hA0 : ∀ q, s.heap.size ≤ q → (uA 31 ad s.heap.size) q := fun q h => Or.inr h
  have hS : va_S (uA 31 ad s.heap.size) s.heap s.heap [] := va_S.rf
  unfold sM_game
  refine x_aload_n hx hb dX4_game_0 rfl (lv_at hl 0 rfl) ?_
  refine x_iconst (v := 0) hx hb dX4_game_1 (by decide) ?_
  refine pM_thrown E hU hS dX4_game_2 (fun S1 H locs hU hS => ?_)
  refine x_aload_n hx hb dX4_game_5 rfl (lv_at hl 0 rfl) ?_
  refine x_iload_n hx hb dX4_game_6 rfl (lv_at hl 1 rfl) ?_
  refine kM_isWoman E hU hS hA0 ⟨by decide, by decide⟩ hl.1 (Nat.le_of_ble_eq_true rfl) dX4_game_7 ⟨Nat.le_refl _, Nat.le_refl _⟩ (fun o2 H locs hU hS => ?_)
  refine x_if_eq (tgt := 48) hx hb dX4_game_10 (by decide) (fun hc => ?_) (fun hc => ?_)
  · refine x_iconst (v := 0) hx hb dX4_game_48 (by decide) ?_
    exact x_iret hx hb hr hlk hS rfl (hU.to fun _ _ => trivial) dX4_game_49
  · refine x_aload_n hx hb dX4_game_13 rfl (lv_at hl 0 rfl) ?_
    refine x_iload_n hx hb dX4_game_14 rfl (lv_at hl 2 rfl) ?_
    refine kM_isWoman E hU hS hA0 ⟨by decide, by decide⟩ hl.1 (Nat.le_of_ble_eq_true rfl) dX4_game_15 ⟨Nat.le_refl _, Nat.le_refl _⟩ (fun o3 H locs hU hS => ?_)
    refine x_if_eq (tgt := 48) hx hb dX4_game_18 (by decide) (fun hc => ?_) (fun hc => ?_)
    · refine x_iconst (v := 0) hx hb dX4_game_48 (by decide) ?_
      exact x_iret hx hb hr hlk hS rfl (hU.to fun _ _ => trivial) dX4_game_49
    · refine x_aload_n hx hb dX4_game_21 rfl (lv_at hl 0 rfl) ?_
      refine x_iload_n hx hb dX4_game_22 rfl (lv_at hl 3 rfl) ?_
      refine x_iconst (v := 1) hx hb dX4_game_23 (by decide) ?_
      refine kM_isWhat E hU hS hA0 ⟨by decide, by decide⟩ hl.1 (Nat.le_of_ble_eq_true rfl) dX4_game_24 ⟨Nat.le_refl _, Nat.le_refl _⟩ (fun o4 H locs hU hS => ?_)
      refine x_if_eq (tgt := 48) hx hb dX4_game_27 (by decide) (fun hc => ?_) (fun hc => ?_)
      · refine x_iconst (v := 0) hx hb dX4_game_48 (by decide) ?_
        exact x_iret hx hb hr hlk hS rfl (hU.to fun _ _ => trivial) dX4_game_49
      · refine x_aload_n hx hb dX4_game_30 rfl (lv_at hl 0 rfl) ?_
        refine x_iload_n hx hb dX4_game_31 rfl (lv_at hl 1 rfl) ?_
        refine x_iload_n hx hb dX4_game_32 rfl (lv_at hl 2 rfl) ?_
        refine X.join2 (fun (x : Int32) g H locs => UM D ct ad (uA 31 ad s.heap.size) o4.2 w H ∧ va_S (uA 31 ad s.heap.size) s.heap H locs ∧ ∃ ls : Array Slot, g = F0 m 41 ls [.int x, .ref (ad (0))] ∧ lv_has ls 9 [(0, .ref (ad (0))), (1, .int p1), (2, .int p2), (3, .int p3)]) ?_ (fun j6 hj6 => ?_)
        · rintro y5 _ H locs ⟨hU, hS, ls, rfl, hl⟩
          refine X.eqs (sp2 := sM_game_J41 p1 p2 p3 o4 y5) rfl ?_
          unfold sM_game_J41
          refine x_iconst (v := 2) hx hb dX4_game_41 (by decide) ?_
          refine kM_right E hU hS hA0 ⟨by decide, by decide⟩ hl.1 (Nat.le_of_ble_eq_true rfl) dX4_game_42 ⟨Nat.le_refl _, Nat.le_refl _⟩ (fun o7 H locs hU hS => ?_)
          refine x_if_ne (tgt := 50) hx hb dX4_game_45 (by decide) (fun hc => ?_) (fun hc => ?_)
          · refine x_iconst (v := 0) hx hb dX4_game_50 (by decide) ?_
            refine x_istore (lv' := [(4, .int (0 : Int32)), (0, .ref (ad (0))), (1, .int p1), (2, .int p2), (3, .int p3)]) hx hb dX4_game_51 hl (by decide) rfl (fun ls hl => ?_)
            refine x_iconst (v := -1) hx hb dX4_game_53 (by decide) ?_
            refine x_istore (lv' := [(5, .int (-1 : Int32)), (4, .int (0 : Int32)), (0, .ref (ad (0))), (1, .int p1), (2, .int p2), (3, .int p3)]) hx hb dX4_game_54 hl (by decide) rfl (fun ls hl => ?_)
            refine x_iconst (v := 0) hx hb dX4_game_56 (by decide) ?_
            refine x_istore (lv' := [(6, .int (0 : Int32)), (5, .int (-1 : Int32)), (4, .int (0 : Int32)), (0, .ref (ad (0))), (1, .int p1), (2, .int p2), (3, .int p3)]) hx hb dX4_game_57 hl (by decide) rfl (fun ls hl => ?_)
            refine X.loop (I := fun (x : (US × Int32 × Int32 × Int32)) g H locs => UM D ct ad (uA 31 ad s.heap.size) x.1 w H ∧ va_S (uA 31 ad s.heap.size) s.heap H locs ∧ ∃ ls : Array Slot, g = F0 m 59 ls [] ∧ lv_has ls 9 [(0, .ref (ad (0))), (1, .int p1), (2, .int p2), (3, .int p3), (4, .int x.2.1), (5, .int x.2.2.1), (6, .int x.2.2.2)]) (fun rc12 ih12 => ?_) FUEL _ _ _ _ ⟨hU, hS, _, rfl, lv_sub hl [3, 4, 5, 6, 2, 1, 0] rfl⟩
            rintro ⟨S8, v9, v10, v11⟩ _ H locs ⟨hU, hS, ls, rfl, hl⟩
            have hU : UM D ct ad (uA 31 ad s.heap.size) S8 w H := hU
            have hl : lv_has ls 9 [(0, .ref (ad (0))), (1, .int p1), (2, .int p2), (3, .int p3), (4, .int v9), (5, .int v10), (6, .int v11)] := hl
            refine X.eqs (sp2 := sM_game_L59 p1 p2 p3 rc12 S8 v9 v10 v11) rfl ?_
            unfold sM_game_L59
            refine x_iload hx hb dX4_game_59 (lv_at hl 6 rfl) ?_
            refine x_iconst (v := 4) hx hb dX4_game_61 (by decide) ?_
            refine x_icmp_ge (tgt := 155) hx hb dX4_game_62 (by decide) (fun hc => ?_) (fun hc => ?_)
            · refine x_iload_n hx hb dX4_game_155 rfl (lv_at hl 3 rfl) ?_
              refine x_if_ne (tgt := 164) hx hb dX4_game_156 (by decide) (fun hc => ?_) (fun hc => ?_)
              · refine x_iload hx hb dX4_game_164 (lv_at hl 5 rfl) ?_
                exact x_iret hx hb hr hlk hS rfl (hU.to fun _ _ => trivial) dX4_game_166
              · refine x_iload hx hb dX4_game_159 (lv_at hl 4 rfl) ?_
                refine x_goto (tgt := 166) hx hb dX4_game_161 (by decide) ?_
                exact x_iret hx hb hr hlk hS rfl (hU.to fun _ _ => trivial) dX4_game_166
            · refine x_iload hx hb dX4_game_65 (lv_at hl 6 rfl) ?_
              refine x_iconst (v := 2) hx hb dX4_game_67 (by decide) ?_
              refine x_idiv hx hb dX4_game_68 (by decide) ?_
              refine x_istore (lv' := [(7, .int (v11 / (2 : Int32))), (0, .ref (ad (0))), (1, .int p1), (2, .int p2), (3, .int p3), (4, .int v9), (5, .int v10), (6, .int v11)]) hx hb dX4_game_69 hl (by decide) rfl (fun ls hl => ?_)
              refine x_iload hx hb dX4_game_71 (lv_at hl 7 rfl) ?_
              refine x_iconst (v := 2) hx hb dX4_game_73 (by decide) ?_
              refine x_irem hx hb dX4_game_74 (by decide) ?_
              refine x_istore (lv' := [(8, .int (v11 - v11 / (2 : Int32) * (2 : Int32))), (7, .int (v11 / (2 : Int32))), (0, .ref (ad (0))), (1, .int p1), (2, .int p2), (3, .int p3), (4, .int v9), (5, .int v10), (6, .int v11)]) hx hb dX4_game_75 hl (by decide) rfl (fun ls hl => ?_)
              refine x_aload_n hx hb dX4_game_77 rfl (lv_at hl 2 rfl) ?_
              refine x_iload_n hx hb dX4_game_78 rfl (lv_at hl 3 rfl) ?_
              refine x_iload_n hx hb dX4_game_79 rfl (lv_at hl 4 rfl) ?_
              refine x_iconst (v := 1) hx hb dX4_game_80 (by decide) ?_
              refine x_iload hx hb dX4_game_81 (lv_at hl 1 rfl) ?_
              refine x_isub hx hb dX4_game_83 ?_
              refine x_iload hx hb dX4_game_84 (lv_at hl 0 rfl) ?_
              refine kM_gains E hU hS hA0 ⟨by decide, by decide⟩ hl.1 (Nat.le_of_ble_eq_true rfl) dX4_game_86 ⟨Nat.le_refl _, Nat.le_refl _⟩ (fun o13 H locs hU hS => ?_)
              refine x_aload_n hx hb dX4_game_89 rfl (lv_at hl 2 rfl) ?_
              refine x_iload_n hx hb dX4_game_90 rfl (lv_at hl 3 rfl) ?_
              refine x_iload_n hx hb dX4_game_91 rfl (lv_at hl 4 rfl) ?_
              refine x_iload hx hb dX4_game_92 (lv_at hl 1 rfl) ?_
              refine x_iload hx hb dX4_game_94 (lv_at hl 0 rfl) ?_
              refine kM_gains E hU hS hA0 ⟨by decide, by decide⟩ hl.1 (Nat.le_of_ble_eq_true rfl) dX4_game_96 ⟨Nat.le_refl _, Nat.le_refl _⟩ (fun o14 H locs hU hS => ?_)
              refine x_icmp_gt (tgt := 149) hx hb dX4_game_99 (by decide) (fun hc => ?_) (fun hc => ?_)
              · refine x_iinc (v := (v11 + (1 : Int32))) (lv' := [(6, .int (v11 + (1 : Int32))), (8, .int (v11 - v11 / (2 : Int32) * (2 : Int32))), (7, .int (v11 / (2 : Int32))), (0, .ref (ad (0))), (1, .int p1), (2, .int p2), (3, .int p3), (4, .int v9), (5, .int v10)]) (k := 8) hx hb dX4_game_149 hl rfl rfl (by decide) rfl (fun ls hl => ?_)
                refine x_goto (tgt := 59) hx hb dX4_game_152 (by decide) ?_
                exact ih12 (o14.2, v9, v10, (v11 + (1 : Int32))) _ _ _ ⟨hU, hS, _, rfl, lv_sub hl [3, 4, 5, 6, 7, 8, 0] rfl⟩
              · refine x_aload_n hx hb dX4_game_102 rfl (lv_at hl 2 rfl) ?_
                refine x_iload_n hx hb dX4_game_103 rfl (lv_at hl 4 rfl) ?_
                refine x_iload_n hx hb dX4_game_104 rfl (lv_at hl 3 rfl) ?_
                refine x_iconst (v := 1) hx hb dX4_game_105 (by decide) ?_
                refine x_iload hx hb dX4_game_106 (lv_at hl 0 rfl) ?_
                refine x_isub hx hb dX4_game_108 ?_
                refine x_iload hx hb dX4_game_109 (lv_at hl 1 rfl) ?_
                refine kM_gains E hU hS hA0 ⟨by decide, by decide⟩ hl.1 (Nat.le_of_ble_eq_true rfl) dX4_game_111 ⟨Nat.le_refl _, Nat.le_refl _⟩ (fun o15 H locs hU hS => ?_)
                refine x_aload_n hx hb dX4_game_114 rfl (lv_at hl 2 rfl) ?_
                refine x_iload_n hx hb dX4_game_115 rfl (lv_at hl 4 rfl) ?_
                refine x_iload_n hx hb dX4_game_116 rfl (lv_at hl 3 rfl) ?_
                refine x_iload hx hb dX4_game_117 (lv_at hl 0 rfl) ?_
                refine x_iload hx hb dX4_game_119 (lv_at hl 1 rfl) ?_
                refine kM_gains E hU hS hA0 ⟨by decide, by decide⟩ hl.1 (Nat.le_of_ble_eq_true rfl) dX4_game_121 ⟨Nat.le_refl _, Nat.le_refl _⟩ (fun o16 H locs hU hS => ?_)
                refine x_icmp_le (tgt := 130) hx hb dX4_game_124 (by decide) (fun hc => ?_) (fun hc => ?_)
                · refine x_iinc (v := (v9 + (1 : Int32))) (lv' := [(4, .int (v9 + (1 : Int32))), (8, .int (v11 - v11 / (2 : Int32) * (2 : Int32))), (7, .int (v11 / (2 : Int32))), (0, .ref (ad (0))), (1, .int p1), (2, .int p2), (3, .int p3), (5, .int v10), (6, .int v11)]) (k := 6) hx hb dX4_game_130 hl rfl rfl (by decide) rfl (fun ls hl => ?_)
                  refine x_iload hx hb dX4_game_133 (lv_at hl 7 rfl) ?_
                  refine x_iconst (v := -1) hx hb dX4_game_135 (by decide) ?_
                  refine x_icmp_ne (tgt := 149) hx hb dX4_game_136 (by decide) (fun hc => ?_) (fun hc => ?_)
                  · refine x_iinc (v := (v11 + (1 : Int32))) (lv' := [(6, .int (v11 + (1 : Int32))), (4, .int (v9 + (1 : Int32))), (8, .int (v11 - v11 / (2 : Int32) * (2 : Int32))), (7, .int (v11 / (2 : Int32))), (0, .ref (ad (0))), (1, .int p1), (2, .int p2), (3, .int p3), (5, .int v10)]) (k := 8) hx hb dX4_game_149 hl rfl rfl (by decide) rfl (fun ls hl => ?_)
                    refine x_goto (tgt := 59) hx hb dX4_game_152 (by decide) ?_
                    exact ih12 (o16.2, (v9 + (1 : Int32)), v10, (v11 + (1 : Int32))) _ _ _ ⟨hU, hS, _, rfl, lv_sub hl [4, 5, 6, 7, 1, 8, 0] rfl⟩
                  · refine x_bipush (v := 10) hx hb dX4_game_139 (by decide) ?_
                    refine x_iload hx hb dX4_game_141 (lv_at hl 2 rfl) ?_
                    refine x_imul hx hb dX4_game_143 ?_
                    refine x_iload hx hb dX4_game_144 (lv_at hl 1 rfl) ?_
                    refine x_iadd hx hb dX4_game_146 ?_
                    refine x_topi (fun e17 => ?_)
                    refine x_istore (lv' := [(5, .int e17), (4, .int (v9 + (1 : Int32))), (8, .int (v11 - v11 / (2 : Int32) * (2 : Int32))), (7, .int (v11 / (2 : Int32))), (0, .ref (ad (0))), (1, .int p1), (2, .int p2), (3, .int p3), (6, .int v11)]) hx hb dX4_game_147 hl (by decide) rfl (fun ls hl => ?_)
                    refine x_iinc (v := (v11 + (1 : Int32))) (lv' := [(6, .int (v11 + (1 : Int32))), (5, .int e17), (4, .int (v9 + (1 : Int32))), (8, .int (v11 - v11 / (2 : Int32) * (2 : Int32))), (7, .int (v11 / (2 : Int32))), (0, .ref (ad (0))), (1, .int p1), (2, .int p2), (3, .int p3)]) (k := 8) hx hb dX4_game_149 hl rfl rfl (by decide) rfl (fun ls hl => ?_)
                    refine x_goto (tgt := 59) hx hb dX4_game_152 (by decide) ?_
                    exact ih12 (o16.2, (v9 + (1 : Int32)), e17, (v11 + (1 : Int32))) _ _ _ ⟨hU, hS, _, rfl, lv_sub hl [5, 6, 7, 8, 2, 1, 0] rfl⟩
                · refine x_goto (tgt := 149) hx hb dX4_game_127 (by decide) ?_
                  refine x_iinc (v := (v11 + (1 : Int32))) (lv' := [(6, .int (v11 + (1 : Int32))), (8, .int (v11 - v11 / (2 : Int32) * (2 : Int32))), (7, .int (v11 / (2 : Int32))), (0, .ref (ad (0))), (1, .int p1), (2, .int p2), (3, .int p3), (4, .int v9), (5, .int v10)]) (k := 8) hx hb dX4_game_149 hl rfl rfl (by decide) rfl (fun ls hl => ?_)
                  refine x_goto (tgt := 59) hx hb dX4_game_152 (by decide) ?_
                  exact ih12 (o16.2, v9, v10, (v11 + (1 : Int32))) _ _ _ ⟨hU, hS, _, rfl, lv_sub hl [3, 4, 5, 6, 7, 8, 0] rfl⟩
          · refine x_iconst (v := 0) hx hb dX4_game_48 (by decide) ?_
            exact x_iret hx hb hr hlk hS rfl (hU.to fun _ _ => trivial) dX4_game_49
        · refine x_icmp_eq (tgt := 40) hx hb dX4_game_33 (by decide) (fun hc => ?_) (fun hc => ?_)
          · refine x_iconst (v := 0) hx hb dX4_game_40 (by decide) ?_
            exact hj6 (0 : Int32) _ _ _ ⟨hU, hS, _, rfl, lv_sub hl [0, 1, 2, 3] rfl⟩
          · refine x_iconst (v := 1) hx hb dX4_game_36 (by decide) ?_
            refine x_goto (tgt := 41) hx hb dX4_game_37 (by decide) ?_
            exact hj6 (1 : Int32) _ _ _ ⟨hU, hS, _, rfl, lv_sub hl [0, 1, 2, 3] rfl⟩

set_option maxHeartbeats 4000000 in
theorem mM_draw (l : Launch) (D : va_G) (ct : CT) (ad : Nat → Nat) (S : US) (w : Int64) (p1 : Int32) (sz : Nat) (o : (Int32 × US)) (ho : sM_draw S p1 = some o) : Met l yX4_draw (ws_ yX4_draw cX4_draw 2 (some .int)) { frames := 1, cells := 0, slots := 0, locals := 32 } (mP D clW ct [.ref (ad (0)), .int p1] sz (UM D ct ad (fun _ => True) S w)) (mC (some (.int o.1)) (UM D ct ad (fun _ => True) o.2 w) (uA 31 ad sz)) 0 0 (uA 31 ad sz) := by
  refine X.start (val := fun (o : (Int32 × US)) => some (.int o.1)) (Bt := fun (o : (Int32 × US)) => UM D ct ad (fun _ => True) o.2 w) (A := uA 31 ad sz) ho (by decide) (Nat.le_of_ble_eq_true rfl) rfl ?_
  intro p e s m args below meth c E hr hlk hnm hsz hU ls hl
  subst hsz
  obtain ⟨⟨hx, hb, hml, hown, hts⟩, hK, hJ⟩ := id E
  replace hU := hU.to (B := uA 31 ad s.heap.size) (fun i hi => Or.inl ⟨i, hi, rfl⟩)
  have hA0 : ∀ q, s.heap.size ≤ q → (uA 31 ad s.heap.size) q := fun q h => Or.inr h
  have hS : va_S (uA 31 ad s.heap.size) s.heap s.heap [] := va_S.rf
  unfold sM_draw
  refine x_aload_n hx hb dX4_draw_0 rfl (lv_at hl 0 rfl) ?_
  refine x_aload_n hx hb dX4_draw_1 rfl (lv_at hl 0 rfl) ?_
  refine gM_its0 E hU dX4_draw_2 ?_
  refine x_ldcw hx hb hown (hts _ q2462) dX4_draw_5 ?_
  refine x_imul hx hb dX4_draw_8 ?_
  refine x_sipush (v := 12345) hx hb dX4_draw_9 (by decide) ?_
  refine x_iadd hx hb dX4_draw_12 ?_
  refine pM_its0 E hU hS dX4_draw_13 (fun S1 H locs hU hS => ?_)
  refine x_aload_n hx hb dX4_draw_16 rfl (lv_at hl 0 rfl) ?_
  refine gM_its0 E hU dX4_draw_17 ?_
  refine x_bipush (v := 16) hx hb dX4_draw_20 (by decide) ?_
  refine x_ishr hx hb dX4_draw_22 ?_
  refine x_sipush (v := 32767) hx hb dX4_draw_23 (by decide) ?_
  refine x_iand hx hb dX4_draw_26 ?_
  refine x_iload_n hx hb dX4_draw_27 rfl (lv_at hl 1 rfl) ?_
  refine x_iremG hx hb dX4_draw_28 ?_
  exact x_iret hx hb hr hlk hS rfl (hU.to fun _ _ => trivial) dX4_draw_29
section MK
variable {ρ : Type} {p : Program} {l : Launch} {e : Env} {R : Room} {s : State} {m : MethodId} {args : Array Value} {below : List Frame} {meth : Method} {c : Code} {H : Heap} {locs : List Loc} {cells slots : Nat} {Qf : ρ → State → Prop}
variable {cc : ByteArray} {pc nL : Nat} {ls : Array Slot} {rest : List Value}
variable {D : va_G} {ct : CT} {ad : Nat → Nat} {A A0 : Nat → Prop} {S : US} {w : Int64} {H0 : Heap}
theorem kM_draw {p1 : Int32} (E : ME p m c cc nL s args RX4 D clW ct) (hU : UM D ct ad A S w H) (hS : va_S A H0 H locs) (hA0 : ∀ q, H0.size ≤ q → A q) (hR : 1 + 1 ≤ R.frames ∧ 8 + (2 + 11) + 32 ≤ R.locals) (hsize : ls.size = nL) (hW : (rest.map fun v => v.category).sum ≤ 8) (hdg : decode cc pc = .ok (.invokevirtual 437, 3)) (hf : cells ≤ R.cells ∧ slots ≤ R.slots) {kp : (Int32 × US) → Option ρ} (kk : ∀ (o : (Int32 × US)) (H1 : Heap) (locs1 : List Loc), UM D ct ad A o.2 w H1 → va_S A H0 H1 locs1 → X p l e R s m args below meth c H1 locs1 cells slots Qf (kp o) (F0 m (pc + 3) ls (.int o.1 :: rest))) : X p l e R s m args below meth c H locs cells slots Qf (callK (sM_draw S p1) kp) (F0 m pc ls (.int p1 :: .ref (ad 0) :: rest)) := ucV_mod (i := 0) (So := fun (o : (Int32 × US)) => o.2) (wo := fun (o : (Int32 × US)) => w) (As := [.int p1]) E hU hS hA0 (by decide) rfl rfl (fun sz o ho => mM_draw l D ct ad S w p1 sz o ho) (cwV 1 E.1.2.2.2.2 (lw_V q2458 q2460 qs111 q119 q2461) rfl rfl rfl (by decide +kernel) hR) rfl hsize rfl hW hdg hf kk
end MK

set_option maxHeartbeats 4000000 in
theorem mM_happens (l : Launch) (D : va_G) (ct : CT) (ad : Nat → Nat) (S : US) (w : Int64) (sz : Nat) (o : US) (ho : sM_happens S = some o) : Met l yX4_happens (ws_ yX4_happens cX4_happens 4 none) { frames := 4, cells := 0, slots := 0, locals := 100 } (mP D clW ct [.ref (ad (0))] sz (UM D ct ad (fun _ => True) S w)) (mC (none) (UM D ct ad (fun _ => True) o w) (uA 31 ad sz)) 0 0 (uA 31 ad sz) := by
  refine X.start (val := fun (o : US) => none) (Bt := fun (o : US) => UM D ct ad (fun _ => True) o w) (A := uA 31 ad sz) ho (by decide) (Nat.le_of_ble_eq_true rfl) rfl ?_
  intro p e s m args below meth c E hr hlk hnm hsz hU ls hl
  subst hsz
  obtain ⟨⟨hx, hb, hml, hown, hts⟩, hK, hJ⟩ := id E
  replace hU := hU.to (B := uA 31 ad s.heap.size) (fun i hi => Or.inl ⟨i, hi, rfl⟩)
  have hA0 : ∀ q, s.heap.size ≤ q → (uA 31 ad s.heap.size) q := fun q h => Or.inr h
  have hS : va_S (uA 31 ad s.heap.size) s.heap s.heap [] := va_S.rf
  unfold sM_happens
  refine x_aload_n hx hb dX4_happens_0 rfl (lv_at hl 0 rfl) ?_
  refine x_bipush (v := 6) hx hb dX4_happens_1 (by decide) ?_
  refine kM_draw E hU hS hA0 ⟨by decide, by decide⟩ hl.1 (Nat.le_of_ble_eq_true rfl) dX4_happens_3 ⟨Nat.le_refl _, Nat.le_refl _⟩ (fun o1 H locs hU hS => ?_)
  refine x_istore_n (lv' := [(1, .int o1.1), (0, .ref (ad (0)))]) hx hb dX4_happens_6 rfl hl (by decide) rfl (fun ls hl => ?_)
  refine x_iload_n hx hb dX4_happens_7 rfl (lv_at hl 0 rfl) ?_
  refine X.join2 (fun (x : US) g H locs => UM D ct ad (uA 31 ad s.heap.size) x w H ∧ va_S (uA 31 ad s.heap.size) s.heap H locs ∧ ∃ ls : Array Slot, g = F0 m 47 ls [] ∧ lv_has ls 4 [(0, .ref (ad (0))), (1, .int o1.1)]) ?_ (fun j3 hj3 => ?_)
  · rintro S2 _ H locs ⟨hU, hS, ls, rfl, hl⟩
    refine X.eqs (sp2 := sM_happens_J47 o1 S2) rfl ?_
    unfold sM_happens_J47
    refine x_iload_n hx hb dX4_happens_47 rfl (lv_at hl 1 rfl) ?_
    refine x_iconst (v := 1) hx hb dX4_happens_48 (by decide) ?_
    refine X.join2 (fun (x : US) g H locs => UM D ct ad (uA 31 ad s.heap.size) x w H ∧ va_S (uA 31 ad s.heap.size) s.heap H locs ∧ ∃ ls : Array Slot, g = F0 m 68 ls [] ∧ lv_has ls 4 [(0, .ref (ad (0))), (1, .int o1.1)]) ?_ (fun j5 hj5 => ?_)
    · rintro S4 _ H locs ⟨hU, hS, ls, rfl, hl⟩
      refine X.eqs (sp2 := sM_happens_J68 o1 S4) rfl ?_
      unfold sM_happens_J68
      refine x_iload_n hx hb dX4_happens_68 rfl (lv_at hl 1 rfl) ?_
      refine x_iconst (v := 2) hx hb dX4_happens_69 (by decide) ?_
      refine x_icmp_ne (tgt := 80) hx hb dX4_happens_70 (by decide) (fun hc => ?_) (fun hc => ?_)
      · exact x_vret hx hb hr hlk hS rfl (hU.to fun _ _ => trivial) dX4_happens_80
      · refine x_aload_n hx hb dX4_happens_73 rfl (lv_at hl 0 rfl) ?_
        refine gM_women E hU dX4_happens_74 ?_
        refine x_if_ne (tgt := 81) hx hb dX4_happens_77 (by decide) (fun hc => ?_) (fun hc => ?_)
        · refine x_aload_n hx hb dX4_happens_81 rfl (lv_at hl 0 rfl) ?_
          refine x_aload_n hx hb dX4_happens_82 rfl (lv_at hl 0 rfl) ?_
          refine gM_women E hU dX4_happens_83 ?_
          refine kM_draw E hU hS hA0 ⟨by decide, by decide⟩ hl.1 (Nat.le_of_ble_eq_true rfl) dX4_happens_86 ⟨Nat.le_refl _, Nat.le_refl _⟩ (fun o6 H locs hU hS => ?_)
          refine x_istore_n (lv' := [(2, .int o6.1), (0, .ref (ad (0))), (1, .int o1.1)]) hx hb dX4_happens_89 rfl hl (by decide) rfl (fun ls hl => ?_)
          refine x_aload_n hx hb dX4_happens_90 rfl (lv_at hl 1 rfl) ?_
          refine gM_rows E hU dX4_happens_91 ?_
          refine x_bipush (v := 92) hx hb dX4_happens_94 (by decide) ?_
          refine x_iload_n hx hb dX4_happens_96 rfl (lv_at hl 0 rfl) ?_
          refine x_iadd hx hb dX4_happens_97 ?_
          refine x_bipush (v := 99) hx hb dX4_happens_98 (by decide) ?_
          refine x_aload_n hx hb dX4_happens_100 rfl (lv_at hl 1 rfl) ?_
          refine gM_rows E hU dX4_happens_101 ?_
          refine x_bipush (v := 92) hx hb dX4_happens_104 (by decide) ?_
          refine x_iload_n hx hb dX4_happens_106 rfl (lv_at hl 0 rfl) ?_
          refine x_iadd hx hb dX4_happens_107 ?_
          refine ux_ald (i := 14) (n := 98) E hU (by decide) rfl dX4_happens_108 ?_
          refine x_iconst (v := 5) hx hb dX4_happens_109 (by decide) ?_
          refine x_iadd hx hb dX4_happens_110 ?_
          refine kM_lesser E hS hA0 ⟨by decide, by decide⟩ hl.1 (Nat.le_of_ble_eq_true rfl) dX4_happens_111 ⟨Nat.le_refl _, Nat.le_refl _⟩ (fun o7 H locs hk hS => ?_)
          replace hU := hU.kept (fun i hi => hk _ (hU.lt hi))
          refine ux_ast (i := 14) (n := 98) E hU hS (by decide) rfl dX4_happens_114 (fun S8 H locs hU hS => ?_)
          exact x_vret hx hb hr hlk hS rfl (hU.to fun _ _ => trivial) dX4_happens_115
        · exact x_vret hx hb hr hlk hS rfl (hU.to fun _ _ => trivial) dX4_happens_80
    · refine x_icmp_ne (tgt := 68) hx hb dX4_happens_49 (by decide) (fun hc => ?_) (fun hc => ?_)
      · exact hj5 S2 _ _ _ ⟨hU, hS, _, rfl, lv_sub hl [0, 1] rfl⟩
      · refine x_aload_n hx hb dX4_happens_52 rfl (lv_at hl 0 rfl) ?_
        refine x_bipush (v := 49) hx hb dX4_happens_53 (by decide) ?_
        refine x_aload_n hx hb dX4_happens_55 rfl (lv_at hl 0 rfl) ?_
        refine x_aload_n hx hb dX4_happens_56 rfl (lv_at hl 0 rfl) ?_
        refine gM_many E hU dX4_happens_57 ?_
        refine kM_draw E hU hS hA0 ⟨by decide, by decide⟩ hl.1 (Nat.le_of_ble_eq_true rfl) dX4_happens_60 ⟨Nat.le_refl _, Nat.le_refl _⟩ (fun o9 H locs hU hS => ?_)
        refine x_bipush (v := 9) hx hb dX4_happens_63 (by decide) ?_
        refine kM_strains E hU hS hA0 ⟨by decide, by decide⟩ hl.1 (Nat.le_of_ble_eq_true rfl) dX4_happens_65 ⟨Nat.le_refl _, Nat.le_refl _⟩ (fun o10 H locs hU hS => ?_)
        exact hj5 o10 _ _ _ ⟨hU, hS, _, rfl, lv_sub hl [0, 1] rfl⟩
  · refine x_if_ne (tgt := 47) hx hb dX4_happens_8 (by decide) (fun hc => ?_) (fun hc => ?_)
    · exact hj3 o1.2 _ _ _ ⟨hU, hS, _, rfl, lv_sub hl [1, 0] rfl⟩
    · refine x_aload_n hx hb dX4_happens_11 rfl (lv_at hl 1 rfl) ?_
      refine x_aload_n hx hb dX4_happens_12 rfl (lv_at hl 1 rfl) ?_
      refine gM_many E hU dX4_happens_13 ?_
      refine kM_draw E hU hS hA0 ⟨by decide, by decide⟩ hl.1 (Nat.le_of_ble_eq_true rfl) dX4_happens_16 ⟨Nat.le_refl _, Nat.le_refl _⟩ (fun o11 H locs hU hS => ?_)
      refine x_istore_n (lv' := [(2, .int o11.1), (1, .int o1.1), (0, .ref (ad (0)))]) hx hb dX4_happens_19 rfl hl (by decide) rfl (fun ls hl => ?_)
      refine x_aload_n hx hb dX4_happens_20 rfl (lv_at hl 2 rfl) ?_
      refine x_bipush (v := 20) hx hb dX4_happens_21 (by decide) ?_
      refine kM_draw E hU hS hA0 ⟨by decide, by decide⟩ hl.1 (Nat.le_of_ble_eq_true rfl) dX4_happens_23 ⟨Nat.le_refl _, Nat.le_refl _⟩ (fun o12 H locs hU hS => ?_)
      refine x_iconst (v := 1) hx hb dX4_happens_26 (by decide) ?_
      refine x_iadd hx hb dX4_happens_27 ?_
      refine x_istore_n (lv' := [(3, .int (o12.1 + (1 : Int32))), (2, .int o11.1), (1, .int o1.1), (0, .ref (ad (0)))]) hx hb dX4_happens_28 rfl hl (by decide) rfl (fun ls hl => ?_)
      refine x_aload_n hx hb dX4_happens_29 rfl (lv_at hl 3 rfl) ?_
      refine x_bipush (v := 49) hx hb dX4_happens_30 (by decide) ?_
      refine x_iload_n hx hb dX4_happens_32 rfl (lv_at hl 1 rfl) ?_
      refine kM_isGap E hU hS hA0 ⟨by decide, by decide⟩ hl.1 (Nat.le_of_ble_eq_true rfl) dX4_happens_33 ⟨Nat.le_refl _, Nat.le_refl _⟩ (fun o13 H locs hU hS => ?_)
      refine x_if_ne (tgt := 47) hx hb dX4_happens_36 (by decide) (fun hc => ?_) (fun hc => ?_)
      · exact hj3 o12.2 _ _ _ ⟨hU, hS, _, rfl, lv_sub hl [3, 2] rfl⟩
      · refine x_aload_n hx hb dX4_happens_39 rfl (lv_at hl 3 rfl) ?_
        refine x_bipush (v := 49) hx hb dX4_happens_40 (by decide) ?_
        refine x_iload_n hx hb dX4_happens_42 rfl (lv_at hl 1 rfl) ?_
        refine x_iload_n hx hb dX4_happens_43 rfl (lv_at hl 0 rfl) ?_
        refine kM_loosens E hU hS hA0 ⟨by decide, by decide⟩ hl.1 (Nat.le_of_ble_eq_true rfl) dX4_happens_44 ⟨Nat.le_refl _, Nat.le_refl _⟩ (fun o14 H locs hU hS => ?_)
        exact hj3 o14 _ _ _ ⟨hU, hS, _, rfl, lv_sub hl [3, 2] rfl⟩
section MK
variable {ρ : Type} {p : Program} {l : Launch} {e : Env} {R : Room} {s : State} {m : MethodId} {args : Array Value} {below : List Frame} {meth : Method} {c : Code} {H : Heap} {locs : List Loc} {cells slots : Nat} {Qf : ρ → State → Prop}
variable {cc : ByteArray} {pc nL : Nat} {ls : Array Slot} {rest : List Value}
variable {D : va_G} {ct : CT} {ad : Nat → Nat} {A A0 : Nat → Prop} {S : US} {w : Int64} {H0 : Heap}
theorem kM_happens (E : ME p m c cc nL s args RX4 D clW ct) (hU : UM D ct ad A S w H) (hS : va_S A H0 H locs) (hA0 : ∀ q, H0.size ≤ q → A q) (hR : 4 + 1 ≤ R.frames ∧ 8 + (4 + 11) + 100 ≤ R.locals) (hsize : ls.size = nL) (hW : (rest.map fun v => v.category).sum ≤ 8) (hdg : decode cc pc = .ok (.invokevirtual 440, 3)) (hf : cells ≤ R.cells ∧ slots ≤ R.slots) {kp : US → Option ρ} (kk : ∀ (o : US) (H1 : Heap) (locs1 : List Loc), UM D ct ad A o w H1 → va_S A H0 H1 locs1 → X p l e R s m args below meth c H1 locs1 cells slots Qf (kp o) (F0 m (pc + 3) ls (rest))) : X p l e R s m args below meth c H locs cells slots Qf (callK (sM_happens S) kp) (F0 m pc ls (.ref (ad 0) :: rest)) := ucV_mod (i := 0) (So := fun (o : US) => o) (wo := fun (o : US) => w) (As := []) E hU hS hA0 (by decide) rfl rfl (fun sz o ho => mM_happens l D ct ad S w sz o ho) (cwV 0 E.1.2.2.2.2 (lw_V q2454 q2456 qs110 q119 q2457) rfl rfl rfl (by decide +kernel) hR) rfl hsize rfl hW hdg hf kk
end MK

set_option maxHeartbeats 4000000 in
theorem mM_years (l : Launch) (D : va_G) (ct : CT) (ad : Nat → Nat) (S : US) (w : Int64) (p1 : Int32) (p2 : Int32) (p3 : Int32) (sz : Nat) (o : (Int32 × US)) (ho : sM_years S p1 p2 p3 = some o) : Met l yX4_years (ws_ yX4_years cX4_years 5 (some .int)) { frames := 6, cells := 0, slots := 0, locals := 145 } (mP D clW ct [.ref (ad (0)), .int p1, .int p2, .int p3] sz (UM D ct ad (fun _ => True) S w)) (mC (some (.int o.1)) (UM D ct ad (fun _ => True) o.2 w) (uA 31 ad sz)) 0 0 (uA 31 ad sz) := by
  refine X.start (val := fun (o : (Int32 × US)) => some (.int o.1)) (Bt := fun (o : (Int32 × US)) => UM D ct ad (fun _ => True) o.2 w) (A := uA 31 ad sz) ho (by decide) (Nat.le_of_ble_eq_true rfl) rfl ?_
  intro p e s m args below meth c E hr hlk hnm hsz hU ls hl
  subst hsz
  obtain ⟨⟨hx, hb, hml, hown, hts⟩, hK, hJ⟩ := id E
  replace hU := hU.to (B := uA 31 ad s.heap.size) (fun i hi => Or.inl ⟨i, hi, rfl⟩)
  have hA0 : ∀ q, s.heap.size ≤ q → (uA 31 ad s.heap.size) q := fun q h => Or.inr h
  have hS : va_S (uA 31 ad s.heap.size) s.heap s.heap [] := va_S.rf
  unfold sM_years
  refine x_aload_n hx hb dX4_years_0 rfl (lv_at hl 0 rfl) ?_
  refine x_iconst (v := 0) hx hb dX4_years_1 (by decide) ?_
  refine pM_thrown E hU hS dX4_years_2 (fun S1 H locs hU hS => ?_)
  refine x_aload_n hx hb dX4_years_5 rfl (lv_at hl 0 rfl) ?_
  refine x_iload_n hx hb dX4_years_6 rfl (lv_at hl 3 rfl) ?_
  refine x_iconst (v := 2) hx hb dX4_years_7 (by decide) ?_
  refine kM_isWhat E hU hS hA0 ⟨by decide, by decide⟩ hl.1 (Nat.le_of_ble_eq_true rfl) dX4_years_8 ⟨Nat.le_refl _, Nat.le_refl _⟩ (fun o2 H locs hU hS => ?_)
  refine x_if_eq (tgt := 24) hx hb dX4_years_11 (by decide) (fun hc => ?_) (fun hc => ?_)
  · refine x_iconst (v := 0) hx hb dX4_years_24 (by decide) ?_
    exact x_iret hx hb hr hlk hS rfl (hU.to fun _ _ => trivial) dX4_years_25
  · refine x_aload_n hx hb dX4_years_14 rfl (lv_at hl 0 rfl) ?_
    refine x_iload_n hx hb dX4_years_15 rfl (lv_at hl 2 rfl) ?_
    refine x_iconst (v := 0) hx hb dX4_years_16 (by decide) ?_
    refine x_iconst (v := 2) hx hb dX4_years_17 (by decide) ?_
    refine kM_isDays E hU hS hA0 ⟨by decide, by decide⟩ hl.1 (Nat.le_of_ble_eq_true rfl) dX4_years_18 ⟨Nat.le_refl _, Nat.le_refl _⟩ (fun o3 H locs hU hS => ?_)
    refine x_if_ne (tgt := 26) hx hb dX4_years_21 (by decide) (fun hc => ?_) (fun hc => ?_)
    · refine x_aload_n hx hb dX4_years_26 rfl (lv_at hl 0 rfl) ?_
      refine kM_tries E hU hS hA0 ⟨by decide, by decide⟩ hl.1 (Nat.le_of_ble_eq_true rfl) dX4_years_27 ⟨Nat.le_refl _, Nat.le_refl _⟩ (fun o4 H locs hU hS => ?_)
      refine x_aload_n hx hb dX4_years_30 rfl (lv_at hl 0 rfl) ?_
      refine x_iload_n hx hb dX4_years_31 rfl (lv_at hl 1 rfl) ?_
      refine pM_its0 E hU hS dX4_years_32 (fun S5 H locs hU hS => ?_)
      refine x_iconst (v := 0) hx hb dX4_years_35 (by decide) ?_
      refine x_istore (lv' := [(4, .int (0 : Int32)), (0, .ref (ad (0))), (1, .int p1), (2, .int p2), (3, .int p3)]) hx hb dX4_years_36 hl (by decide) rfl (fun ls hl => ?_)
      refine X.loop (I := fun (x : (US × Int32)) g H locs => UM D ct ad (uA 31 ad s.heap.size) x.1 w H ∧ va_S (uA 31 ad s.heap.size) s.heap H locs ∧ ∃ ls : Array Slot, g = F0 m 38 ls [] ∧ lv_has ls 5 [(0, .ref (ad (0))), (2, .int p2), (3, .int p3), (4, .int x.2)]) (fun rc8 ih8 => ?_) FUEL _ _ _ _ ⟨hU, hS, _, rfl, lv_sub hl [1, 3, 4, 0] rfl⟩
      rintro ⟨S6, v7⟩ _ H locs ⟨hU, hS, ls, rfl, hl⟩
      have hU : UM D ct ad (uA 31 ad s.heap.size) S6 w H := hU
      have hl : lv_has ls 5 [(0, .ref (ad (0))), (2, .int p2), (3, .int p3), (4, .int v7)] := hl
      refine X.eqs (sp2 := sM_years_L38 p2 p3 rc8 S6 v7) rfl ?_
      unfold sM_years_L38
      refine x_iload hx hb dX4_years_38 (lv_at hl 3 rfl) ?_
      refine x_iload_n hx hb dX4_years_40 rfl (lv_at hl 1 rfl) ?_
      refine x_icmp_ge (tgt := 60) hx hb dX4_years_41 (by decide) (fun hc => ?_) (fun hc => ?_)
      · refine x_iload_n hx hb dX4_years_60 rfl (lv_at hl 2 rfl) ?_
        refine x_if_ne (tgt := 76) hx hb dX4_years_61 (by decide) (fun hc => ?_) (fun hc => ?_)
        · refine x_iload_n hx hb dX4_years_76 rfl (lv_at hl 2 rfl) ?_
          refine x_iconst (v := 1) hx hb dX4_years_77 (by decide) ?_
          refine x_icmp_ne (tgt := 96) hx hb dX4_years_78 (by decide) (fun hc => ?_) (fun hc => ?_)
          · refine x_aload_n hx hb dX4_years_96 rfl (lv_at hl 0 rfl) ?_
            refine x_bipush (v := 49) hx hb dX4_years_97 (by decide) ?_
            refine x_bipush (v := 43) hx hb dX4_years_99 (by decide) ?_
            refine x_aload_n hx hb dX4_years_101 rfl (lv_at hl 0 rfl) ?_
            refine gM_women E hU dX4_years_102 ?_
            refine kM_sumOf E hU hS hA0 ⟨by decide, by decide⟩ hl.1 (Nat.le_of_ble_eq_true rfl) dX4_years_105 ⟨Nat.le_refl _, Nat.le_refl _⟩ (fun o9 H locs hU hS => ?_)
            exact x_iret hx hb hr hlk hS rfl (hU.to fun _ _ => trivial) dX4_years_108
          · refine x_aload_n hx hb dX4_years_81 rfl (lv_at hl 0 rfl) ?_
            refine x_bipush (v := 49) hx hb dX4_years_82 (by decide) ?_
            refine x_bipush (v := 13) hx hb dX4_years_84 (by decide) ?_
            refine x_aload_n hx hb dX4_years_86 rfl (lv_at hl 0 rfl) ?_
            refine gM_many E hU dX4_years_87 ?_
            refine kM_sumOf E hU hS hA0 ⟨by decide, by decide⟩ hl.1 (Nat.le_of_ble_eq_true rfl) dX4_years_90 ⟨Nat.le_refl _, Nat.le_refl _⟩ (fun o10 H locs hU hS => ?_)
            refine x_goto (tgt := 108) hx hb dX4_years_93 (by decide) ?_
            exact x_iret hx hb hr hlk hS rfl (hU.to fun _ _ => trivial) dX4_years_108
        · refine x_aload_n hx hb dX4_years_64 rfl (lv_at hl 0 rfl) ?_
          refine x_bipush (v := 49) hx hb dX4_years_65 (by decide) ?_
          refine kM_openOnes E hU hS hA0 ⟨by decide, by decide⟩ hl.1 (Nat.le_of_ble_eq_true rfl) dX4_years_67 ⟨Nat.le_refl _, Nat.le_refl _⟩ (fun o11 H locs hU hS => ?_)
          refine kM_bits E hS hA0 ⟨by decide, by decide⟩ hl.1 (Nat.le_of_ble_eq_true rfl) dX4_years_70 ⟨Nat.le_refl _, Nat.le_refl _⟩ (fun o12 H locs hk hS => ?_)
          replace hU := hU.kept (fun i hi => hk _ (hU.lt hi))
          refine x_goto (tgt := 108) hx hb dX4_years_73 (by decide) ?_
          exact x_iret hx hb hr hlk hS rfl (hU.to fun _ _ => trivial) dX4_years_108
      · refine x_aload_n hx hb dX4_years_44 rfl (lv_at hl 0 rfl) ?_
        refine kM_happens E hU hS hA0 ⟨by decide, by decide⟩ hl.1 (Nat.le_of_ble_eq_true rfl) dX4_years_45 ⟨Nat.le_refl _, Nat.le_refl _⟩ (fun o13 H locs hU hS => ?_)
        refine x_aload_n hx hb dX4_years_48 rfl (lv_at hl 0 rfl) ?_
        refine x_bipush (v := 49) hx hb dX4_years_49 (by decide) ?_
        refine kM_dayGoes E hU hS hA0 ⟨by decide, by decide⟩ hl.1 (Nat.le_of_ble_eq_true rfl) dX4_years_51 ⟨Nat.le_refl _, Nat.le_refl _⟩ (fun o14 H locs hU hS => ?_)
        refine x_iinc (v := (v7 + (1 : Int32))) (lv' := [(4, .int (v7 + (1 : Int32))), (0, .ref (ad (0))), (2, .int p2), (3, .int p3)]) (k := 3) hx hb dX4_years_54 hl rfl rfl (by decide) rfl (fun ls hl => ?_)
        refine x_goto (tgt := 38) hx hb dX4_years_57 (by decide) ?_
        exact ih8 (o14, (v7 + (1 : Int32))) _ _ _ ⟨hU, hS, _, rfl, lv_sub hl [1, 2, 3, 0] rfl⟩
    · refine x_iconst (v := 0) hx hb dX4_years_24 (by decide) ?_
      exact x_iret hx hb hr hlk hS rfl (hU.to fun _ _ => trivial) dX4_years_25

set_option maxHeartbeats 4000000 in
theorem mM_steady (l : Launch) (D : va_G) (ct : CT) (ad : Nat → Nat) (S : US) (w : Int64) (sz : Nat) (o : (Int32 × US)) (ho : sM_steady S = some o) : Met l yX4_steady (ws_ yX4_steady cX4_steady 4 (some .int)) { frames := 6, cells := 0, slots := 0, locals := 145 } (mP D clW ct [.ref (ad (0))] sz (UM D ct ad (fun _ => True) S w)) (mC (some (.int o.1)) (UM D ct ad (fun _ => True) o.2 w) (uA 31 ad sz)) 0 0 (uA 31 ad sz) := by
  refine X.start (val := fun (o : (Int32 × US)) => some (.int o.1)) (Bt := fun (o : (Int32 × US)) => UM D ct ad (fun _ => True) o.2 w) (A := uA 31 ad sz) ho (by decide) (Nat.le_of_ble_eq_true rfl) rfl ?_
  intro p e s m args below meth c E hr hlk hnm hsz hU ls hl
  subst hsz
  obtain ⟨⟨hx, hb, hml, hown, hts⟩, hK, hJ⟩ := id E
  replace hU := hU.to (B := uA 31 ad s.heap.size) (fun i hi => Or.inl ⟨i, hi, rfl⟩)
  have hA0 : ∀ q, s.heap.size ≤ q → (uA 31 ad s.heap.size) q := fun q h => Or.inr h
  have hS : va_S (uA 31 ad s.heap.size) s.heap s.heap [] := va_S.rf
  unfold sM_steady
  refine x_aload_n hx hb dX4_steady_0 rfl (lv_at hl 0 rfl) ?_
  refine x_iconst (v := 0) hx hb dX4_steady_1 (by decide) ?_
  refine pM_thrown E hU hS dX4_steady_2 (fun S1 H locs hU hS => ?_)
  refine x_aload_n hx hb dX4_steady_5 rfl (lv_at hl 0 rfl) ?_
  refine kM_tries E hU hS hA0 ⟨by decide, by decide⟩ hl.1 (Nat.le_of_ble_eq_true rfl) dX4_steady_6 ⟨Nat.le_refl _, Nat.le_refl _⟩ (fun o2 H locs hU hS => ?_)
  refine x_iconst (v := 1) hx hb dX4_steady_9 (by decide) ?_
  refine x_istore_n (lv' := [(1, .int (1 : Int32)), (0, .ref (ad (0)))]) hx hb dX4_steady_10 rfl hl (by decide) rfl (fun ls hl => ?_)
  refine X.loop (I := fun (x : (US × Int32)) g H locs => UM D ct ad (uA 31 ad s.heap.size) x.1 w H ∧ va_S (uA 31 ad s.heap.size) s.heap H locs ∧ ∃ ls : Array Slot, g = F0 m 11 ls [] ∧ lv_has ls 4 [(0, .ref (ad (0))), (1, .int x.2)]) (fun rc5 ih5 => ?_) FUEL _ _ _ _ ⟨hU, hS, _, rfl, lv_sub hl [1, 0] rfl⟩
  rintro ⟨S3, v4⟩ _ H locs ⟨hU, hS, ls, rfl, hl⟩
  have hU : UM D ct ad (uA 31 ad s.heap.size) S3 w H := hU
  have hl : lv_has ls 4 [(0, .ref (ad (0))), (1, .int v4)] := hl
  refine X.eqs (sp2 := sM_steady_L11 rc5 S3 v4) rfl ?_
  unfold sM_steady_L11
  refine x_iload_n hx hb dX4_steady_11 rfl (lv_at hl 1 rfl) ?_
  refine x_bipush (v := 60) hx hb dX4_steady_12 (by decide) ?_
  refine x_icmp_gt (tgt := 108) hx hb dX4_steady_14 (by decide) (fun hc => ?_) (fun hc => ?_)
  · refine x_iconst (v := -1) hx hb dX4_steady_108 (by decide) ?_
    exact x_iret hx hb hr hlk hS rfl (hU.to fun _ _ => trivial) dX4_steady_109
  · refine x_iconst (v := 0) hx hb dX4_steady_17 (by decide) ?_
    refine x_istore_n (lv' := [(2, .int (0 : Int32)), (0, .ref (ad (0))), (1, .int v4)]) hx hb dX4_steady_18 rfl hl (by decide) rfl (fun ls hl => ?_)
    refine X.loop (I := fun (x : (US × Int32)) g H locs => UM D ct ad (uA 31 ad s.heap.size) x.1 w H ∧ va_S (uA 31 ad s.heap.size) s.heap H locs ∧ ∃ ls : Array Slot, g = F0 m 19 ls [] ∧ lv_has ls 4 [(0, .ref (ad (0))), (1, .int v4), (2, .int x.2)]) (fun rc8 ih8 => ?_) FUEL _ _ _ _ ⟨hU, hS, _, rfl, lv_sub hl [1, 2, 0] rfl⟩
    rintro ⟨S6, v7⟩ _ H locs ⟨hU, hS, ls, rfl, hl⟩
    have hU : UM D ct ad (uA 31 ad s.heap.size) S6 w H := hU
    have hl : lv_has ls 4 [(0, .ref (ad (0))), (1, .int v4), (2, .int v7)] := hl
    refine X.eqs (sp2 := sM_steady_L19 v4 rc5 rc8 S6 v7) rfl ?_
    unfold sM_steady_L19
    refine x_iload_n hx hb dX4_steady_19 rfl (lv_at hl 2 rfl) ?_
    refine x_bipush (v := 24) hx hb dX4_steady_20 (by decide) ?_
    refine x_icmp_ge (tgt := 46) hx hb dX4_steady_22 (by decide) (fun hc => ?_) (fun hc => ?_)
    · refine x_aload_n hx hb dX4_steady_46 rfl (lv_at hl 0 rfl) ?_
      refine x_bipush (v := 49) hx hb dX4_steady_47 (by decide) ?_
      refine kM_dayGoes E hU hS hA0 ⟨by decide, by decide⟩ hl.1 (Nat.le_of_ble_eq_true rfl) dX4_steady_49 ⟨Nat.le_refl _, Nat.le_refl _⟩ (fun o9 H locs hU hS => ?_)
      refine x_iconst (v := 1) hx hb dX4_steady_52 (by decide) ?_
      refine x_istore_n (lv' := [(2, .int (1 : Int32)), (0, .ref (ad (0))), (1, .int v4)]) hx hb dX4_steady_53 rfl hl (by decide) rfl (fun ls hl => ?_)
      refine x_iconst (v := 0) hx hb dX4_steady_54 (by decide) ?_
      refine x_istore_n (lv' := [(3, .int (0 : Int32)), (2, .int (1 : Int32)), (0, .ref (ad (0))), (1, .int v4)]) hx hb dX4_steady_55 rfl hl (by decide) rfl (fun ls hl => ?_)
      refine X.loop (I := fun (x : (Int32 × Int32)) g H locs => UM D ct ad (uA 31 ad s.heap.size) o9 w H ∧ va_S (uA 31 ad s.heap.size) s.heap H locs ∧ ∃ ls : Array Slot, g = F0 m 56 ls [] ∧ lv_has ls 4 [(0, .ref (ad (0))), (1, .int v4), (2, .int x.1), (3, .int x.2)]) (fun rc12 ih12 => ?_) FUEL _ _ _ _ ⟨hU, hS, _, rfl, lv_sub hl [2, 3, 1, 0] rfl⟩
      rintro ⟨v10, v11⟩ _ H locs ⟨hU, hS, ls, rfl, hl⟩
      have hU : UM D ct ad (uA 31 ad s.heap.size) o9 w H := hU
      have hl : lv_has ls 4 [(0, .ref (ad (0))), (1, .int v4), (2, .int v10), (3, .int v11)] := hl
      refine X.eqs (sp2 := sM_steady_L56 v4 rc5 o9 rc12 v10 v11) rfl ?_
      unfold sM_steady_L56
      refine x_iload_n hx hb dX4_steady_56 rfl (lv_at hl 3 rfl) ?_
      refine x_bipush (v := 24) hx hb dX4_steady_57 (by decide) ?_
      refine x_icmp_ge (tgt := 96) hx hb dX4_steady_59 (by decide) (fun hc => ?_) (fun hc => ?_)
      · refine x_iload_n hx hb dX4_steady_96 rfl (lv_at hl 2 rfl) ?_
        refine x_if_eq (tgt := 102) hx hb dX4_steady_97 (by decide) (fun hc => ?_) (fun hc => ?_)
        · refine x_iinc (v := (v4 + (1 : Int32))) (lv' := [(1, .int (v4 + (1 : Int32))), (0, .ref (ad (0))), (2, .int v10), (3, .int v11)]) (k := 1) hx hb dX4_steady_102 hl rfl rfl (by decide) rfl (fun ls hl => ?_)
          refine x_goto (tgt := 11) hx hb dX4_steady_105 (by decide) ?_
          exact ih5 (o9, (v4 + (1 : Int32))) _ _ _ ⟨hU, hS, _, rfl, lv_sub hl [1, 0] rfl⟩
        · refine x_iload_n hx hb dX4_steady_100 rfl (lv_at hl 1 rfl) ?_
          exact x_iret hx hb hr hlk hS rfl (hU.to fun _ _ => trivial) dX4_steady_101
      · refine x_iload_n hx hb dX4_steady_62 rfl (lv_at hl 2 rfl) ?_
        refine x_if_eq (tgt := 88) hx hb dX4_steady_63 (by decide) (fun hc => ?_) (fun hc => ?_)
        · refine x_iconst (v := 0) hx hb dX4_steady_88 (by decide) ?_
          refine x_istore_n (lv' := [(2, .int (0 : Int32)), (0, .ref (ad (0))), (1, .int v4), (3, .int v11)]) hx hb dX4_steady_89 rfl hl (by decide) rfl (fun ls hl => ?_)
          refine x_iinc (v := (v11 + (1 : Int32))) (lv' := [(3, .int (v11 + (1 : Int32))), (2, .int (0 : Int32)), (0, .ref (ad (0))), (1, .int v4)]) (k := 3) hx hb dX4_steady_90 hl rfl rfl (by decide) rfl (fun ls hl => ?_)
          refine x_goto (tgt := 56) hx hb dX4_steady_93 (by decide) ?_
          exact ih12 ((0 : Int32), (v11 + (1 : Int32))) _ _ _ ⟨hU, hS, _, rfl, lv_sub hl [2, 3, 1, 0] rfl⟩
        · refine x_aload_n hx hb dX4_steady_66 rfl (lv_at hl 0 rfl) ?_
          refine gM_were E hU dX4_steady_67 ?_
          refine x_iload_n hx hb dX4_steady_70 rfl (lv_at hl 3 rfl) ?_
          refine ux_ald (i := 27) (n := 24) E hU (by decide) rfl dX4_steady_71 ?_
          refine x_aload_n hx hb dX4_steady_72 rfl (lv_at hl 0 rfl) ?_
          refine gM_rows E hU dX4_steady_73 ?_
          refine x_bipush (v := 50) hx hb dX4_steady_76 (by decide) ?_
          refine x_iload_n hx hb dX4_steady_78 rfl (lv_at hl 3 rfl) ?_
          refine x_iadd hx hb dX4_steady_79 ?_
          refine ux_ald (i := 14) (n := 98) E hU (by decide) rfl dX4_steady_80 ?_
          refine x_icmp_ne (tgt := 88) hx hb dX4_steady_81 (by decide) (fun hc => ?_) (fun hc => ?_)
          · refine x_iconst (v := 0) hx hb dX4_steady_88 (by decide) ?_
            refine x_istore_n (lv' := [(2, .int (0 : Int32)), (0, .ref (ad (0))), (1, .int v4), (3, .int v11)]) hx hb dX4_steady_89 rfl hl (by decide) rfl (fun ls hl => ?_)
            refine x_iinc (v := (v11 + (1 : Int32))) (lv' := [(3, .int (v11 + (1 : Int32))), (2, .int (0 : Int32)), (0, .ref (ad (0))), (1, .int v4)]) (k := 3) hx hb dX4_steady_90 hl rfl rfl (by decide) rfl (fun ls hl => ?_)
            refine x_goto (tgt := 56) hx hb dX4_steady_93 (by decide) ?_
            exact ih12 ((0 : Int32), (v11 + (1 : Int32))) _ _ _ ⟨hU, hS, _, rfl, lv_sub hl [2, 3, 1, 0] rfl⟩
          · refine x_iconst (v := 1) hx hb dX4_steady_84 (by decide) ?_
            refine x_goto (tgt := 89) hx hb dX4_steady_85 (by decide) ?_
            refine x_istore_n (lv' := [(2, .int (1 : Int32)), (0, .ref (ad (0))), (1, .int v4), (3, .int v11)]) hx hb dX4_steady_89 rfl hl (by decide) rfl (fun ls hl => ?_)
            refine x_iinc (v := (v11 + (1 : Int32))) (lv' := [(3, .int (v11 + (1 : Int32))), (2, .int (1 : Int32)), (0, .ref (ad (0))), (1, .int v4)]) (k := 3) hx hb dX4_steady_90 hl rfl rfl (by decide) rfl (fun ls hl => ?_)
            refine x_goto (tgt := 56) hx hb dX4_steady_93 (by decide) ?_
            exact ih12 ((1 : Int32), (v11 + (1 : Int32))) _ _ _ ⟨hU, hS, _, rfl, lv_sub hl [2, 3, 1, 0] rfl⟩
    · refine x_aload_n hx hb dX4_steady_25 rfl (lv_at hl 0 rfl) ?_
      refine gM_were E hU dX4_steady_26 ?_
      refine x_iload_n hx hb dX4_steady_29 rfl (lv_at hl 2 rfl) ?_
      refine x_aload_n hx hb dX4_steady_30 rfl (lv_at hl 0 rfl) ?_
      refine gM_rows E hU dX4_steady_31 ?_
      refine x_bipush (v := 50) hx hb dX4_steady_34 (by decide) ?_
      refine x_iload_n hx hb dX4_steady_36 rfl (lv_at hl 2 rfl) ?_
      refine x_iadd hx hb dX4_steady_37 ?_
      refine ux_ald (i := 14) (n := 98) E hU (by decide) rfl dX4_steady_38 ?_
      refine ux_ast (i := 27) (n := 24) E hU hS (by decide) rfl dX4_steady_39 (fun S13 H locs hU hS => ?_)
      refine x_iinc (v := (v7 + (1 : Int32))) (lv' := [(2, .int (v7 + (1 : Int32))), (0, .ref (ad (0))), (1, .int v4)]) (k := 2) hx hb dX4_steady_40 hl rfl rfl (by decide) rfl (fun ls hl => ?_)
      refine x_goto (tgt := 19) hx hb dX4_steady_43 (by decide) ?_
      exact ih8 (S13, (v7 + (1 : Int32))) _ _ _ ⟨hU, hS, _, rfl, lv_sub hl [1, 2, 0] rfl⟩

set_option maxHeartbeats 4000000 in
theorem mM_nearest (l : Launch) (D : va_G) (ct : CT) (ad : Nat → Nat) (S : US) (w : Int64) (p1 : Int32) (sz : Nat) (o : (Int32 × US)) (ho : sM_nearest S p1 = some o) : Met l yX4_nearest (ws_ yX4_nearest cX4_nearest 4 (some .int)) { frames := 3, cells := 0, slots := 0, locals := 76 } (mP D clW ct [.ref (ad (0)), .int p1] sz (UM D ct ad (fun _ => True) S w)) (mC (some (.int o.1)) (UM D ct ad (fun _ => True) o.2 w) (uA 31 ad sz)) 0 0 (uA 31 ad sz) := by
  refine X.start (val := fun (o : (Int32 × US)) => some (.int o.1)) (Bt := fun (o : (Int32 × US)) => UM D ct ad (fun _ => True) o.2 w) (A := uA 31 ad sz) ho (by decide) (Nat.le_of_ble_eq_true rfl) rfl ?_
  intro p e s m args below meth c E hr hlk hnm hsz hU ls hl
  subst hsz
  obtain ⟨⟨hx, hb, hml, hown, hts⟩, hK, hJ⟩ := id E
  replace hU := hU.to (B := uA 31 ad s.heap.size) (fun i hi => Or.inl ⟨i, hi, rfl⟩)
  have hA0 : ∀ q, s.heap.size ≤ q → (uA 31 ad s.heap.size) q := fun q h => Or.inr h
  have hS : va_S (uA 31 ad s.heap.size) s.heap s.heap [] := va_S.rf
  unfold sM_nearest
  refine x_aload_n hx hb dX4_nearest_0 rfl (lv_at hl 0 rfl) ?_
  refine x_iconst (v := 0) hx hb dX4_nearest_1 (by decide) ?_
  refine pM_thrown E hU hS dX4_nearest_2 (fun S1 H locs hU hS => ?_)
  refine x_aload_n hx hb dX4_nearest_5 rfl (lv_at hl 0 rfl) ?_
  refine x_iload_n hx hb dX4_nearest_6 rfl (lv_at hl 1 rfl) ?_
  refine kM_isStretch E hU hS hA0 ⟨by decide, by decide⟩ hl.1 (Nat.le_of_ble_eq_true rfl) dX4_nearest_7 ⟨Nat.le_refl _, Nat.le_refl _⟩ (fun o2 H locs hU hS => ?_)
  refine x_if_ne (tgt := 15) hx hb dX4_nearest_10 (by decide) (fun hc => ?_) (fun hc => ?_)
  · refine x_iconst (v := -1) hx hb dX4_nearest_15 (by decide) ?_
    refine x_istore_n (lv' := [(2, .int (-1 : Int32)), (0, .ref (ad (0))), (1, .int p1)]) hx hb dX4_nearest_16 rfl hl (by decide) rfl (fun ls hl => ?_)
    refine x_iconst (v := 0) hx hb dX4_nearest_17 (by decide) ?_
    refine x_istore_n (lv' := [(3, .int (0 : Int32)), (2, .int (-1 : Int32)), (0, .ref (ad (0))), (1, .int p1)]) hx hb dX4_nearest_18 rfl hl (by decide) rfl (fun ls hl => ?_)
    refine X.loop (I := fun (x : (Int32 × Int32)) g H locs => UM D ct ad (uA 31 ad s.heap.size) o2.2 w H ∧ va_S (uA 31 ad s.heap.size) s.heap H locs ∧ ∃ ls : Array Slot, g = F0 m 19 ls [] ∧ lv_has ls 4 [(0, .ref (ad (0))), (1, .int p1), (2, .int x.1), (3, .int x.2)]) (fun rc5 ih5 => ?_) FUEL _ _ _ _ ⟨hU, hS, _, rfl, lv_sub hl [2, 3, 1, 0] rfl⟩
    rintro ⟨v3, v4⟩ _ H locs ⟨hU, hS, ls, rfl, hl⟩
    have hU : UM D ct ad (uA 31 ad s.heap.size) o2.2 w H := hU
    have hl : lv_has ls 4 [(0, .ref (ad (0))), (1, .int p1), (2, .int v3), (3, .int v4)] := hl
    refine X.eqs (sp2 := sM_nearest_L19 p1 o2 rc5 v3 v4) rfl ?_
    unfold sM_nearest_L19
    refine x_iload_n hx hb dX4_nearest_19 rfl (lv_at hl 3 rfl) ?_
    refine x_aload_n hx hb dX4_nearest_20 rfl (lv_at hl 0 rfl) ?_
    refine gM_women E hU dX4_nearest_21 ?_
    refine x_icmp_ge (tgt := 71) hx hb dX4_nearest_24 (by decide) (fun hc => ?_) (fun hc => ?_)
    · refine x_iload_n hx hb dX4_nearest_71 rfl (lv_at hl 2 rfl) ?_
      exact x_iret hx hb hr hlk hS rfl (hU.to fun _ _ => trivial) dX4_nearest_72
    · refine x_iload_n hx hb dX4_nearest_27 rfl (lv_at hl 2 rfl) ?_
      refine x_iconst (v := -1) hx hb dX4_nearest_28 (by decide) ?_
      refine x_icmp_eq (tgt := 63) hx hb dX4_nearest_29 (by decide) (fun hc => ?_) (fun hc => ?_)
      · refine x_iload_n hx hb dX4_nearest_63 rfl (lv_at hl 3 rfl) ?_
        refine x_istore_n (lv' := [(2, .int v4), (0, .ref (ad (0))), (1, .int p1), (3, .int v4)]) hx hb dX4_nearest_64 rfl hl (by decide) rfl (fun ls hl => ?_)
        refine x_iinc (v := (v4 + (1 : Int32))) (lv' := [(3, .int (v4 + (1 : Int32))), (2, .int v4), (0, .ref (ad (0))), (1, .int p1)]) (k := 3) hx hb dX4_nearest_65 hl rfl rfl (by decide) rfl (fun ls hl => ?_)
        refine x_goto (tgt := 19) hx hb dX4_nearest_68 (by decide) ?_
        exact ih5 (v4, (v4 + (1 : Int32))) _ _ _ ⟨hU, hS, _, rfl, lv_sub hl [2, 3, 1, 0] rfl⟩
      · refine x_aload_n hx hb dX4_nearest_32 rfl (lv_at hl 0 rfl) ?_
        refine x_aload_n hx hb dX4_nearest_33 rfl (lv_at hl 0 rfl) ?_
        refine gM_rows E hU dX4_nearest_34 ?_
        refine x_bipush (v := 37) hx hb dX4_nearest_37 (by decide) ?_
        refine x_iload_n hx hb dX4_nearest_39 rfl (lv_at hl 3 rfl) ?_
        refine x_iadd hx hb dX4_nearest_40 ?_
        refine ux_ald (i := 14) (n := 98) E hU (by decide) rfl dX4_nearest_41 ?_
        refine x_iload_n hx hb dX4_nearest_42 rfl (lv_at hl 1 rfl) ?_
        refine kM_stepsBy E hU hS hA0 ⟨by decide, by decide⟩ hl.1 (Nat.le_of_ble_eq_true rfl) dX4_nearest_43 ⟨Nat.le_refl _, Nat.le_refl _⟩ (fun o6 H locs hU hS => ?_)
        refine x_aload_n hx hb dX4_nearest_46 rfl (lv_at hl 0 rfl) ?_
        refine x_aload_n hx hb dX4_nearest_47 rfl (lv_at hl 0 rfl) ?_
        refine gM_rows E hU dX4_nearest_48 ?_
        refine x_bipush (v := 37) hx hb dX4_nearest_51 (by decide) ?_
        refine x_iload_n hx hb dX4_nearest_53 rfl (lv_at hl 2 rfl) ?_
        refine x_iadd hx hb dX4_nearest_54 ?_
        refine ux_ald (i := 14) (n := 98) E hU (by decide) rfl dX4_nearest_55 ?_
        refine x_iload_n hx hb dX4_nearest_56 rfl (lv_at hl 1 rfl) ?_
        refine kM_stepsBy E hU hS hA0 ⟨by decide, by decide⟩ hl.1 (Nat.le_of_ble_eq_true rfl) dX4_nearest_57 ⟨Nat.le_refl _, Nat.le_refl _⟩ (fun o7 H locs hU hS => ?_)
        refine x_icmp_ge (tgt := 65) hx hb dX4_nearest_60 (by decide) (fun hc => ?_) (fun hc => ?_)
        · refine x_iinc (v := (v4 + (1 : Int32))) (lv' := [(3, .int (v4 + (1 : Int32))), (0, .ref (ad (0))), (1, .int p1), (2, .int v3)]) (k := 3) hx hb dX4_nearest_65 hl rfl rfl (by decide) rfl (fun ls hl => ?_)
          refine x_goto (tgt := 19) hx hb dX4_nearest_68 (by decide) ?_
          exact ih5 (v3, (v4 + (1 : Int32))) _ _ _ ⟨hU, hS, _, rfl, lv_sub hl [1, 2, 3, 0] rfl⟩
        · refine x_iload_n hx hb dX4_nearest_63 rfl (lv_at hl 3 rfl) ?_
          refine x_istore_n (lv' := [(2, .int v4), (0, .ref (ad (0))), (1, .int p1), (3, .int v4)]) hx hb dX4_nearest_64 rfl hl (by decide) rfl (fun ls hl => ?_)
          refine x_iinc (v := (v4 + (1 : Int32))) (lv' := [(3, .int (v4 + (1 : Int32))), (2, .int v4), (0, .ref (ad (0))), (1, .int p1)]) (k := 3) hx hb dX4_nearest_65 hl rfl rfl (by decide) rfl (fun ls hl => ?_)
          refine x_goto (tgt := 19) hx hb dX4_nearest_68 (by decide) ?_
          exact ih5 (v4, (v4 + (1 : Int32))) _ _ _ ⟨hU, hS, _, rfl, lv_sub hl [2, 3, 1, 0] rfl⟩
  · refine x_iconst (v := 0) hx hb dX4_nearest_13 (by decide) ?_
    exact x_iret hx hb hr hlk hS rfl (hU.to fun _ _ => trivial) dX4_nearest_14

set_option maxHeartbeats 4000000 in
theorem mM_far (l : Launch) (D : va_G) (ct : CT) (ad : Nat → Nat) (S : US) (w : Int64) (p1 : Int32) (p2 : Int32) (sz : Nat) (o : (Int32 × US)) (ho : sM_far S p1 p2 = some o) : Met l yX4_far (ws_ yX4_far cX4_far 3 (some .int)) { frames := 3, cells := 0, slots := 0, locals := 76 } (mP D clW ct [.ref (ad (0)), .int p1, .int p2] sz (UM D ct ad (fun _ => True) S w)) (mC (some (.int o.1)) (UM D ct ad (fun _ => True) o.2 w) (uA 31 ad sz)) 0 0 (uA 31 ad sz) := by
  refine X.start (val := fun (o : (Int32 × US)) => some (.int o.1)) (Bt := fun (o : (Int32 × US)) => UM D ct ad (fun _ => True) o.2 w) (A := uA 31 ad sz) ho (by decide) (Nat.le_of_ble_eq_true rfl) rfl ?_
  intro p e s m args below meth c E hr hlk hnm hsz hU ls hl
  subst hsz
  obtain ⟨⟨hx, hb, hml, hown, hts⟩, hK, hJ⟩ := id E
  replace hU := hU.to (B := uA 31 ad s.heap.size) (fun i hi => Or.inl ⟨i, hi, rfl⟩)
  have hA0 : ∀ q, s.heap.size ≤ q → (uA 31 ad s.heap.size) q := fun q h => Or.inr h
  have hS : va_S (uA 31 ad s.heap.size) s.heap s.heap [] := va_S.rf
  unfold sM_far
  refine x_aload_n hx hb dX4_far_0 rfl (lv_at hl 0 rfl) ?_
  refine x_iconst (v := 0) hx hb dX4_far_1 (by decide) ?_
  refine pM_thrown E hU hS dX4_far_2 (fun S1 H locs hU hS => ?_)
  refine x_aload_n hx hb dX4_far_5 rfl (lv_at hl 0 rfl) ?_
  refine x_iload_n hx hb dX4_far_6 rfl (lv_at hl 1 rfl) ?_
  refine kM_isStretch E hU hS hA0 ⟨by decide, by decide⟩ hl.1 (Nat.le_of_ble_eq_true rfl) dX4_far_7 ⟨Nat.le_refl _, Nat.le_refl _⟩ (fun o2 H locs hU hS => ?_)
  refine x_if_eq (tgt := 30) hx hb dX4_far_10 (by decide) (fun hc => ?_) (fun hc => ?_)
  · refine x_iconst (v := 0) hx hb dX4_far_30 (by decide) ?_
    exact x_iret hx hb hr hlk hS rfl (hU.to fun _ _ => trivial) dX4_far_31
  · refine x_aload_n hx hb dX4_far_13 rfl (lv_at hl 0 rfl) ?_
    refine x_iload_n hx hb dX4_far_14 rfl (lv_at hl 2 rfl) ?_
    refine kM_isStretch E hU hS hA0 ⟨by decide, by decide⟩ hl.1 (Nat.le_of_ble_eq_true rfl) dX4_far_15 ⟨Nat.le_refl _, Nat.le_refl _⟩ (fun o3 H locs hU hS => ?_)
    refine x_if_eq (tgt := 30) hx hb dX4_far_18 (by decide) (fun hc => ?_) (fun hc => ?_)
    · refine x_iconst (v := 0) hx hb dX4_far_30 (by decide) ?_
      exact x_iret hx hb hr hlk hS rfl (hU.to fun _ _ => trivial) dX4_far_31
    · refine x_aload_n hx hb dX4_far_21 rfl (lv_at hl 0 rfl) ?_
      refine x_iload_n hx hb dX4_far_22 rfl (lv_at hl 1 rfl) ?_
      refine x_iload_n hx hb dX4_far_23 rfl (lv_at hl 2 rfl) ?_
      refine kM_stepsBy E hU hS hA0 ⟨by decide, by decide⟩ hl.1 (Nat.le_of_ble_eq_true rfl) dX4_far_24 ⟨Nat.le_refl _, Nat.le_refl _⟩ (fun o4 H locs hU hS => ?_)
      refine x_goto (tgt := 31) hx hb dX4_far_27 (by decide) ?_
      exact x_iret hx hb hr hlk hS rfl (hU.to fun _ _ => trivial) dX4_far_31

set_option maxHeartbeats 4000000 in
theorem mM_worst (l : Launch) (D : va_G) (ct : CT) (ad : Nat → Nat) (S : US) (w : Int64) (p1 : Int32) (sz : Nat) (o : (Int32 × US)) (ho : sM_worst S p1 = some o) : Met l yX4_worst (ws_ yX4_worst cX4_worst 6 (some .int)) { frames := 7, cells := 0, slots := 0, locals := 167 } (mP D clW ct [.ref (ad (0)), .int p1] sz (UM D ct ad (fun _ => True) S w)) (mC (some (.int o.1)) (UM D ct ad (fun _ => True) o.2 w) (uA 31 ad sz)) 0 0 (uA 31 ad sz) := by
  refine X.start (val := fun (o : (Int32 × US)) => some (.int o.1)) (Bt := fun (o : (Int32 × US)) => UM D ct ad (fun _ => True) o.2 w) (A := uA 31 ad sz) ho (by decide) (Nat.le_of_ble_eq_true rfl) rfl ?_
  intro p e s m args below meth c E hr hlk hnm hsz hU ls hl
  subst hsz
  obtain ⟨⟨hx, hb, hml, hown, hts⟩, hK, hJ⟩ := id E
  replace hU := hU.to (B := uA 31 ad s.heap.size) (fun i hi => Or.inl ⟨i, hi, rfl⟩)
  have hA0 : ∀ q, s.heap.size ≤ q → (uA 31 ad s.heap.size) q := fun q h => Or.inr h
  have hS : va_S (uA 31 ad s.heap.size) s.heap s.heap [] := va_S.rf
  unfold sM_worst
  refine x_aload_n hx hb dX4_worst_0 rfl (lv_at hl 0 rfl) ?_
  refine x_iconst (v := 0) hx hb dX4_worst_1 (by decide) ?_
  refine pM_thrown E hU hS dX4_worst_2 (fun S1 H locs hU hS => ?_)
  refine x_aload_n hx hb dX4_worst_5 rfl (lv_at hl 0 rfl) ?_
  refine x_iload_n hx hb dX4_worst_6 rfl (lv_at hl 1 rfl) ?_
  refine x_iconst (v := 1) hx hb dX4_worst_7 (by decide) ?_
  refine x_bipush (v := 50) hx hb dX4_worst_8 (by decide) ?_
  refine kM_within E hS hA0 ⟨by decide, by decide⟩ hl.1 (Nat.le_of_ble_eq_true rfl) dX4_worst_10 ⟨Nat.le_refl _, Nat.le_refl _⟩ (fun o2 H locs hk hS => ?_)
  replace hU := hU.kept (fun i hi => hk _ (hU.lt hi))
  refine x_iconst (v := 1) hx hb dX4_worst_13 (by decide) ?_
  refine kM_right E hU hS hA0 ⟨by decide, by decide⟩ hl.1 (Nat.le_of_ble_eq_true rfl) dX4_worst_14 ⟨Nat.le_refl _, Nat.le_refl _⟩ (fun o3 H locs hU hS => ?_)
  refine x_if_ne (tgt := 22) hx hb dX4_worst_17 (by decide) (fun hc => ?_) (fun hc => ?_)
  · refine x_iconst (v := -1) hx hb dX4_worst_22 (by decide) ?_
    refine x_istore_n (lv' := [(2, .int (-1 : Int32)), (0, .ref (ad (0))), (1, .int p1)]) hx hb dX4_worst_23 rfl hl (by decide) rfl (fun ls hl => ?_)
    refine x_iconst (v := -1) hx hb dX4_worst_24 (by decide) ?_
    refine x_istore_n (lv' := [(3, .int (-1 : Int32)), (2, .int (-1 : Int32)), (0, .ref (ad (0))), (1, .int p1)]) hx hb dX4_worst_25 rfl hl (by decide) rfl (fun ls hl => ?_)
    refine x_iconst (v := 0) hx hb dX4_worst_26 (by decide) ?_
    refine x_istore (lv' := [(4, .int (0 : Int32)), (3, .int (-1 : Int32)), (2, .int (-1 : Int32)), (0, .ref (ad (0))), (1, .int p1)]) hx hb dX4_worst_27 hl (by decide) rfl (fun ls hl => ?_)
    refine X.loop (I := fun (x : (US × Int32 × Int32 × Int32)) g H locs => UM D ct ad (uA 31 ad s.heap.size) x.1 w H ∧ va_S (uA 31 ad s.heap.size) s.heap H locs ∧ ∃ ls : Array Slot, g = F0 m 29 ls [] ∧ lv_has ls 6 [(0, .ref (ad (0))), (1, .int p1), (2, .int x.2.1), (3, .int x.2.2.1), (4, .int x.2.2.2)]) (fun rc8 ih8 => ?_) FUEL _ _ _ _ ⟨hU, hS, _, rfl, lv_sub hl [3, 4, 2, 1, 0] rfl⟩
    rintro ⟨S4, v5, v6, v7⟩ _ H locs ⟨hU, hS, ls, rfl, hl⟩
    have hU : UM D ct ad (uA 31 ad s.heap.size) S4 w H := hU
    have hl : lv_has ls 6 [(0, .ref (ad (0))), (1, .int p1), (2, .int v5), (3, .int v6), (4, .int v7)] := hl
    refine X.eqs (sp2 := sM_worst_L29 p1 rc8 S4 v5 v6 v7) rfl ?_
    unfold sM_worst_L29
    refine x_iload hx hb dX4_worst_29 (lv_at hl 4 rfl) ?_
    refine x_aload_n hx hb dX4_worst_31 rfl (lv_at hl 0 rfl) ?_
    refine gM_many E hU dX4_worst_32 ?_
    refine x_icmp_ge (tgt := 102) hx hb dX4_worst_35 (by decide) (fun hc => ?_) (fun hc => ?_)
    · refine x_iload_n hx hb dX4_worst_102 rfl (lv_at hl 2 rfl) ?_
      exact x_iret hx hb hr hlk hS rfl (hU.to fun _ _ => trivial) dX4_worst_103
    · refine x_aload_n hx hb dX4_worst_38 rfl (lv_at hl 0 rfl) ?_
      refine x_iconst (v := 0) hx hb dX4_worst_39 (by decide) ?_
      refine x_iload hx hb dX4_worst_40 (lv_at hl 4 rfl) ?_
      refine kM_isGap E hU hS hA0 ⟨by decide, by decide⟩ hl.1 (Nat.le_of_ble_eq_true rfl) dX4_worst_42 ⟨Nat.le_refl _, Nat.le_refl _⟩ (fun o9 H locs hU hS => ?_)
      refine x_if_eq (tgt := 51) hx hb dX4_worst_45 (by decide) (fun hc => ?_) (fun hc => ?_)
      · refine x_aload_n hx hb dX4_worst_51 rfl (lv_at hl 0 rfl) ?_
        refine kM_tries E hU hS hA0 ⟨by decide, by decide⟩ hl.1 (Nat.le_of_ble_eq_true rfl) dX4_worst_52 ⟨Nat.le_refl _, Nat.le_refl _⟩ (fun o10 H locs hU hS => ?_)
        refine x_aload_n hx hb dX4_worst_55 rfl (lv_at hl 0 rfl) ?_
        refine x_bipush (v := 49) hx hb dX4_worst_56 (by decide) ?_
        refine x_iload hx hb dX4_worst_58 (lv_at hl 4 rfl) ?_
        refine x_iload_n hx hb dX4_worst_60 rfl (lv_at hl 1 rfl) ?_
        refine kM_loosens E hU hS hA0 ⟨by decide, by decide⟩ hl.1 (Nat.le_of_ble_eq_true rfl) dX4_worst_61 ⟨Nat.le_refl _, Nat.le_refl _⟩ (fun o11 H locs hU hS => ?_)
        refine x_aload_n hx hb dX4_worst_64 rfl (lv_at hl 0 rfl) ?_
        refine x_bipush (v := 7) hx hb dX4_worst_65 (by decide) ?_
        refine kM_daysGo E hU hS hA0 ⟨by decide, by decide⟩ hl.1 (Nat.le_of_ble_eq_true rfl) dX4_worst_67 ⟨Nat.le_refl _, Nat.le_refl _⟩ (fun o12 H locs hU hS => ?_)
        refine x_aload_n hx hb dX4_worst_70 rfl (lv_at hl 0 rfl) ?_
        refine x_bipush (v := 49) hx hb dX4_worst_71 (by decide) ?_
        refine kM_openOnes E hU hS hA0 ⟨by decide, by decide⟩ hl.1 (Nat.le_of_ble_eq_true rfl) dX4_worst_73 ⟨Nat.le_refl _, Nat.le_refl _⟩ (fun o13 H locs hU hS => ?_)
        refine kM_bits E hS hA0 ⟨by decide, by decide⟩ hl.1 (Nat.le_of_ble_eq_true rfl) dX4_worst_76 ⟨Nat.le_refl _, Nat.le_refl _⟩ (fun o14 H locs hk hS => ?_)
        replace hU := hU.kept (fun i hi => hk _ (hU.lt hi))
        refine x_istore (lv' := [(5, .int o14), (0, .ref (ad (0))), (1, .int p1), (2, .int v5), (3, .int v6), (4, .int v7)]) hx hb dX4_worst_79 hl (by decide) rfl (fun ls hl => ?_)
        refine x_iload hx hb dX4_worst_81 (lv_at hl 0 rfl) ?_
        refine x_iload_n hx hb dX4_worst_83 rfl (lv_at hl 4 rfl) ?_
        refine x_icmp_gt (tgt := 90) hx hb dX4_worst_84 (by decide) (fun hc => ?_) (fun hc => ?_)
        · refine x_iload hx hb dX4_worst_90 (lv_at hl 5 rfl) ?_
          refine x_istore_n (lv' := [(2, .int v7), (5, .int o14), (0, .ref (ad (0))), (1, .int p1), (3, .int v6), (4, .int v7)]) hx hb dX4_worst_92 rfl hl (by decide) rfl (fun ls hl => ?_)
          refine x_iload hx hb dX4_worst_93 (lv_at hl 1 rfl) ?_
          refine x_istore_n (lv' := [(3, .int o14), (2, .int v7), (5, .int o14), (0, .ref (ad (0))), (1, .int p1), (4, .int v7)]) hx hb dX4_worst_95 rfl hl (by decide) rfl (fun ls hl => ?_)
          refine x_iinc (v := (v7 + (1 : Int32))) (lv' := [(4, .int (v7 + (1 : Int32))), (3, .int o14), (2, .int v7), (5, .int o14), (0, .ref (ad (0))), (1, .int p1)]) (k := 5) hx hb dX4_worst_96 hl rfl rfl (by decide) rfl (fun ls hl => ?_)
          refine x_goto (tgt := 29) hx hb dX4_worst_99 (by decide) ?_
          exact ih8 (o12, v7, o14, (v7 + (1 : Int32))) _ _ _ ⟨hU, hS, _, rfl, lv_sub hl [4, 5, 2, 1, 0] rfl⟩
        · refine x_goto (tgt := 96) hx hb dX4_worst_87 (by decide) ?_
          refine x_iinc (v := (v7 + (1 : Int32))) (lv' := [(4, .int (v7 + (1 : Int32))), (5, .int o14), (0, .ref (ad (0))), (1, .int p1), (2, .int v5), (3, .int v6)]) (k := 5) hx hb dX4_worst_96 hl rfl rfl (by decide) rfl (fun ls hl => ?_)
          refine x_goto (tgt := 29) hx hb dX4_worst_99 (by decide) ?_
          exact ih8 (o12, v5, v6, (v7 + (1 : Int32))) _ _ _ ⟨hU, hS, _, rfl, lv_sub hl [2, 3, 4, 5, 0] rfl⟩
      · refine x_goto (tgt := 96) hx hb dX4_worst_48 (by decide) ?_
        refine x_iinc (v := (v7 + (1 : Int32))) (lv' := [(4, .int (v7 + (1 : Int32))), (0, .ref (ad (0))), (1, .int p1), (2, .int v5), (3, .int v6)]) (k := 4) hx hb dX4_worst_96 hl rfl rfl (by decide) rfl (fun ls hl => ?_)
        refine x_goto (tgt := 29) hx hb dX4_worst_99 (by decide) ?_
        exact ih8 (S4, v5, v6, (v7 + (1 : Int32))) _ _ _ ⟨hU, hS, _, rfl, lv_sub hl [1, 2, 3, 4, 0] rfl⟩
  · refine x_iconst (v := 0) hx hb dX4_worst_20 (by decide) ?_
    exact x_iret hx hb hr hlk hS rfl (hU.to fun _ _ => trivial) dX4_worst_21

set_option maxHeartbeats 4000000 in
theorem mM_meet (l : Launch) (D : va_G) (ct : CT) (ad : Nat → Nat) (S : US) (w : Int64) (p1 : Int32) (p2 : Int32) (sz : Nat) (o : (Int32 × US)) (ho : sM_meet S p1 p2 = some o) : Met l yX4_meet (ws_ yX4_meet cX4_meet 4 (some .int)) { frames := 6, cells := 0, slots := 0, locals := 145 } (mP D clW ct [.ref (ad (0)), .int p1, .int p2] sz (UM D ct ad (fun _ => True) S w)) (mC (some (.int o.1)) (UM D ct ad (fun _ => True) o.2 w) (uA 31 ad sz)) 0 0 (uA 31 ad sz) := by
  refine X.start (val := fun (o : (Int32 × US)) => some (.int o.1)) (Bt := fun (o : (Int32 × US)) => UM D ct ad (fun _ => True) o.2 w) (A := uA 31 ad sz) ho (by decide) (Nat.le_of_ble_eq_true rfl) rfl ?_
  intro p e s m args below meth c E hr hlk hnm hsz hU ls hl
  subst hsz
  obtain ⟨⟨hx, hb, hml, hown, hts⟩, hK, hJ⟩ := id E
  replace hU := hU.to (B := uA 31 ad s.heap.size) (fun i hi => Or.inl ⟨i, hi, rfl⟩)
  have hA0 : ∀ q, s.heap.size ≤ q → (uA 31 ad s.heap.size) q := fun q h => Or.inr h
  have hS : va_S (uA 31 ad s.heap.size) s.heap s.heap [] := va_S.rf
  unfold sM_meet
  refine x_aload_n hx hb dX4_meet_0 rfl (lv_at hl 0 rfl) ?_
  refine x_iconst (v := 0) hx hb dX4_meet_1 (by decide) ?_
  refine pM_thrown E hU hS dX4_meet_2 (fun S1 H locs hU hS => ?_)
  refine x_aload_n hx hb dX4_meet_5 rfl (lv_at hl 0 rfl) ?_
  refine x_iload_n hx hb dX4_meet_6 rfl (lv_at hl 1 rfl) ?_
  refine kM_isWoman E hU hS hA0 ⟨by decide, by decide⟩ hl.1 (Nat.le_of_ble_eq_true rfl) dX4_meet_7 ⟨Nat.le_refl _, Nat.le_refl _⟩ (fun o2 H locs hU hS => ?_)
  refine x_if_eq (tgt := 21) hx hb dX4_meet_10 (by decide) (fun hc => ?_) (fun hc => ?_)
  · refine x_iconst (v := 0) hx hb dX4_meet_21 (by decide) ?_
    exact x_iret hx hb hr hlk hS rfl (hU.to fun _ _ => trivial) dX4_meet_22
  · refine x_aload_n hx hb dX4_meet_13 rfl (lv_at hl 0 rfl) ?_
    refine x_iload_n hx hb dX4_meet_14 rfl (lv_at hl 2 rfl) ?_
    refine kM_isWoman E hU hS hA0 ⟨by decide, by decide⟩ hl.1 (Nat.le_of_ble_eq_true rfl) dX4_meet_15 ⟨Nat.le_refl _, Nat.le_refl _⟩ (fun o3 H locs hU hS => ?_)
    refine x_if_ne (tgt := 23) hx hb dX4_meet_18 (by decide) (fun hc => ?_) (fun hc => ?_)
    · refine x_aload_n hx hb dX4_meet_23 rfl (lv_at hl 0 rfl) ?_
      refine kM_tries E hU hS hA0 ⟨by decide, by decide⟩ hl.1 (Nat.le_of_ble_eq_true rfl) dX4_meet_24 ⟨Nat.le_refl _, Nat.le_refl _⟩ (fun o4 H locs hU hS => ?_)
      refine x_iconst (v := 0) hx hb dX4_meet_27 (by decide) ?_
      refine x_istore_n (lv' := [(3, .int (0 : Int32)), (0, .ref (ad (0))), (1, .int p1), (2, .int p2)]) hx hb dX4_meet_28 rfl hl (by decide) rfl (fun ls hl => ?_)
      refine X.loop (I := fun (x : (US × Int32)) g H locs => UM D ct ad (uA 31 ad s.heap.size) x.1 w H ∧ va_S (uA 31 ad s.heap.size) s.heap H locs ∧ ∃ ls : Array Slot, g = F0 m 29 ls [] ∧ lv_has ls 4 [(0, .ref (ad (0))), (1, .int p1), (2, .int p2), (3, .int x.2)]) (fun rc7 ih7 => ?_) FUEL _ _ _ _ ⟨hU, hS, _, rfl, lv_sub hl [1, 2, 3, 0] rfl⟩
      rintro ⟨S5, v6⟩ _ H locs ⟨hU, hS, ls, rfl, hl⟩
      have hU : UM D ct ad (uA 31 ad s.heap.size) S5 w H := hU
      have hl : lv_has ls 4 [(0, .ref (ad (0))), (1, .int p1), (2, .int p2), (3, .int v6)] := hl
      refine X.eqs (sp2 := sM_meet_L29 p1 p2 rc7 S5 v6) rfl ?_
      unfold sM_meet_L29
      refine x_iload_n hx hb dX4_meet_29 rfl (lv_at hl 3 rfl) ?_
      refine x_bipush (v := 60) hx hb dX4_meet_30 (by decide) ?_
      refine x_icmp_gt (tgt := 75) hx hb dX4_meet_32 (by decide) (fun hc => ?_) (fun hc => ?_)
      · refine x_iconst (v := -1) hx hb dX4_meet_75 (by decide) ?_
        exact x_iret hx hb hr hlk hS rfl (hU.to fun _ _ => trivial) dX4_meet_76
      · refine x_iload_n hx hb dX4_meet_35 rfl (lv_at hl 1 rfl) ?_
        refine x_iload_n hx hb dX4_meet_36 rfl (lv_at hl 2 rfl) ?_
        refine x_icmp_eq (tgt := 75) hx hb dX4_meet_37 (by decide) (fun hc => ?_) (fun hc => ?_)
        · refine x_iconst (v := -1) hx hb dX4_meet_75 (by decide) ?_
          exact x_iret hx hb hr hlk hS rfl (hU.to fun _ _ => trivial) dX4_meet_76
        · refine x_aload_n hx hb dX4_meet_40 rfl (lv_at hl 0 rfl) ?_
          refine gM_rows E hU dX4_meet_41 ?_
          refine x_bipush (v := 86) hx hb dX4_meet_44 (by decide) ?_
          refine x_iload_n hx hb dX4_meet_46 rfl (lv_at hl 1 rfl) ?_
          refine x_iadd hx hb dX4_meet_47 ?_
          refine ux_ald (i := 14) (n := 98) E hU (by decide) rfl dX4_meet_48 ?_
          refine x_aload_n hx hb dX4_meet_49 rfl (lv_at hl 0 rfl) ?_
          refine gM_rows E hU dX4_meet_50 ?_
          refine x_bipush (v := 86) hx hb dX4_meet_53 (by decide) ?_
          refine x_iload_n hx hb dX4_meet_55 rfl (lv_at hl 2 rfl) ?_
          refine x_iadd hx hb dX4_meet_56 ?_
          refine ux_ald (i := 14) (n := 98) E hU (by decide) rfl dX4_meet_57 ?_
          refine x_icmp_ne (tgt := 63) hx hb dX4_meet_58 (by decide) (fun hc => ?_) (fun hc => ?_)
          · refine x_aload_n hx hb dX4_meet_63 rfl (lv_at hl 0 rfl) ?_
            refine x_bipush (v := 49) hx hb dX4_meet_64 (by decide) ?_
            refine kM_dayGoes E hU hS hA0 ⟨by decide, by decide⟩ hl.1 (Nat.le_of_ble_eq_true rfl) dX4_meet_66 ⟨Nat.le_refl _, Nat.le_refl _⟩ (fun o8 H locs hU hS => ?_)
            refine x_iinc (v := (v6 + (1 : Int32))) (lv' := [(3, .int (v6 + (1 : Int32))), (0, .ref (ad (0))), (1, .int p1), (2, .int p2)]) (k := 3) hx hb dX4_meet_69 hl rfl rfl (by decide) rfl (fun ls hl => ?_)
            refine x_goto (tgt := 29) hx hb dX4_meet_72 (by decide) ?_
            exact ih7 (o8, (v6 + (1 : Int32))) _ _ _ ⟨hU, hS, _, rfl, lv_sub hl [1, 2, 3, 0] rfl⟩
          · refine x_iload_n hx hb dX4_meet_61 rfl (lv_at hl 3 rfl) ?_
            exact x_iret hx hb hr hlk hS rfl (hU.to fun _ _ => trivial) dX4_meet_62
    · refine x_iconst (v := 0) hx hb dX4_meet_21 (by decide) ?_
      exact x_iret hx hb hr hlk hS rfl (hU.to fun _ _ => trivial) dX4_meet_22

set_option maxHeartbeats 4000000 in
theorem mM_bare (l : Launch) (D : va_G) (ct : CT) (ad : Nat → Nat) (S : US) (w : Int64) (p1 : Int32) (sz : Nat) (o : (Int32 × US)) (ho : sM_bare S p1 = some o) : Met l yX4_bare (ws_ yX4_bare cX4_bare 4 (some .int)) { frames := 8, cells := 0, slots := 0, locals := 188 } (mP D clW ct [.ref (ad (0)), .int p1] sz (UM D ct ad (fun _ => True) S w)) (mC (some (.int o.1)) (UM D ct ad (fun _ => True) o.2 w) (uA 31 ad sz)) 0 0 (uA 31 ad sz) := by
  refine X.start (val := fun (o : (Int32 × US)) => some (.int o.1)) (Bt := fun (o : (Int32 × US)) => UM D ct ad (fun _ => True) o.2 w) (A := uA 31 ad sz) ho (by decide) (Nat.le_of_ble_eq_true rfl) rfl ?_
  intro p e s m args below meth c E hr hlk hnm hsz hU ls hl
  subst hsz
  obtain ⟨⟨hx, hb, hml, hown, hts⟩, hK, hJ⟩ := id E
  replace hU := hU.to (B := uA 31 ad s.heap.size) (fun i hi => Or.inl ⟨i, hi, rfl⟩)
  have hA0 : ∀ q, s.heap.size ≤ q → (uA 31 ad s.heap.size) q := fun q h => Or.inr h
  have hS : va_S (uA 31 ad s.heap.size) s.heap s.heap [] := va_S.rf
  unfold sM_bare
  refine x_aload_n hx hb dX4_bare_0 rfl (lv_at hl 0 rfl) ?_
  refine x_iconst (v := 0) hx hb dX4_bare_1 (by decide) ?_
  refine pM_thrown E hU hS dX4_bare_2 (fun S1 H locs hU hS => ?_)
  refine x_aload_n hx hb dX4_bare_5 rfl (lv_at hl 0 rfl) ?_
  refine x_iload_n hx hb dX4_bare_6 rfl (lv_at hl 1 rfl) ?_
  refine x_iconst (v := 0) hx hb dX4_bare_7 (by decide) ?_
  refine x_iconst (v := 1) hx hb dX4_bare_8 (by decide) ?_
  refine kM_isDays E hU hS hA0 ⟨by decide, by decide⟩ hl.1 (Nat.le_of_ble_eq_true rfl) dX4_bare_9 ⟨Nat.le_refl _, Nat.le_refl _⟩ (fun o2 H locs hU hS => ?_)
  refine x_if_ne (tgt := 17) hx hb dX4_bare_12 (by decide) (fun hc => ?_) (fun hc => ?_)
  · refine x_aload_n hx hb dX4_bare_17 rfl (lv_at hl 0 rfl) ?_
    refine x_iload_n hx hb dX4_bare_18 rfl (lv_at hl 1 rfl) ?_
    refine kM_goesTo E hU hS hA0 ⟨by decide, by decide⟩ hl.1 (Nat.le_of_ble_eq_true rfl) dX4_bare_19 ⟨Nat.le_refl _, Nat.le_refl _⟩ (fun o3 H locs hU hS => ?_)
    refine x_iconst (v := 0) hx hb dX4_bare_22 (by decide) ?_
    refine x_istore_n (lv' := [(2, .int (0 : Int32)), (0, .ref (ad (0))), (1, .int p1)]) hx hb dX4_bare_23 rfl hl (by decide) rfl (fun ls hl => ?_)
    refine x_iconst (v := 0) hx hb dX4_bare_24 (by decide) ?_
    refine x_istore_n (lv' := [(3, .int (0 : Int32)), (2, .int (0 : Int32)), (0, .ref (ad (0))), (1, .int p1)]) hx hb dX4_bare_25 rfl hl (by decide) rfl (fun ls hl => ?_)
    refine X.loop (I := fun (x : (Int32 × Int32)) g H locs => UM D ct ad (uA 31 ad s.heap.size) o3 w H ∧ va_S (uA 31 ad s.heap.size) s.heap H locs ∧ ∃ ls : Array Slot, g = F0 m 26 ls [] ∧ lv_has ls 4 [(0, .ref (ad (0))), (2, .int x.1), (3, .int x.2)]) (fun rc6 ih6 => ?_) FUEL _ _ _ _ ⟨hU, hS, _, rfl, lv_sub hl [2, 1, 0] rfl⟩
    rintro ⟨v4, v5⟩ _ H locs ⟨hU, hS, ls, rfl, hl⟩
    have hU : UM D ct ad (uA 31 ad s.heap.size) o3 w H := hU
    have hl : lv_has ls 4 [(0, .ref (ad (0))), (2, .int v4), (3, .int v5)] := hl
    refine X.eqs (sp2 := sM_bare_L26 o3 rc6 v4 v5) rfl ?_
    unfold sM_bare_L26
    refine x_iload_n hx hb dX4_bare_26 rfl (lv_at hl 2 rfl) ?_
    refine x_aload_n hx hb dX4_bare_27 rfl (lv_at hl 0 rfl) ?_
    refine gM_women E hU dX4_bare_28 ?_
    refine x_icmp_ge (tgt := 62) hx hb dX4_bare_31 (by decide) (fun hc => ?_) (fun hc => ?_)
    · refine x_iload_n hx hb dX4_bare_62 rfl (lv_at hl 1 rfl) ?_
      exact x_iret hx hb hr hlk hS rfl (hU.to fun _ _ => trivial) dX4_bare_63
    · refine x_iload_n hx hb dX4_bare_34 rfl (lv_at hl 1 rfl) ?_
      refine x_aload_n hx hb dX4_bare_35 rfl (lv_at hl 0 rfl) ?_
      refine gM_rows E hU dX4_bare_36 ?_
      refine x_bipush (v := 92) hx hb dX4_bare_39 (by decide) ?_
      refine x_iload_n hx hb dX4_bare_41 rfl (lv_at hl 2 rfl) ?_
      refine x_iadd hx hb dX4_bare_42 ?_
      refine ux_ald (i := 14) (n := 98) E hU (by decide) rfl dX4_bare_43 ?_
      refine x_if_ne (tgt := 53) hx hb dX4_bare_44 (by decide) (fun hc => ?_) (fun hc => ?_)
      · refine x_iconst (v := 0) hx hb dX4_bare_53 (by decide) ?_
        refine x_ior hx hb dX4_bare_54 ?_
        refine x_istore_n (lv' := [(2, .int (v4 ||| (0 : Int32))), (0, .ref (ad (0))), (3, .int v5)]) hx hb dX4_bare_55 rfl hl (by decide) rfl (fun ls hl => ?_)
        refine x_iinc (v := (v5 + (1 : Int32))) (lv' := [(3, .int (v5 + (1 : Int32))), (2, .int (v4 ||| (0 : Int32))), (0, .ref (ad (0)))]) (k := 2) hx hb dX4_bare_56 hl rfl rfl (by decide) rfl (fun ls hl => ?_)
        refine x_goto (tgt := 26) hx hb dX4_bare_59 (by decide) ?_
        exact ih6 ((v4 ||| (0 : Int32)), (v5 + (1 : Int32))) _ _ _ ⟨hU, hS, _, rfl, lv_sub hl [2, 1, 0] rfl⟩
      · refine x_iconst (v := 1) hx hb dX4_bare_47 (by decide) ?_
        refine x_iload_n hx hb dX4_bare_48 rfl (lv_at hl 2 rfl) ?_
        refine x_ishl hx hb dX4_bare_49 ?_
        refine x_goto (tgt := 54) hx hb dX4_bare_50 (by decide) ?_
        refine x_ior hx hb dX4_bare_54 ?_
        refine x_istore_n (lv' := [(2, .int (v4 ||| ((1 : Int32) <<< (v5 &&& 31)))), (0, .ref (ad (0))), (3, .int v5)]) hx hb dX4_bare_55 rfl hl (by decide) rfl (fun ls hl => ?_)
        refine x_iinc (v := (v5 + (1 : Int32))) (lv' := [(3, .int (v5 + (1 : Int32))), (2, .int (v4 ||| ((1 : Int32) <<< (v5 &&& 31)))), (0, .ref (ad (0)))]) (k := 2) hx hb dX4_bare_56 hl rfl rfl (by decide) rfl (fun ls hl => ?_)
        refine x_goto (tgt := 26) hx hb dX4_bare_59 (by decide) ?_
        exact ih6 ((v4 ||| ((1 : Int32) <<< (v5 &&& 31))), (v5 + (1 : Int32))) _ _ _ ⟨hU, hS, _, rfl, lv_sub hl [2, 1, 0] rfl⟩
  · refine x_iconst (v := 0) hx hb dX4_bare_15 (by decide) ?_
    exact x_iret hx hb hr hlk hS rfl (hU.to fun _ _ => trivial) dX4_bare_16

set_option maxHeartbeats 4000000 in
theorem mM_load (l : Launch) (D : va_G) (ct : CT) (ad : Nat → Nat) (S : US) (w : Int64) (p1 : Int32) (sz : Nat) (o : (Int32 × US)) (ho : sM_load S p1 = some o) : Met l yX4_load (ws_ yX4_load cX4_load 4 (some .int)) { frames := 2, cells := 0, slots := 0, locals := 54 } (mP D clW ct [.ref (ad (0)), .int p1] sz (UM D ct ad (fun _ => True) S w)) (mC (some (.int o.1)) (UM D ct ad (fun _ => True) o.2 w) (uA 31 ad sz)) 0 0 (uA 31 ad sz) := by
  refine X.start (val := fun (o : (Int32 × US)) => some (.int o.1)) (Bt := fun (o : (Int32 × US)) => UM D ct ad (fun _ => True) o.2 w) (A := uA 31 ad sz) ho (by decide) (Nat.le_of_ble_eq_true rfl) rfl ?_
  intro p e s m args below meth c E hr hlk hnm hsz hU ls hl
  subst hsz
  obtain ⟨⟨hx, hb, hml, hown, hts⟩, hK, hJ⟩ := id E
  replace hU := hU.to (B := uA 31 ad s.heap.size) (fun i hi => Or.inl ⟨i, hi, rfl⟩)
  have hA0 : ∀ q, s.heap.size ≤ q → (uA 31 ad s.heap.size) q := fun q h => Or.inr h
  have hS : va_S (uA 31 ad s.heap.size) s.heap s.heap [] := va_S.rf
  unfold sM_load
  refine x_aload_n hx hb dX4_load_0 rfl (lv_at hl 0 rfl) ?_
  refine x_iconst (v := 0) hx hb dX4_load_1 (by decide) ?_
  refine pM_thrown E hU hS dX4_load_2 (fun S1 H locs hU hS => ?_)
  refine x_aload_n hx hb dX4_load_5 rfl (lv_at hl 0 rfl) ?_
  refine x_iload_n hx hb dX4_load_6 rfl (lv_at hl 1 rfl) ?_
  refine x_iconst (v := 0) hx hb dX4_load_7 (by decide) ?_
  refine x_bipush (v := 99) hx hb dX4_load_8 (by decide) ?_
  refine kM_within E hS hA0 ⟨by decide, by decide⟩ hl.1 (Nat.le_of_ble_eq_true rfl) dX4_load_10 ⟨Nat.le_refl _, Nat.le_refl _⟩ (fun o2 H locs hk hS => ?_)
  replace hU := hU.kept (fun i hi => hk _ (hU.lt hi))
  refine x_iconst (v := 1) hx hb dX4_load_13 (by decide) ?_
  refine kM_right E hU hS hA0 ⟨by decide, by decide⟩ hl.1 (Nat.le_of_ble_eq_true rfl) dX4_load_14 ⟨Nat.le_refl _, Nat.le_refl _⟩ (fun o3 H locs hU hS => ?_)
  refine x_if_ne (tgt := 22) hx hb dX4_load_17 (by decide) (fun hc => ?_) (fun hc => ?_)
  · refine x_iconst (v := 0) hx hb dX4_load_22 (by decide) ?_
    refine x_istore_n (lv' := [(2, .int (0 : Int32)), (0, .ref (ad (0))), (1, .int p1)]) hx hb dX4_load_23 rfl hl (by decide) rfl (fun ls hl => ?_)
    refine x_iconst (v := 0) hx hb dX4_load_24 (by decide) ?_
    refine x_istore_n (lv' := [(3, .int (0 : Int32)), (2, .int (0 : Int32)), (0, .ref (ad (0))), (1, .int p1)]) hx hb dX4_load_25 rfl hl (by decide) rfl (fun ls hl => ?_)
    refine X.loop (I := fun (x : (Int32 × Int32)) g H locs => UM D ct ad (uA 31 ad s.heap.size) o3.2 w H ∧ va_S (uA 31 ad s.heap.size) s.heap H locs ∧ ∃ ls : Array Slot, g = F0 m 26 ls [] ∧ lv_has ls 4 [(0, .ref (ad (0))), (1, .int p1), (2, .int x.1), (3, .int x.2)]) (fun rc6 ih6 => ?_) FUEL _ _ _ _ ⟨hU, hS, _, rfl, lv_sub hl [2, 3, 1, 0] rfl⟩
    rintro ⟨v4, v5⟩ _ H locs ⟨hU, hS, ls, rfl, hl⟩
    have hU : UM D ct ad (uA 31 ad s.heap.size) o3.2 w H := hU
    have hl : lv_has ls 4 [(0, .ref (ad (0))), (1, .int p1), (2, .int v4), (3, .int v5)] := hl
    refine X.eqs (sp2 := sM_load_L26 p1 o3 rc6 v4 v5) rfl ?_
    unfold sM_load_L26
    refine x_iload_n hx hb dX4_load_26 rfl (lv_at hl 3 rfl) ?_
    refine x_aload_n hx hb dX4_load_27 rfl (lv_at hl 0 rfl) ?_
    refine gM_many E hU dX4_load_28 ?_
    refine x_icmp_ge (tgt := 76) hx hb dX4_load_31 (by decide) (fun hc => ?_) (fun hc => ?_)
    · refine x_iload_n hx hb dX4_load_76 rfl (lv_at hl 2 rfl) ?_
      refine x_if_ne (tgt := 94) hx hb dX4_load_77 (by decide) (fun hc => ?_) (fun hc => ?_)
      · refine x_iload_n hx hb dX4_load_94 rfl (lv_at hl 2 rfl) ?_
        exact x_iret hx hb hr hlk hS rfl (hU.to fun _ _ => trivial) dX4_load_95
      · refine x_aload_n hx hb dX4_load_80 rfl (lv_at hl 0 rfl) ?_
        refine gM_rows E hU dX4_load_81 ?_
        refine x_iconst (v := 1) hx hb dX4_load_84 (by decide) ?_
        refine ux_ald (i := 14) (n := 98) E hU (by decide) rfl dX4_load_85 ?_
        refine x_iload_n hx hb dX4_load_86 rfl (lv_at hl 1 rfl) ?_
        refine x_icmp_lt (tgt := 94) hx hb dX4_load_87 (by decide) (fun hc => ?_) (fun hc => ?_)
        · refine x_iload_n hx hb dX4_load_94 rfl (lv_at hl 2 rfl) ?_
          exact x_iret hx hb hr hlk hS rfl (hU.to fun _ _ => trivial) dX4_load_95
        · refine x_iconst (v := 1) hx hb dX4_load_90 (by decide) ?_
          refine x_goto (tgt := 95) hx hb dX4_load_91 (by decide) ?_
          exact x_iret hx hb hr hlk hS rfl (hU.to fun _ _ => trivial) dX4_load_95
    · refine x_iload_n hx hb dX4_load_34 rfl (lv_at hl 2 rfl) ?_
      refine x_aload_n hx hb dX4_load_35 rfl (lv_at hl 0 rfl) ?_
      refine gM_rows E hU dX4_load_36 ?_
      refine x_iconst (v := 1) hx hb dX4_load_39 (by decide) ?_
      refine x_iload_n hx hb dX4_load_40 rfl (lv_at hl 3 rfl) ?_
      refine x_iadd hx hb dX4_load_41 ?_
      refine ux_ald (i := 14) (n := 98) E hU (by decide) rfl dX4_load_42 ?_
      refine x_iload_n hx hb dX4_load_43 rfl (lv_at hl 1 rfl) ?_
      refine x_icmp_lt (tgt := 67) hx hb dX4_load_44 (by decide) (fun hc => ?_) (fun hc => ?_)
      · refine x_iconst (v := 0) hx hb dX4_load_67 (by decide) ?_
        refine x_iadd hx hb dX4_load_68 ?_
        refine x_istore_n (lv' := [(2, .int (v4 + (0 : Int32))), (0, .ref (ad (0))), (1, .int p1), (3, .int v5)]) hx hb dX4_load_69 rfl hl (by decide) rfl (fun ls hl => ?_)
        refine x_iinc (v := (v5 + (1 : Int32))) (lv' := [(3, .int (v5 + (1 : Int32))), (2, .int (v4 + (0 : Int32))), (0, .ref (ad (0))), (1, .int p1)]) (k := 3) hx hb dX4_load_70 hl rfl rfl (by decide) rfl (fun ls hl => ?_)
        refine x_goto (tgt := 26) hx hb dX4_load_73 (by decide) ?_
        exact ih6 ((v4 + (0 : Int32)), (v5 + (1 : Int32))) _ _ _ ⟨hU, hS, _, rfl, lv_sub hl [2, 3, 1, 0] rfl⟩
      · refine x_aload_n hx hb dX4_load_47 rfl (lv_at hl 0 rfl) ?_
        refine gM_rows E hU dX4_load_48 ?_
        refine x_iconst (v := 1) hx hb dX4_load_51 (by decide) ?_
        refine x_aload_n hx hb dX4_load_52 rfl (lv_at hl 0 rfl) ?_
        refine x_iload_n hx hb dX4_load_53 rfl (lv_at hl 3 rfl) ?_
        refine kM_ahead1 E hU hS hA0 ⟨by decide, by decide⟩ hl.1 (Nat.le_of_ble_eq_true rfl) dX4_load_54 ⟨Nat.le_refl _, Nat.le_refl _⟩ (fun o7 H locs hU hS => ?_)
        refine x_iadd hx hb dX4_load_57 ?_
        refine ux_ald (i := 14) (n := 98) E hU (by decide) rfl dX4_load_58 ?_
        refine x_iload_n hx hb dX4_load_59 rfl (lv_at hl 1 rfl) ?_
        refine x_icmp_ge (tgt := 67) hx hb dX4_load_60 (by decide) (fun hc => ?_) (fun hc => ?_)
        · refine x_iconst (v := 0) hx hb dX4_load_67 (by decide) ?_
          refine x_iadd hx hb dX4_load_68 ?_
          refine x_istore_n (lv' := [(2, .int (v4 + (0 : Int32))), (0, .ref (ad (0))), (1, .int p1), (3, .int v5)]) hx hb dX4_load_69 rfl hl (by decide) rfl (fun ls hl => ?_)
          refine x_iinc (v := (v5 + (1 : Int32))) (lv' := [(3, .int (v5 + (1 : Int32))), (2, .int (v4 + (0 : Int32))), (0, .ref (ad (0))), (1, .int p1)]) (k := 3) hx hb dX4_load_70 hl rfl rfl (by decide) rfl (fun ls hl => ?_)
          refine x_goto (tgt := 26) hx hb dX4_load_73 (by decide) ?_
          exact ih6 ((v4 + (0 : Int32)), (v5 + (1 : Int32))) _ _ _ ⟨hU, hS, _, rfl, lv_sub hl [2, 3, 1, 0] rfl⟩
        · refine x_iconst (v := 1) hx hb dX4_load_63 (by decide) ?_
          refine x_goto (tgt := 68) hx hb dX4_load_64 (by decide) ?_
          refine x_iadd hx hb dX4_load_68 ?_
          refine x_istore_n (lv' := [(2, .int (v4 + (1 : Int32))), (0, .ref (ad (0))), (1, .int p1), (3, .int v5)]) hx hb dX4_load_69 rfl hl (by decide) rfl (fun ls hl => ?_)
          refine x_iinc (v := (v5 + (1 : Int32))) (lv' := [(3, .int (v5 + (1 : Int32))), (2, .int (v4 + (1 : Int32))), (0, .ref (ad (0))), (1, .int p1)]) (k := 3) hx hb dX4_load_70 hl rfl rfl (by decide) rfl (fun ls hl => ?_)
          refine x_goto (tgt := 26) hx hb dX4_load_73 (by decide) ?_
          exact ih6 ((v4 + (1 : Int32)), (v5 + (1 : Int32))) _ _ _ ⟨hU, hS, _, rfl, lv_sub hl [2, 3, 1, 0] rfl⟩
  · refine x_iconst (v := 0) hx hb dX4_load_20 (by decide) ?_
    exact x_iret hx hb hr hlk hS rfl (hU.to fun _ _ => trivial) dX4_load_21

set_option maxHeartbeats 4000000 in
theorem mM_image (l : Launch) (D : va_G) (ct : CT) (ad : Nat → Nat) (S : US) (w : Int64) (sz : Nat) (o : US) (ho : sM_image S = some o) : Met l yX4_image (ws_ yX4_image cX4_image 2 none) { frames := 2, cells := 0, slots := 0, locals := 55 } (mP D clW ct [.ref (ad (0))] sz (UM D ct ad (fun _ => True) S w)) (mC (none) (UM D ct ad (fun _ => True) o w) (uA 31 ad sz)) 0 0 (uA 31 ad sz) := by
  refine X.start (val := fun (o : US) => none) (Bt := fun (o : US) => UM D ct ad (fun _ => True) o w) (A := uA 31 ad sz) ho (by decide) (Nat.le_of_ble_eq_true rfl) rfl ?_
  intro p e s m args below meth c E hr hlk hnm hsz hU ls hl
  subst hsz
  obtain ⟨⟨hx, hb, hml, hown, hts⟩, hK, hJ⟩ := id E
  replace hU := hU.to (B := uA 31 ad s.heap.size) (fun i hi => Or.inl ⟨i, hi, rfl⟩)
  have hA0 : ∀ q, s.heap.size ≤ q → (uA 31 ad s.heap.size) q := fun q h => Or.inr h
  have hS : va_S (uA 31 ad s.heap.size) s.heap s.heap [] := va_S.rf
  unfold sM_image
  refine x_aload_n hx hb dX4_image_0 rfl (lv_at hl 0 rfl) ?_
  refine x_iconst (v := 0) hx hb dX4_image_1 (by decide) ?_
  refine pM_thrown E hU hS dX4_image_2 (fun S1 H locs hU hS => ?_)
  refine x_aload_n hx hb dX4_image_5 rfl (lv_at hl 0 rfl) ?_
  refine x_iconst (v := 1) hx hb dX4_image_6 (by decide) ?_
  refine pM_hasImage E hU hS rfl rfl dX4_image_7 (fun S2 H locs hU hS => ?_)
  refine x_aload_n hx hb dX4_image_10 rfl (lv_at hl 0 rfl) ?_
  refine x_aload_n hx hb dX4_image_11 rfl (lv_at hl 0 rfl) ?_
  refine gM_acts E hU dX4_image_12 ?_
  refine pM_imageActs E hU hS dX4_image_15 (fun S3 H locs hU hS => ?_)
  refine x_aload_n hx hb dX4_image_18 rfl (lv_at hl 0 rfl) ?_
  refine x_aload_n hx hb dX4_image_19 rfl (lv_at hl 0 rfl) ?_
  refine gM_seenMany E hU dX4_image_20 ?_
  refine pM_imageSeen E hU hS dX4_image_23 (fun S4 H locs hU hS => ?_)
  refine x_iconst (v := 0) hx hb dX4_image_26 (by decide) ?_
  refine x_istore_n (lv' := [(1, .int (0 : Int32)), (0, .ref (ad (0)))]) hx hb dX4_image_27 rfl hl (by decide) rfl (fun ls hl => ?_)
  refine X.loop (I := fun (x : (US × Int32)) g H locs => UM D ct ad (uA 31 ad s.heap.size) x.1 w H ∧ va_S (uA 31 ad s.heap.size) s.heap H locs ∧ ∃ ls : Array Slot, g = F0 m 28 ls [] ∧ lv_has ls 2 [(0, .ref (ad (0))), (1, .int x.2)]) (fun rc7 ih7 => ?_) FUEL _ _ _ _ ⟨hU, hS, _, rfl, lv_sub hl [1, 0] rfl⟩
  rintro ⟨S5, v6⟩ _ H locs ⟨hU, hS, ls, rfl, hl⟩
  have hU : UM D ct ad (uA 31 ad s.heap.size) S5 w H := hU
  have hl : lv_has ls 2 [(0, .ref (ad (0))), (1, .int v6)] := hl
  refine X.eqs (sp2 := sM_image_L28 rc7 S5 v6) rfl ?_
  unfold sM_image_L28
  refine x_iload_n hx hb dX4_image_28 rfl (lv_at hl 1 rfl) ?_
  refine x_bipush (v := 49) hx hb dX4_image_29 (by decide) ?_
  refine x_icmp_ge (tgt := 52) hx hb dX4_image_31 (by decide) (fun hc => ?_) (fun hc => ?_)
  · refine x_aload_n hx hb dX4_image_52 rfl (lv_at hl 0 rfl) ?_
    refine x_aload_n hx hb dX4_image_53 rfl (lv_at hl 0 rfl) ?_
    refine gM_ahead E hU dX4_image_54 ?_
    refine x_aload_n hx hb dX4_image_57 rfl (lv_at hl 0 rfl) ?_
    refine gM_imageAhead E hU dX4_image_58 ?_
    refine kM_copies E hU hS hA0 (by decide) rfl (by decide) rfl ⟨by decide, by decide⟩ hl.1 (Nat.le_of_ble_eq_true rfl) dX4_image_61 ⟨Nat.le_refl _, Nat.le_refl _⟩ (fun o8 H locs hU hS => ?_)
    refine x_aload_n hx hb dX4_image_64 rfl (lv_at hl 0 rfl) ?_
    refine x_aload_n hx hb dX4_image_65 rfl (lv_at hl 0 rfl) ?_
    refine gM_seen E hU dX4_image_66 ?_
    refine x_aload_n hx hb dX4_image_69 rfl (lv_at hl 0 rfl) ?_
    refine gM_imageSees E hU dX4_image_70 ?_
    refine kM_copies E hU hS hA0 (by decide) rfl (by decide) rfl ⟨by decide, by decide⟩ hl.1 (Nat.le_of_ble_eq_true rfl) dX4_image_73 ⟨Nat.le_refl _, Nat.le_refl _⟩ (fun o9 H locs hU hS => ?_)
    exact x_vret hx hb hr hlk hS rfl (hU.to fun _ _ => trivial) dX4_image_76
  · refine x_aload_n hx hb dX4_image_34 rfl (lv_at hl 0 rfl) ?_
    refine gM_imageRow E hU dX4_image_35 ?_
    refine x_iload_n hx hb dX4_image_38 rfl (lv_at hl 1 rfl) ?_
    refine x_aload_n hx hb dX4_image_39 rfl (lv_at hl 0 rfl) ?_
    refine gM_rows E hU dX4_image_40 ?_
    refine x_iload_n hx hb dX4_image_43 rfl (lv_at hl 1 rfl) ?_
    refine ux_ald (i := 14) (n := 98) E hU (by decide) rfl dX4_image_44 ?_
    refine ux_ast (i := 28) (n := 49) E hU hS (by decide) rfl dX4_image_45 (fun S10 H locs hU hS => ?_)
    refine x_iinc (v := (v6 + (1 : Int32))) (lv' := [(1, .int (v6 + (1 : Int32))), (0, .ref (ad (0)))]) (k := 1) hx hb dX4_image_46 hl rfl rfl (by decide) rfl (fun ls hl => ?_)
    refine x_goto (tgt := 28) hx hb dX4_image_49 (by decide) ?_
    exact ih7 (S10, (v6 + (1 : Int32))) _ _ _ ⟨hU, hS, _, rfl, lv_sub hl [1, 0] rfl⟩

set_option maxHeartbeats 4000000 in
theorem mM_restore (l : Launch) (D : va_G) (ct : CT) (ad : Nat → Nat) (S : US) (w : Int64) (sz : Nat) (o : (Bool × US)) (ho : sM_restore S = some o) : Met l yX4_restore (ws_ yX4_restore cX4_restore 2 (some .boolean)) { frames := 2, cells := 0, slots := 0, locals := 55 } (mP D clW ct [.ref (ad (0))] sz (UM D ct ad (fun _ => True) S w)) (mC (some (.int (bI o.1))) (UM D ct ad (fun _ => True) o.2 w) (uA 31 ad sz)) 0 0 (uA 31 ad sz) := by
  refine X.start (val := fun (o : (Bool × US)) => some (.int (bI o.1))) (Bt := fun (o : (Bool × US)) => UM D ct ad (fun _ => True) o.2 w) (A := uA 31 ad sz) ho (by decide) (Nat.le_of_ble_eq_true rfl) rfl ?_
  intro p e s m args below meth c E hr hlk hnm hsz hU ls hl
  subst hsz
  obtain ⟨⟨hx, hb, hml, hown, hts⟩, hK, hJ⟩ := id E
  replace hU := hU.to (B := uA 31 ad s.heap.size) (fun i hi => Or.inl ⟨i, hi, rfl⟩)
  have hA0 : ∀ q, s.heap.size ≤ q → (uA 31 ad s.heap.size) q := fun q h => Or.inr h
  have hS : va_S (uA 31 ad s.heap.size) s.heap s.heap [] := va_S.rf
  unfold sM_restore
  refine x_aload_n hx hb dX4_restore_0 rfl (lv_at hl 0 rfl) ?_
  refine x_iconst (v := 0) hx hb dX4_restore_1 (by decide) ?_
  refine pM_thrown E hU hS dX4_restore_2 (fun S1 H locs hU hS => ?_)
  refine x_aload_n hx hb dX4_restore_5 rfl (lv_at hl 0 rfl) ?_
  refine gM_hasImage E hU dX4_restore_6 ?_
  refine x_if_ne (tgt := 14) hx hb dX4_restore_9 (by decide) (fun hc => ?_) (fun hc => ?_)
  · refine x_aload_n hx hb dX4_restore_14 rfl (lv_at hl 0 rfl) ?_
    refine x_aload_n hx hb dX4_restore_15 rfl (lv_at hl 0 rfl) ?_
    refine gM_imageActs E hU dX4_restore_16 ?_
    refine pM_acts E hU hS dX4_restore_19 (fun S2 H locs hU hS => ?_)
    refine x_aload_n hx hb dX4_restore_22 rfl (lv_at hl 0 rfl) ?_
    refine x_aload_n hx hb dX4_restore_23 rfl (lv_at hl 0 rfl) ?_
    refine gM_imageSeen E hU dX4_restore_24 ?_
    refine pM_seenMany E hU hS dX4_restore_27 (fun S3 H locs hU hS => ?_)
    refine x_iconst (v := 0) hx hb dX4_restore_30 (by decide) ?_
    refine x_istore_n (lv' := [(1, .int (0 : Int32)), (0, .ref (ad (0)))]) hx hb dX4_restore_31 rfl hl (by decide) rfl (fun ls hl => ?_)
    refine X.loop (I := fun (x : (US × Int32)) g H locs => UM D ct ad (uA 31 ad s.heap.size) x.1 w H ∧ va_S (uA 31 ad s.heap.size) s.heap H locs ∧ ∃ ls : Array Slot, g = F0 m 32 ls [] ∧ lv_has ls 2 [(0, .ref (ad (0))), (1, .int x.2)]) (fun rc6 ih6 => ?_) FUEL _ _ _ _ ⟨hU, hS, _, rfl, lv_sub hl [1, 0] rfl⟩
    rintro ⟨S4, v5⟩ _ H locs ⟨hU, hS, ls, rfl, hl⟩
    have hU : UM D ct ad (uA 31 ad s.heap.size) S4 w H := hU
    have hl : lv_has ls 2 [(0, .ref (ad (0))), (1, .int v5)] := hl
    refine X.eqs (sp2 := sM_restore_L32 rc6 S4 v5) rfl ?_
    unfold sM_restore_L32
    refine x_iload_n hx hb dX4_restore_32 rfl (lv_at hl 1 rfl) ?_
    refine x_bipush (v := 49) hx hb dX4_restore_33 (by decide) ?_
    refine x_icmp_ge (tgt := 56) hx hb dX4_restore_35 (by decide) (fun hc => ?_) (fun hc => ?_)
    · refine x_aload_n hx hb dX4_restore_56 rfl (lv_at hl 0 rfl) ?_
      refine x_aload_n hx hb dX4_restore_57 rfl (lv_at hl 0 rfl) ?_
      refine gM_imageAhead E hU dX4_restore_58 ?_
      refine x_aload_n hx hb dX4_restore_61 rfl (lv_at hl 0 rfl) ?_
      refine gM_ahead E hU dX4_restore_62 ?_
      refine kM_copies E hU hS hA0 (by decide) rfl (by decide) rfl ⟨by decide, by decide⟩ hl.1 (Nat.le_of_ble_eq_true rfl) dX4_restore_65 ⟨Nat.le_refl _, Nat.le_refl _⟩ (fun o7 H locs hU hS => ?_)
      refine x_aload_n hx hb dX4_restore_68 rfl (lv_at hl 0 rfl) ?_
      refine x_aload_n hx hb dX4_restore_69 rfl (lv_at hl 0 rfl) ?_
      refine gM_imageSees E hU dX4_restore_70 ?_
      refine x_aload_n hx hb dX4_restore_73 rfl (lv_at hl 0 rfl) ?_
      refine gM_seen E hU dX4_restore_74 ?_
      refine kM_copies E hU hS hA0 (by decide) rfl (by decide) rfl ⟨by decide, by decide⟩ hl.1 (Nat.le_of_ble_eq_true rfl) dX4_restore_77 ⟨Nat.le_refl _, Nat.le_refl _⟩ (fun o8 H locs hU hS => ?_)
      refine x_iconst (v := 1) hx hb dX4_restore_80 (by decide) ?_
      exact x_zret hx hb hr hlk hS rfl rfl (hU.to fun _ _ => trivial) dX4_restore_81
    · refine x_aload_n hx hb dX4_restore_38 rfl (lv_at hl 0 rfl) ?_
      refine gM_rows E hU dX4_restore_39 ?_
      refine x_iload_n hx hb dX4_restore_42 rfl (lv_at hl 1 rfl) ?_
      refine x_aload_n hx hb dX4_restore_43 rfl (lv_at hl 0 rfl) ?_
      refine gM_imageRow E hU dX4_restore_44 ?_
      refine x_iload_n hx hb dX4_restore_47 rfl (lv_at hl 1 rfl) ?_
      refine ux_ald (i := 28) (n := 49) E hU (by decide) rfl dX4_restore_48 ?_
      refine ux_ast (i := 14) (n := 98) E hU hS (by decide) rfl dX4_restore_49 (fun S9 H locs hU hS => ?_)
      refine x_iinc (v := (v5 + (1 : Int32))) (lv' := [(1, .int (v5 + (1 : Int32))), (0, .ref (ad (0)))]) (k := 1) hx hb dX4_restore_50 hl rfl rfl (by decide) rfl (fun ls hl => ?_)
      refine x_goto (tgt := 32) hx hb dX4_restore_53 (by decide) ?_
      exact ih6 (S9, (v5 + (1 : Int32))) _ _ _ ⟨hU, hS, _, rfl, lv_sub hl [1, 0] rfl⟩
  · refine x_iconst (v := 0) hx hb dX4_restore_12 (by decide) ?_
    exact x_zret hx hb hr hlk hS rfl rfl (hU.to fun _ _ => trivial) dX4_restore_13
