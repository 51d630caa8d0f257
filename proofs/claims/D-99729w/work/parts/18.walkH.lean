set_option maxRecDepth 100000
set_option maxHeartbeats 4000000 in
theorem mH1_feed (l : Launch) (D : va_G) (ct : CT) (ad : Nat → Nat) (P : Nat → Nat → Option Nat) (S : US) (h : AH) (p1 : Int32) (p2 : Int32) (p3 : Int32) (p4 : Int32) (p5 : Int32) (sz : Nat) (o : (Int32 × US)) (ho : s1_feed S p1 p2 p3 p4 p5 = some o) : Met l yX1_feed (ws_ yX1_feed cX1_feed 8 (some .int)) { frames := 1, cells := 0, slots := 0, locals := 40 } (mP D clW ct [.ref (ad (0)), .int p1, .int p2, .int p3, .int p4, .int p5] sz (GH D ct ad P (fun _ => True) S h)) (mC (some (.int o.1)) (UW D clW ckH ct 26 ad P (fun _ => True) o.2 0) (uA 26 ad sz)) 0 0 (uA 26 ad sz) := by
  refine X.start (val := fun (o : (Int32 × US)) => some (.int o.1)) (Bt := fun (o : (Int32 × US)) => UW D clW ckH ct 26 ad P (fun _ => True) o.2 0) (A := uA 26 ad sz) ho (by decide) (Nat.le_of_ble_eq_true rfl) (lv := [(0, .ref (ad (0))), (1, .int p1), (2, .int p2), (3, .int p3), (4, .int p4), (5, .int p5)]) rfl ?_
  intro p e s m args below meth c E hr hlk hnm hsz hU ls hl
  subst hsz
  obtain ⟨⟨hx, hb, hml, hown, hts⟩, hK, hJ⟩ := id E
  replace hU := hU.to (B := uA 26 ad s.heap.size) (fun i hi => Or.inl ⟨i, hi, rfl⟩)
  have hA0 : ∀ q, s.heap.size ≤ q → (uA 26 ad s.heap.size) q := fun q h => Or.inr h
  have hS : va_S (uA 26 ad s.heap.size) s.heap s.heap [] := va_S.rf
  unfold s1_feed
  refine x_aload_n hx hb dX1_feed_0 rfl (lv_at hl 0 rfl) ?_
  refine gX1_71 E hU dX1_feed_1 ?_
  refine x_bipush (v := 20) hx hb dX1_feed_4 (by decide) ?_
  refine x_iadd hx hb dX1_feed_6 ?_
  refine x_sipush (v := 700) hx hb dX1_feed_7 (by decide) ?_
  refine x_icmp_le (tgt := 15) hx hb dX1_feed_10 (by decide) (fun hc => ?_) (fun hc => ?_)
  · refine x_iconst (v := 0) hx hb dX1_feed_15 (by decide) ?_
    refine x_istore (lv' := [(6, .int (0 : Int32)), (0, .ref (ad (0))), (1, .int p1), (2, .int p2), (3, .int p3), (4, .int p4), (5, .int p5)]) hx hb dX1_feed_16 hl (by decide) rfl (fun ls hl => ?_)
    refine X.loop (I := fun (x : (US × Int32)) g H locs => GH D ct ad P (uA 26 ad s.heap.size) x.1 h H ∧ va_S (uA 26 ad s.heap.size) s.heap H locs ∧ ∃ ls : Array Slot, g = F0 m 18 ls [] ∧ lv_has ls 8 [(0, .ref (ad (0))), (1, .int p1), (2, .int p2), (3, .int p3), (4, .int p4), (5, .int p5), (6, .int x.2)]) (fun rc3 ih3 => ?_) FUEL _ _ _ _ ⟨hU, hS, _, rfl, lv_sub hl [1, 2, 3, 4, 5, 6, 0] rfl⟩
    rintro ⟨S1, v2⟩ _ H locs ⟨hU, hS, ls, rfl, hl⟩
    have hU : GH D ct ad P (uA 26 ad s.heap.size) S1 h H := hU
    have hl : lv_has ls 8 [(0, .ref (ad (0))), (1, .int p1), (2, .int p2), (3, .int p3), (4, .int p4), (5, .int p5), (6, .int v2)] := hl
    refine X.eqs (sp2 := s1_feed_L18 p1 p2 p3 p4 p5 rc3 S1 v2) rfl ?_
    unfold s1_feed_L18
    refine x_iload hx hb dX1_feed_18 (lv_at hl 6 rfl) ?_
    refine x_bipush (v := 20) hx hb dX1_feed_20 (by decide) ?_
    refine x_icmp_ge (tgt := 105) hx hb dX1_feed_22 (by decide) (fun hc => ?_) (fun hc => ?_)
    · refine x_aload_n hx hb dX1_feed_105 rfl (lv_at hl 0 rfl) ?_
      refine x_dup hx hb dX1_feed_106 rfl ?_
      refine gX1_71 E hU dX1_feed_107 ?_
      refine x_bipush (v := 20) hx hb dX1_feed_110 (by decide) ?_
      refine x_iadd hx hb dX1_feed_112 ?_
      refine pX1_71 E hU hS dX1_feed_113 (fun S4 H locs hU hS _ => ?_)
      refine x_aload_n hx hb dX1_feed_116 rfl (lv_at hl 0 rfl) ?_
      refine gX1_71 E hU dX1_feed_117 ?_
      exact x_iret hx hb hr hlk hS rfl (hU.1.to fun _ _ => trivial) dX1_feed_120
    · refine x_iload hx hb dX1_feed_25 (lv_at hl 6 rfl) ?_
      refine x_iconst (v := 4) hx hb dX1_feed_27 (by decide) ?_
      refine X.join2 (fun (x : Int32) g H locs => GH D ct ad P (uA 26 ad s.heap.size) S1 h H ∧ va_S (uA 26 ad s.heap.size) s.heap H locs ∧ ∃ ls : Array Slot, g = F0 m 71 ls [.int x] ∧ lv_has ls 8 [(0, .ref (ad (0))), (1, .int p1), (2, .int p2), (3, .int p3), (4, .int p4), (5, .int p5), (6, .int v2)]) ?_ (fun j6 hj6 => ?_)
      · rintro y5 _ H locs ⟨hU, hS, ls, rfl, hl⟩
        refine X.eqs (sp2 := s1_feed_J71 S1 v2 rc3 y5) rfl ?_
        unfold s1_feed_J71
        refine x_istore (lv' := [(7, .int y5), (0, .ref (ad (0))), (1, .int p1), (2, .int p2), (3, .int p3), (4, .int p4), (5, .int p5), (6, .int v2)]) hx hb dX1_feed_71 hl (by decide) rfl (fun ls hl => ?_)
        refine x_aload_n hx hb dX1_feed_73 rfl (lv_at hl 1 rfl) ?_
        refine gX1_50 E hU dX1_feed_74 ?_
        refine x_aload_n hx hb dX1_feed_77 rfl (lv_at hl 1 rfl) ?_
        refine gX1_71 E hU dX1_feed_78 ?_
        refine x_iload hx hb dX1_feed_81 (lv_at hl 7 rfl) ?_
        refine x_iadd hx hb dX1_feed_83 ?_
        refine x_iload hx hb dX1_feed_84 (lv_at hl 0 rfl) ?_
        refine x_bipush (v := 24) hx hb dX1_feed_86 (by decide) ?_
        refine x_bipush (v := 8) hx hb dX1_feed_88 (by decide) ?_
        refine x_iload hx hb dX1_feed_90 (lv_at hl 7 rfl) ?_
        refine x_iconst (v := 4) hx hb dX1_feed_92 (by decide) ?_
        refine x_irem hx hb dX1_feed_93 (by decide) ?_
        refine x_imul hx hb dX1_feed_94 ?_
        refine x_isub hx hb dX1_feed_95 ?_
        refine x_ishr hx hb dX1_feed_96 ?_
        refine x_i2b hx hb dX1_feed_97 rfl ?_
        refine gx_bast (i := 3) (n := 700) E hU hS (by decide) rfl dX1_feed_98 (fun S7 H locs hU hS _ => ?_)
        refine x_iinc (v := (v2 + (1 : Int32))) (lv' := [(6, .int (v2 + (1 : Int32))), (7, .int y5), (0, .ref (ad (0))), (1, .int p1), (2, .int p2), (3, .int p3), (4, .int p4), (5, .int p5)]) (k := 7) hx hb dX1_feed_99 hl rfl rfl (by decide) rfl (fun ls hl => ?_)
        refine x_goto (tgt := 18) hx hb dX1_feed_102 (by decide) ?_
        exact ih3 (S7, (v2 + (1 : Int32))) _ _ _ ⟨hU, hS, _, rfl, lv_sub hl [2, 3, 4, 5, 6, 7, 0] rfl⟩
      · refine x_icmp_ge (tgt := 35) hx hb dX1_feed_28 (by decide) (fun hc => ?_) (fun hc => ?_)
        · refine x_iload hx hb dX1_feed_35 (lv_at hl 6 rfl) ?_
          refine x_bipush (v := 8) hx hb dX1_feed_37 (by decide) ?_
          refine x_icmp_ge (tgt := 46) hx hb dX1_feed_39 (by decide) (fun hc => ?_) (fun hc => ?_)
          · refine x_iload hx hb dX1_feed_46 (lv_at hl 6 rfl) ?_
            refine x_bipush (v := 12) hx hb dX1_feed_48 (by decide) ?_
            refine x_icmp_ge (tgt := 57) hx hb dX1_feed_50 (by decide) (fun hc => ?_) (fun hc => ?_)
            · refine x_iload hx hb dX1_feed_57 (lv_at hl 6 rfl) ?_
              refine x_bipush (v := 16) hx hb dX1_feed_59 (by decide) ?_
              refine x_icmp_ge (tgt := 69) hx hb dX1_feed_61 (by decide) (fun hc => ?_) (fun hc => ?_)
              · refine x_iload hx hb dX1_feed_69 (lv_at hl 5 rfl) ?_
                exact hj6 p5 _ _ _ ⟨hU, hS, _, rfl, lv_sub hl [0, 1, 2, 3, 4, 5, 6] rfl⟩
              · refine x_iload hx hb dX1_feed_64 (lv_at hl 4 rfl) ?_
                refine x_goto (tgt := 71) hx hb dX1_feed_66 (by decide) ?_
                exact hj6 p4 _ _ _ ⟨hU, hS, _, rfl, lv_sub hl [0, 1, 2, 3, 4, 5, 6] rfl⟩
            · refine x_iload_n hx hb dX1_feed_53 rfl (lv_at hl 3 rfl) ?_
              refine x_goto (tgt := 71) hx hb dX1_feed_54 (by decide) ?_
              exact hj6 p3 _ _ _ ⟨hU, hS, _, rfl, lv_sub hl [0, 1, 2, 3, 4, 5, 6] rfl⟩
          · refine x_iload_n hx hb dX1_feed_42 rfl (lv_at hl 2 rfl) ?_
            refine x_goto (tgt := 71) hx hb dX1_feed_43 (by decide) ?_
            exact hj6 p2 _ _ _ ⟨hU, hS, _, rfl, lv_sub hl [0, 1, 2, 3, 4, 5, 6] rfl⟩
        · refine x_iload_n hx hb dX1_feed_31 rfl (lv_at hl 1 rfl) ?_
          refine x_goto (tgt := 71) hx hb dX1_feed_32 (by decide) ?_
          exact hj6 p1 _ _ _ ⟨hU, hS, _, rfl, lv_sub hl [0, 1, 2, 3, 4, 5, 6] rfl⟩
  · refine x_iconst (v := -1) hx hb dX1_feed_13 (by decide) ?_
    exact x_iret hx hb hr hlk hS rfl (hU.1.to fun _ _ => trivial) dX1_feed_14

set_option maxHeartbeats 4000000 in
theorem mH1_fault (l : Launch) (D : va_G) (ct : CT) (ad : Nat → Nat) (P : Nat → Nat → Option Nat) (S : US) (h : AH) (sz : Nat) (o : Int32) (ho : s1_fault S = some o) : Met l yX1_fault (ws_ yX1_fault cX1_fault 1 (some .int)) { frames := 1, cells := 0, slots := 0, locals := 40 } (mP D clW ct [.ref (ad (0))] sz (GH D ct ad P (fun _ => True) S h)) (mC (some (.int o)) (fun _ => True) (nA sz)) 0 0 (nA sz) := by
  refine X.start (val := fun (o : Int32) => some (.int o)) (Bt := fun _ _ => True) (A := nA sz) ho (by decide) (Nat.le_of_ble_eq_true rfl) (lv := [(0, .ref (ad (0)))]) rfl ?_
  intro p e s m args below meth c E hr hlk hnm hsz hU ls hl
  subst hsz
  obtain ⟨⟨hx, hb, hml, hown, hts⟩, hK, hJ⟩ := id E
  have hA0 : ∀ q, s.heap.size ≤ q → (nA s.heap.size) q := fun q h => h
  have hS : va_S (nA s.heap.size) s.heap s.heap [] := va_S.rf
  unfold s1_fault
  refine x_aload_n hx hb dX1_fault_0 rfl (lv_at hl 0 rfl) ?_
  refine gX1_54 E hU dX1_fault_1 ?_
  exact x_iret hx hb hr hlk hS rfl trivial dX1_fault_4

set_option maxHeartbeats 4000000 in
theorem mH1_in (l : Launch) (D : va_G) (ct : CT) (p1 : Int32) (p2 : Int32) (p3 : Int32) (sz : Nat) (o : Bool) (ho : s1_in p1 p2 p3 = some o) : Met l yX1_in (ws_ yX1_in cX1_in 3 (some .boolean)) { frames := 1, cells := 0, slots := 0, locals := 40 } (mP D clW ct [.int p1, .int p2, .int p3] sz (fun _ => True)) (mC (some (.int (bI o))) (fun _ => True) (nA sz)) 0 0 (nA sz) := by
  refine X.start (val := fun (o : Bool) => some (.int (bI o))) (Bt := fun _ _ => True) (A := nA sz) ho (by decide) (Nat.le_of_ble_eq_true rfl) (lv := [(0, .int p1), (1, .int p2), (2, .int p3)]) rfl ?_
  intro p e s m args below meth c E hr hlk hnm hsz hU ls hl
  subst hsz
  obtain ⟨⟨hx, hb, hml, hown, hts⟩, hK, hJ⟩ := id E
  have hA0 : ∀ q, s.heap.size ≤ q → (nA s.heap.size) q := fun q h => h
  have hS : va_S (nA s.heap.size) s.heap s.heap [] := va_S.rf
  unfold s1_in
  refine x_iload_n hx hb dX1_in_0 rfl (lv_at hl 0 rfl) ?_
  refine x_iload_n hx hb dX1_in_1 rfl (lv_at hl 1 rfl) ?_
  refine x_icmp_lt (tgt := 14) hx hb dX1_in_2 (by decide) (fun hc => ?_) (fun hc => ?_)
  · refine x_iconst (v := 0) hx hb dX1_in_14 (by decide) ?_
    exact x_zret hx hb hr hlk hS rfl rfl trivial dX1_in_15
  · refine x_iload_n hx hb dX1_in_5 rfl (lv_at hl 0 rfl) ?_
    refine x_iload_n hx hb dX1_in_6 rfl (lv_at hl 2 rfl) ?_
    refine x_icmp_gt (tgt := 14) hx hb dX1_in_7 (by decide) (fun hc => ?_) (fun hc => ?_)
    · refine x_iconst (v := 0) hx hb dX1_in_14 (by decide) ?_
      exact x_zret hx hb hr hlk hS rfl rfl trivial dX1_in_15
    · refine x_iconst (v := 1) hx hb dX1_in_10 (by decide) ?_
      refine x_goto (tgt := 15) hx hb dX1_in_11 (by decide) ?_
      exact x_zret hx hb hr hlk hS rfl rfl trivial dX1_in_15
section HK
variable {ρ : Type} {p : Program} {l : Launch} {e : Env} {R : Room} {s : State} {m : MethodId} {args : Array Value} {below : List Frame} {meth : Method} {c : Code} {H : Heap} {locs : List Loc} {cells slots : Nat} {Qf : ρ → State → Prop}
variable {cc : ByteArray} {pc nL L M q0 : Nat} {ls : Array Slot} {rest : List Value}
variable {D : va_G} {ct : CT} {ck : Nat → UC} {N : Nat} {ad : Nat → Nat} {P : Nat → Nat → Option Nat} {A A0 : Nat → Prop} {S : US} {w : Int64} {h : AH} {H0 : Heap}
theorem kX1_1_in {p1 : Int32} {p2 : Int32} {p3 : Int32} (E : ME p m c cc nL s args RX1 D clW ct) (hS : va_S A0 H0 H locs) (hA0 : ∀ q, H0.size ≤ q → A0 q) (hR : 1 + 1 ≤ R.frames ∧ 8 + (3 + 11) + 40 ≤ R.locals) (hsize : ls.size = nL) (hW : (rest.map fun v => v.category).sum ≤ 8) (hdg : decode cc pc = .ok (.invokestatic 144, 3)) (hf : cells ≤ R.cells ∧ slots ≤ R.slots) {kp : Bool → Option ρ} (kk : ∀ (o : Bool) (H1 : Heap) (locs1 : List Loc), H.size ≤ H1.size → (∀ q : Nat, q < H.size → H1[q]? = H[q]?) → va_S A0 H0 H1 locs1 → X p l e R s m args below meth c H1 locs1 cells slots Qf (kp o) (F0 m (pc + 3) ls (.int (bI o) :: rest))) : X p l e R s m args below meth c H locs cells slots Qf (callK (s1_in p1 p2 p3) kp) (F0 m pc ls (.int p3 :: .int p2 :: .int p1 :: rest)) := gc_pure (val' := fun (o : Bool) => some (.int (bI o))) (len := 3) hS hA0 (fun o ho => rnS (As := [.int p1, .int p2, .int p3]) (B := fun _ => True) E trivial (mH1_in l D ct p1 p2 p3 _ o ho) (va_cwS 3 E.1.2.2.2.2 (lw_S q328 q329 q113 q330) rfl rfl rfl (by decide +kernel) hR) rfl hsize rfl hW hdg hf) kk
end HK

set_option maxHeartbeats 4000000 in
theorem mH1_refuse (l : Launch) (D : va_G) (ct : CT) (ad : Nat → Nat) (P : Nat → Nat → Option Nat) (S : US) (h : AH) (p1 : Int32) (sz : Nat) (o : (Int32 × US)) (ho : s1_refuse S p1 = some o) : Met l yX1_refuse (ws_ yX1_refuse cX1_refuse 2 (some .int)) { frames := 1, cells := 0, slots := 0, locals := 40 } (mP D clW ct [.ref (ad (0)), .int p1] sz (GH D ct ad P (fun _ => True) S h)) (mC (some (.int o.1)) (UW D clW ckH ct 26 ad P (fun _ => True) o.2 0) (uA 26 ad sz)) 0 0 (uA 26 ad sz) := by
  refine X.start (val := fun (o : (Int32 × US)) => some (.int o.1)) (Bt := fun (o : (Int32 × US)) => UW D clW ckH ct 26 ad P (fun _ => True) o.2 0) (A := uA 26 ad sz) ho (by decide) (Nat.le_of_ble_eq_true rfl) (lv := [(0, .ref (ad (0))), (1, .int p1)]) rfl ?_
  intro p e s m args below meth c E hr hlk hnm hsz hU ls hl
  subst hsz
  obtain ⟨⟨hx, hb, hml, hown, hts⟩, hK, hJ⟩ := id E
  replace hU := hU.to (B := uA 26 ad s.heap.size) (fun i hi => Or.inl ⟨i, hi, rfl⟩)
  have hA0 : ∀ q, s.heap.size ≤ q → (uA 26 ad s.heap.size) q := fun q h => Or.inr h
  have hS : va_S (uA 26 ad s.heap.size) s.heap s.heap [] := va_S.rf
  unfold s1_refuse
  refine x_aload_n hx hb dX1_refuse_0 rfl (lv_at hl 0 rfl) ?_
  refine gX1_58 E hU dX1_refuse_1 ?_
  refine x_iload_n hx hb dX1_refuse_4 rfl (lv_at hl 1 rfl) ?_
  refine x_dup2_11 hx hb dX1_refuse_5 rfl rfl ?_
  refine ux_ald (i := 4) (n := 3) E hU.1 (by decide) rfl dX1_refuse_6 ?_
  refine x_iconst (v := 1) hx hb dX1_refuse_7 (by decide) ?_
  refine x_iadd hx hb dX1_refuse_8 ?_
  refine gx_ast (i := 4) (n := 3) E hU hS (by decide) rfl dX1_refuse_9 (fun S1 H locs hU hS _ => ?_)
  refine x_iconst (v := -1) hx hb dX1_refuse_10 (by decide) ?_
  exact x_iret hx hb hr hlk hS rfl (hU.1.to fun _ _ => trivial) dX1_refuse_11

set_option maxHeartbeats 4000000 in
theorem mH1_within (l : Launch) (D : va_G) (ct : CT) (p1 : Int32) (p2 : Int32) (p3 : Int32) (sz : Nat) (o : Int32) (ho : s1_within p1 p2 p3 = some o) : Met l yX1_within (ws_ yX1_within cX1_within 3 (some .int)) { frames := 1, cells := 0, slots := 0, locals := 40 } (mP D clW ct [.int p1, .int p2, .int p3] sz (fun _ => True)) (mC (some (.int o)) (fun _ => True) (nA sz)) 0 0 (nA sz) := by
  refine X.start (val := fun (o : Int32) => some (.int o)) (Bt := fun _ _ => True) (A := nA sz) ho (by decide) (Nat.le_of_ble_eq_true rfl) (lv := [(0, .int p1), (1, .int p2), (2, .int p3)]) rfl ?_
  intro p e s m args below meth c E hr hlk hnm hsz hU ls hl
  subst hsz
  obtain ⟨⟨hx, hb, hml, hown, hts⟩, hK, hJ⟩ := id E
  have hA0 : ∀ q, s.heap.size ≤ q → (nA s.heap.size) q := fun q h => h
  have hS : va_S (nA s.heap.size) s.heap s.heap [] := va_S.rf
  unfold s1_within
  refine x_iload_n hx hb dX1_within_0 rfl (lv_at hl 1 rfl) ?_
  refine x_iload_n hx hb dX1_within_1 rfl (lv_at hl 2 rfl) ?_
  refine x_iload_n hx hb dX1_within_2 rfl (lv_at hl 0 rfl) ?_
  refine kX1_min E ⟨by decide, by decide⟩ hl.1 (Nat.le_of_ble_eq_true rfl) dX1_within_3 ⟨Nat.le_refl _, Nat.le_refl _⟩ ?_
  refine kX1_max E ⟨by decide, by decide⟩ hl.1 (Nat.le_of_ble_eq_true rfl) dX1_within_6 ⟨Nat.le_refl _, Nat.le_refl _⟩ ?_
  exact x_iret hx hb hr hlk hS rfl trivial dX1_within_9
section HK
variable {ρ : Type} {p : Program} {l : Launch} {e : Env} {R : Room} {s : State} {m : MethodId} {args : Array Value} {below : List Frame} {meth : Method} {c : Code} {H : Heap} {locs : List Loc} {cells slots : Nat} {Qf : ρ → State → Prop}
variable {cc : ByteArray} {pc nL L M q0 : Nat} {ls : Array Slot} {rest : List Value}
variable {D : va_G} {ct : CT} {ck : Nat → UC} {N : Nat} {ad : Nat → Nat} {P : Nat → Nat → Option Nat} {A A0 : Nat → Prop} {S : US} {w : Int64} {h : AH} {H0 : Heap}
theorem kX3_1_within {p1 : Int32} {p2 : Int32} {p3 : Int32} (E : ME p m c cc nL s args RX3 D clW ct) (hS : va_S A0 H0 H locs) (hA0 : ∀ q, H0.size ≤ q → A0 q) (hR : 1 + 1 ≤ R.frames ∧ 8 + (3 + 11) + 40 ≤ R.locals) (hsize : ls.size = nL) (hW : (rest.map fun v => v.category).sum ≤ 8) (hdg : decode cc pc = .ok (.invokestatic 94, 3)) (hf : cells ≤ R.cells ∧ slots ≤ R.slots) {kp : Int32 → Option ρ} (kk : ∀ (o : Int32) (H1 : Heap) (locs1 : List Loc), H.size ≤ H1.size → (∀ q : Nat, q < H.size → H1[q]? = H[q]?) → va_S A0 H0 H1 locs1 → X p l e R s m args below meth c H1 locs1 cells slots Qf (kp o) (F0 m (pc + 3) ls (.int o :: rest))) : X p l e R s m args below meth c H locs cells slots Qf (callK (s1_within p1 p2 p3) kp) (F0 m pc ls (.int p3 :: .int p2 :: .int p1 :: rest)) := gc_pure (val' := fun (o : Int32) => some (.int o)) (len := 3) hS hA0 (fun o ho => rnSN (As := [.int p1, .int p2, .int p3]) (B := fun _ => True) E trivial (mH1_within l D ct p1 p2 p3 _ o ho) ⟨va_cnB 3 E.1.2.2.2.2 (lw_meth q576) rfl rfl rfl (E.2.2.nw q574 rfl) (E.1.2.2.2.2 _ q113) (by decide +kernel) hR, E.1.2.2.2.2 _ q575⟩ rfl hsize rfl hW hdg hf) kk
end HK

set_option maxHeartbeats 4000000 in
theorem mH3_be (l : Launch) (D : va_G) (ct : CT) (ad : Nat → Nat) (P : Nat → Nat → Option Nat) (S : US) (h : AH) (L : Nat) (M : Nat) (hL : L < 3) (hM : M < 3) (sz : Nat) (o : US) (ho : s3_be S L M = some o) : Met l yX3_be (ws_ yX3_be cX3_be 3 (some (.object "HorizonSeam$Line"))) { frames := 1, cells := 0, slots := 0, locals := 40 } (mP D clW ct [.ref (ad (lc L 0)), .ref (ad (lc M 0))] sz (GH D ct ad P (fun _ => True) S h)) (mC (some (.ref (ad (lc L 0)))) (UW D clW ckH ct 26 ad P (fun _ => True) o 0) (uA 26 ad sz)) 0 0 (uA 26 ad sz) := by
  refine X.start (val := fun (o : US) => some (.ref (ad (lc L 0)))) (Bt := fun (o : US) => UW D clW ckH ct 26 ad P (fun _ => True) o 0) (A := uA 26 ad sz) ho (by decide) (Nat.le_of_ble_eq_true rfl) (lv := [(0, .ref (ad (lc L 0))), (1, .ref (ad (lc M 0)))]) rfl ?_
  intro p e s m args below meth c E hr hlk hnm hsz hU ls hl
  subst hsz
  obtain ⟨⟨hx, hb, hml, hown, hts⟩, hK, hJ⟩ := id E
  replace hr : meth.sig.returnType = some (FieldType.object "HorizonSeam$Line") ∧ ((∃ n, (FieldType.object "HorizonSeam$Line") = .object n) ∨ ∃ t, (FieldType.object "HorizonSeam$Line") = .array t) := ⟨hr, Or.inl ⟨_, rfl⟩⟩
  replace hU := hU.to (B := uA 26 ad s.heap.size) (fun i hi => Or.inl ⟨i, hi, rfl⟩)
  have hA0 : ∀ q, s.heap.size ≤ q → (uA 26 ad s.heap.size) q := fun q h => Or.inr h
  have hS : va_S (uA 26 ad s.heap.size) s.heap s.heap [] := va_S.rf
  unfold s3_be
  refine x_iconst (v := 0) hx hb dX3_be_0 (by decide) ?_
  refine x_istore_n (lv' := [(2, .int (0 : Int32)), (0, .ref (ad (lc L 0))), (1, .ref (ad (lc M 0)))]) hx hb dX3_be_1 rfl hl (by decide) rfl (fun ls hl => ?_)
  refine X.loop (I := fun (x : (US × Int32)) g H locs => GH D ct ad P (uA 26 ad s.heap.size) x.1 h H ∧ va_S (uA 26 ad s.heap.size) s.heap H locs ∧ ∃ ls : Array Slot, g = F0 m 2 ls [] ∧ lv_has ls 3 [(0, .ref (ad (lc L 0))), (1, .ref (ad (lc M 0))), (2, .int x.2)]) (fun rc3 ih3 => ?_) FUEL _ _ _ _ ⟨hU, hS, _, rfl, lv_sub hl [1, 2, 0] rfl⟩
  rintro ⟨S1, v2⟩ _ H locs ⟨hU, hS, ls, rfl, hl⟩
  have hU : GH D ct ad P (uA 26 ad s.heap.size) S1 h H := hU
  have hl : lv_has ls 3 [(0, .ref (ad (lc L 0))), (1, .ref (ad (lc M 0))), (2, .int v2)] := hl
  refine X.eqs (sp2 := s3_be_L2 L M rc3 S1 v2) rfl ?_
  unfold s3_be_L2
  refine x_iload_n hx hb dX3_be_2 rfl (lv_at hl 2 rfl) ?_
  refine x_bipush (v := 12) hx hb dX3_be_3 (by decide) ?_
  refine x_icmp_ge (tgt := 50) hx hb dX3_be_5 (by decide) (fun hc => ?_) (fun hc => ?_)
  · refine x_iconst (v := 0) hx hb dX3_be_50 (by decide) ?_
    refine x_istore_n (lv' := [(2, .int (0 : Int32)), (0, .ref (ad (lc L 0))), (1, .ref (ad (lc M 0)))]) hx hb dX3_be_51 rfl hl (by decide) rfl (fun ls hl => ?_)
    refine X.loop (I := fun (x : (US × Int32)) g H locs => GH D ct ad P (uA 26 ad s.heap.size) x.1 h H ∧ va_S (uA 26 ad s.heap.size) s.heap H locs ∧ ∃ ls : Array Slot, g = F0 m 52 ls [] ∧ lv_has ls 3 [(0, .ref (ad (lc L 0))), (1, .ref (ad (lc M 0))), (2, .int x.2)]) (fun rc6 ih6 => ?_) FUEL _ _ _ _ ⟨hU, hS, _, rfl, lv_sub hl [1, 2, 0] rfl⟩
    rintro ⟨S4, v5⟩ _ H locs ⟨hU, hS, ls, rfl, hl⟩
    have hU : GH D ct ad P (uA 26 ad s.heap.size) S4 h H := hU
    have hl : lv_has ls 3 [(0, .ref (ad (lc L 0))), (1, .ref (ad (lc M 0))), (2, .int v5)] := hl
    refine X.eqs (sp2 := s3_be_L52 L M rc6 S4 v5) rfl ?_
    unfold s3_be_L52
    refine x_iload_n hx hb dX3_be_52 rfl (lv_at hl 2 rfl) ?_
    refine x_bipush (v := 6) hx hb dX3_be_53 (by decide) ?_
    refine x_icmp_ge (tgt := 88) hx hb dX3_be_55 (by decide) (fun hc => ?_) (fun hc => ?_)
    · refine x_aload_n hx hb dX3_be_88 rfl (lv_at hl 0 rfl) ?_
      refine x_aload_n hx hb dX3_be_89 rfl (lv_at hl 1 rfl) ?_
      refine gX3_41 E hU (hM) dX3_be_90 ?_
      refine pX3_41 E hU hS (hL) dX3_be_93 (fun S7 H locs hU hS _ => ?_)
      refine x_aload_n hx hb dX3_be_96 rfl (lv_at hl 0 rfl) ?_
      exact x_aret hx hb hr hlk hS rfl (hU.1.to fun _ _ => trivial) dX3_be_97
    · refine x_aload_n hx hb dX3_be_58 rfl (lv_at hl 0 rfl) ?_
      refine gX3_25 E hU (hL) dX3_be_59 ?_
      refine x_iload_n hx hb dX3_be_62 rfl (lv_at hl 2 rfl) ?_
      refine x_aload_n hx hb dX3_be_63 rfl (lv_at hl 1 rfl) ?_
      refine gX3_25 E hU (hM) dX3_be_64 ?_
      refine x_iload_n hx hb dX3_be_67 rfl (lv_at hl 2 rfl) ?_
      refine ux_ald (i := lc M 4) (n := 6) E hU.1 (lc_lt (hM) (by decide)) (ck_lc (by decide)) dX3_be_68 ?_
      refine gx_ast (i := lc L 4) (n := 6) E hU hS (lc_lt (hL) (by decide)) (ck_lc (by decide)) dX3_be_69 (fun S8 H locs hU hS _ => ?_)
      refine x_aload_n hx hb dX3_be_70 rfl (lv_at hl 0 rfl) ?_
      refine gX3_28 E hU (hL) dX3_be_71 ?_
      refine x_iload_n hx hb dX3_be_74 rfl (lv_at hl 2 rfl) ?_
      refine x_aload_n hx hb dX3_be_75 rfl (lv_at hl 1 rfl) ?_
      refine gX3_28 E hU (hM) dX3_be_76 ?_
      refine x_iload_n hx hb dX3_be_79 rfl (lv_at hl 2 rfl) ?_
      refine ux_ald (i := lc M 5) (n := 6) E hU.1 (lc_lt (hM) (by decide)) (ck_lc (by decide)) dX3_be_80 ?_
      refine gx_ast (i := lc L 5) (n := 6) E hU hS (lc_lt (hL) (by decide)) (ck_lc (by decide)) dX3_be_81 (fun S9 H locs hU hS _ => ?_)
      refine x_iinc (v := (v5 + (1 : Int32))) (lv' := [(2, .int (v5 + (1 : Int32))), (0, .ref (ad (lc L 0))), (1, .ref (ad (lc M 0)))]) (k := 2) hx hb dX3_be_82 hl rfl rfl (by decide) rfl (fun ls hl => ?_)
      refine x_goto (tgt := 52) hx hb dX3_be_85 (by decide) ?_
      exact ih6 (S9, (v5 + (1 : Int32))) _ _ _ ⟨hU, hS, _, rfl, lv_sub hl [1, 2, 0] rfl⟩
  · refine x_aload_n hx hb dX3_be_8 rfl (lv_at hl 0 rfl) ?_
    refine gX3_15 E hU (hL) dX3_be_9 ?_
    refine x_iload_n hx hb dX3_be_12 rfl (lv_at hl 2 rfl) ?_
    refine x_aload_n hx hb dX3_be_13 rfl (lv_at hl 1 rfl) ?_
    refine gX3_15 E hU (hM) dX3_be_14 ?_
    refine x_iload_n hx hb dX3_be_17 rfl (lv_at hl 2 rfl) ?_
    refine ux_ald (i := lc M 1) (n := 12) E hU.1 (lc_lt (hM) (by decide)) (ck_lc (by decide)) dX3_be_18 ?_
    refine gx_ast (i := lc L 1) (n := 12) E hU hS (lc_lt (hL) (by decide)) (ck_lc (by decide)) dX3_be_19 (fun S10 H locs hU hS _ => ?_)
    refine x_aload_n hx hb dX3_be_20 rfl (lv_at hl 0 rfl) ?_
    refine gX3_19 E hU (hL) dX3_be_21 ?_
    refine x_iload_n hx hb dX3_be_24 rfl (lv_at hl 2 rfl) ?_
    refine x_aload_n hx hb dX3_be_25 rfl (lv_at hl 1 rfl) ?_
    refine gX3_19 E hU (hM) dX3_be_26 ?_
    refine x_iload_n hx hb dX3_be_29 rfl (lv_at hl 2 rfl) ?_
    refine ux_ald (i := lc M 2) (n := 12) E hU.1 (lc_lt (hM) (by decide)) (ck_lc (by decide)) dX3_be_30 ?_
    refine gx_ast (i := lc L 2) (n := 12) E hU hS (lc_lt (hL) (by decide)) (ck_lc (by decide)) dX3_be_31 (fun S11 H locs hU hS _ => ?_)
    refine x_aload_n hx hb dX3_be_32 rfl (lv_at hl 0 rfl) ?_
    refine gX3_22 E hU (hL) dX3_be_33 ?_
    refine x_iload_n hx hb dX3_be_36 rfl (lv_at hl 2 rfl) ?_
    refine x_aload_n hx hb dX3_be_37 rfl (lv_at hl 1 rfl) ?_
    refine gX3_22 E hU (hM) dX3_be_38 ?_
    refine x_iload_n hx hb dX3_be_41 rfl (lv_at hl 2 rfl) ?_
    refine ux_ald (i := lc M 3) (n := 12) E hU.1 (lc_lt (hM) (by decide)) (ck_lc (by decide)) dX3_be_42 ?_
    refine gx_ast (i := lc L 3) (n := 12) E hU hS (lc_lt (hL) (by decide)) (ck_lc (by decide)) dX3_be_43 (fun S12 H locs hU hS _ => ?_)
    refine x_iinc (v := (v2 + (1 : Int32))) (lv' := [(2, .int (v2 + (1 : Int32))), (0, .ref (ad (lc L 0))), (1, .ref (ad (lc M 0)))]) (k := 2) hx hb dX3_be_44 hl rfl rfl (by decide) rfl (fun ls hl => ?_)
    refine x_goto (tgt := 2) hx hb dX3_be_47 (by decide) ?_
    exact ih3 (S12, (v2 + (1 : Int32))) _ _ _ ⟨hU, hS, _, rfl, lv_sub hl [1, 2, 0] rfl⟩
section HK
variable {ρ : Type} {p : Program} {l : Launch} {e : Env} {R : Room} {s : State} {m : MethodId} {args : Array Value} {below : List Frame} {meth : Method} {c : Code} {H : Heap} {locs : List Loc} {cells slots : Nat} {Qf : ρ → State → Prop}
variable {cc : ByteArray} {pc nL L M q0 : Nat} {ls : Array Slot} {rest : List Value}
variable {D : va_G} {ct : CT} {ck : Nat → UC} {N : Nat} {ad : Nat → Nat} {P : Nat → Nat → Option Nat} {A A0 : Nat → Prop} {S : US} {w : Int64} {h : AH} {H0 : Heap}
theorem kX1_3_be (E : ME p m c cc nL s args RX1 D clW ct) (hG : GH D ct ad P A S h H) (hS : va_S A H0 H locs) (hA0 : ∀ q, H0.size ≤ q → A q) (hL : L < 3) (hM : M < 3) (hR : 1 + 1 ≤ R.frames ∧ 8 + (3 + 11) + 40 ≤ R.locals) (hsize : ls.size = nL) (hW : (rest.map fun v => v.category).sum ≤ 8) (hdg : decode cc pc = .ok (.invokevirtual 224, 3)) (hf : cells ≤ R.cells ∧ slots ≤ R.slots) {kp : US → Option ρ} (kk : ∀ (o : US) (H1 : Heap) (locs1 : List Loc), GH D ct ad P A o h H1 → va_S A H0 H1 locs1 → X p l e R s m args below meth c H1 locs1 cells slots Qf (kp o) (F0 m (pc + 3) ls (.ref (ad (lc L 0)) :: rest))) : X p l e R s m args below meth c H locs cells slots Qf (callK (s3_be S L M) kp) (F0 m pc ls (.ref (ad (lc M 0)) :: .ref (ad (lc L 0)) :: rest)) := gc_mod (val' := fun (o : US) => some (.ref (ad (lc L 0)))) (len := 3) (So := fun (o : US) => o) hG hS hA0 (fun o ho => rnV (As := [.ref (ad (lc M 0))]) E (hG.to fun _ _ => trivial) (recvU (i := lc L 0) E.2.1 hG.1 (lc_lt hL (by decide)) (ck_lc (by decide)) rfl) (mH3_be l D ct ad P S h L M hL hM _ o ho) (cwV 1 E.1.2.2.2.2 (lw_V q630 q346 q347 q118 q348) rfl rfl rfl (by decide +kernel) hR) rfl hsize rfl hW hdg hf) kk
end HK

set_option maxHeartbeats 4000000 in
theorem mH3_isOpen (l : Launch) (D : va_G) (ct : CT) (ad : Nat → Nat) (P : Nat → Nat → Option Nat) (S : US) (h : AH) (L : Nat) (p1 : Int32) (hL : L < 3) (sz : Nat) (o : Bool) (ho : s3_isOpen S L p1 = some o) : Met l yX3_isOpen (ws_ yX3_isOpen cX3_isOpen 2 (some .boolean)) { frames := 1, cells := 0, slots := 0, locals := 40 } (mP D clW ct [.ref (ad (lc L 0)), .int p1] sz (GH D ct ad P (fun _ => True) S h)) (mC (some (.int (bI o))) (fun _ => True) (nA sz)) 0 0 (nA sz) := by
  refine X.start (val := fun (o : Bool) => some (.int (bI o))) (Bt := fun _ _ => True) (A := nA sz) ho (by decide) (Nat.le_of_ble_eq_true rfl) (lv := [(0, .ref (ad (lc L 0))), (1, .int p1)]) rfl ?_
  intro p e s m args below meth c E hr hlk hnm hsz hU ls hl
  subst hsz
  obtain ⟨⟨hx, hb, hml, hown, hts⟩, hK, hJ⟩ := id E
  have hA0 : ∀ q, s.heap.size ≤ q → (nA s.heap.size) q := fun q h => h
  have hS : va_S (nA s.heap.size) s.heap s.heap [] := va_S.rf
  unfold s3_isOpen
  refine x_aload_n hx hb dX3_isOpen_0 rfl (lv_at hl 0 rfl) ?_
  refine gX3_19 E hU (hL) dX3_isOpen_1 ?_
  refine x_iload_n hx hb dX3_isOpen_4 rfl (lv_at hl 1 rfl) ?_
  refine ux_ald (i := lc L 2) (n := 12) E hU.1 (lc_lt (hL) (by decide)) (ck_lc (by decide)) dX3_isOpen_5 ?_
  refine x_if_ne (tgt := 13) hx hb dX3_isOpen_6 (by decide) (fun hc => ?_) (fun hc => ?_)
  · refine x_iconst (v := 0) hx hb dX3_isOpen_13 (by decide) ?_
    exact x_zret hx hb hr hlk hS rfl rfl trivial dX3_isOpen_14
  · refine x_iconst (v := 1) hx hb dX3_isOpen_9 (by decide) ?_
    refine x_goto (tgt := 14) hx hb dX3_isOpen_10 (by decide) ?_
    exact x_zret hx hb hr hlk hS rfl rfl trivial dX3_isOpen_14
section HK
variable {ρ : Type} {p : Program} {l : Launch} {e : Env} {R : Room} {s : State} {m : MethodId} {args : Array Value} {below : List Frame} {meth : Method} {c : Code} {H : Heap} {locs : List Loc} {cells slots : Nat} {Qf : ρ → State → Prop}
variable {cc : ByteArray} {pc nL L M q0 : Nat} {ls : Array Slot} {rest : List Value}
variable {D : va_G} {ct : CT} {ck : Nat → UC} {N : Nat} {ad : Nat → Nat} {P : Nat → Nat → Option Nat} {A A0 : Nat → Prop} {S : US} {w : Int64} {h : AH} {H0 : Heap}
theorem kX1_3_isOpen {p1 : Int32} (E : ME p m c cc nL s args RX1 D clW ct) (hG : GH D ct ad P A S h H) (hS : va_S A0 H0 H locs) (hA0 : ∀ q, H0.size ≤ q → A0 q) (hL : L < 3) (hR : 1 + 1 ≤ R.frames ∧ 8 + (2 + 11) + 40 ≤ R.locals) (hsize : ls.size = nL) (hW : (rest.map fun v => v.category).sum ≤ 8) (hdg : decode cc pc = .ok (.invokevirtual 213, 3)) (hf : cells ≤ R.cells ∧ slots ≤ R.slots) {kp : Bool → Option ρ} (kk : ∀ (o : Bool) (H1 : Heap) (locs1 : List Loc), GH D ct ad P A S h H1 → va_S A0 H0 H1 locs1 → X p l e R s m args below meth c H1 locs1 cells slots Qf (kp o) (F0 m (pc + 3) ls (.int (bI o) :: rest))) : X p l e R s m args below meth c H locs cells slots Qf (callK (s3_isOpen S L p1) kp) (F0 m pc ls (.int p1 :: .ref (ad (lc L 0)) :: rest)) := gc_ro (val' := fun (o : Bool) => some (.int (bI o))) (len := 3) hG hS hA0 (fun o ho => rnV (As := [.int p1]) E (hG.to fun _ _ => trivial) (recvU (i := lc L 0) E.2.1 hG.1 (lc_lt hL (by decide)) (ck_lc (by decide)) rfl) (mH3_isOpen l D ct ad P S h L p1 hL _ o ho) (cwV 1 E.1.2.2.2.2 (lw_V q631 q461 q462 q118 q463) rfl rfl rfl (by decide +kernel) hR) rfl hsize rfl hW hdg hf) kk
theorem kX3_3_isOpen {p1 : Int32} (E : ME p m c cc nL s args RX3 D clW ct) (hG : GH D ct ad P A S h H) (hS : va_S A0 H0 H locs) (hA0 : ∀ q, H0.size ≤ q → A0 q) (hL : L < 3) (hR : 1 + 1 ≤ R.frames ∧ 8 + (2 + 11) + 40 ≤ R.locals) (hsize : ls.size = nL) (hW : (rest.map fun v => v.category).sum ≤ 8) (hdg : decode cc pc = .ok (.invokevirtual 82, 3)) (hf : cells ≤ R.cells ∧ slots ≤ R.slots) {kp : Bool → Option ρ} (kk : ∀ (o : Bool) (H1 : Heap) (locs1 : List Loc), GH D ct ad P A S h H1 → va_S A0 H0 H1 locs1 → X p l e R s m args below meth c H1 locs1 cells slots Qf (kp o) (F0 m (pc + 3) ls (.int (bI o) :: rest))) : X p l e R s m args below meth c H locs cells slots Qf (callK (s3_isOpen S L p1) kp) (F0 m pc ls (.int p1 :: .ref (ad (lc L 0)) :: rest)) := gc_ro (val' := fun (o : Bool) => some (.int (bI o))) (len := 3) hG hS hA0 (fun o ho => rnV (As := [.int p1]) E (hG.to fun _ _ => trivial) (recvU (i := lc L 0) E.2.1 hG.1 (lc_lt hL (by decide)) (ck_lc (by decide)) rfl) (mH3_isOpen l D ct ad P S h L p1 hL _ o ho) (cwV 1 E.1.2.2.2.2 (lw_V q460 q461 q462 q118 q463) rfl rfl rfl (by decide +kernel) hR) rfl hsize rfl hW hdg hf) kk
end HK

set_option maxHeartbeats 4000000 in
theorem mH2_after (l : Launch) (D : va_G) (ct : CT) (ad : Nat → Nat) (P : Nat → Nat → Option Nat) (S : US) (h : AH) (p1 : Int32) (sz : Nat) (o : Int32) (ho : s2_after S p1 = some o) : Met l yX2_after (ws_ yX2_after cX2_after 2 (some .int)) { frames := 1, cells := 0, slots := 0, locals := 40 } (mP D clW ct [.ref (ad (1)), .int p1] sz (GH D ct ad P (fun _ => True) S h)) (mC (some (.int o)) (fun _ => True) (nA sz)) 0 0 (nA sz) := by
  refine X.start (val := fun (o : Int32) => some (.int o)) (Bt := fun _ _ => True) (A := nA sz) ho (by decide) (Nat.le_of_ble_eq_true rfl) (lv := [(0, .ref (ad (1))), (1, .int p1)]) rfl ?_
  intro p e s m args below meth c E hr hlk hnm hsz hU ls hl
  subst hsz
  obtain ⟨⟨hx, hb, hml, hown, hts⟩, hK, hJ⟩ := id E
  have hA0 : ∀ q, s.heap.size ≤ q → (nA s.heap.size) q := fun q h => h
  have hS : va_S (nA s.heap.size) s.heap s.heap [] := va_S.rf
  unfold s2_after
  refine x_iload_n hx hb dX2_after_0 rfl (lv_at hl 1 rfl) ?_
  refine x_iconst (v := 1) hx hb dX2_after_1 (by decide) ?_
  refine x_iadd hx hb dX2_after_2 ?_
  refine x_aload_n hx hb dX2_after_3 rfl (lv_at hl 0 rfl) ?_
  refine gX2_21 E hU dX2_after_4 ?_
  refine x_iremG hx hb dX2_after_7 ?_
  exact x_iret hx hb hr hlk hS rfl trivial dX2_after_8
section HK
variable {ρ : Type} {p : Program} {l : Launch} {e : Env} {R : Room} {s : State} {m : MethodId} {args : Array Value} {below : List Frame} {meth : Method} {c : Code} {H : Heap} {locs : List Loc} {cells slots : Nat} {Qf : ρ → State → Prop}
variable {cc : ByteArray} {pc nL L M q0 : Nat} {ls : Array Slot} {rest : List Value}
variable {D : va_G} {ct : CT} {ck : Nat → UC} {N : Nat} {ad : Nat → Nat} {P : Nat → Nat → Option Nat} {A A0 : Nat → Prop} {S : US} {w : Int64} {h : AH} {H0 : Heap}
theorem kX3_2_after {p1 : Int32} (E : ME p m c cc nL s args RX3 D clW ct) (hG : GH D ct ad P A S h H) (hS : va_S A0 H0 H locs) (hA0 : ∀ q, H0.size ≤ q → A0 q) (hR : 1 + 1 ≤ R.frames ∧ 8 + (2 + 11) + 40 ≤ R.locals) (hsize : ls.size = nL) (hW : (rest.map fun v => v.category).sum ≤ 8) (hdg : decode cc pc = .ok (.invokevirtual 59, 3)) (hf : cells ≤ R.cells ∧ slots ≤ R.slots) {kp : Int32 → Option ρ} (kk : ∀ (o : Int32) (H1 : Heap) (locs1 : List Loc), GH D ct ad P A S h H1 → va_S A0 H0 H1 locs1 → X p l e R s m args below meth c H1 locs1 cells slots Qf (kp o) (F0 m (pc + 3) ls (.int o :: rest))) : X p l e R s m args below meth c H locs cells slots Qf (callK (s2_after S p1) kp) (F0 m pc ls (.int p1 :: .ref (ad (1)) :: rest)) := gc_ro (val' := fun (o : Int32) => some (.int o)) (len := 3) hG hS hA0 (fun o ho => rnV (As := [.int p1]) E (hG.to fun _ _ => trivial) (recvU (i := 1) E.2.1 hG.1 (by decide) rfl rfl) (mH2_after l D ct ad P S h p1 _ o ho) (cwV 1 E.1.2.2.2.2 (lw_V q472 q473 q474 q114 q475) rfl rfl rfl (by decide +kernel) hR) rfl hsize rfl hW hdg hf) kk
end HK

set_option maxHeartbeats 4000000 in
theorem mH2_before (l : Launch) (D : va_G) (ct : CT) (ad : Nat → Nat) (P : Nat → Nat → Option Nat) (S : US) (h : AH) (p1 : Int32) (sz : Nat) (o : Int32) (ho : s2_before S p1 = some o) : Met l yX2_before (ws_ yX2_before cX2_before 2 (some .int)) { frames := 1, cells := 0, slots := 0, locals := 40 } (mP D clW ct [.ref (ad (1)), .int p1] sz (GH D ct ad P (fun _ => True) S h)) (mC (some (.int o)) (fun _ => True) (nA sz)) 0 0 (nA sz) := by
  refine X.start (val := fun (o : Int32) => some (.int o)) (Bt := fun _ _ => True) (A := nA sz) ho (by decide) (Nat.le_of_ble_eq_true rfl) (lv := [(0, .ref (ad (1))), (1, .int p1)]) rfl ?_
  intro p e s m args below meth c E hr hlk hnm hsz hU ls hl
  subst hsz
  obtain ⟨⟨hx, hb, hml, hown, hts⟩, hK, hJ⟩ := id E
  have hA0 : ∀ q, s.heap.size ≤ q → (nA s.heap.size) q := fun q h => h
  have hS : va_S (nA s.heap.size) s.heap s.heap [] := va_S.rf
  unfold s2_before
  refine x_iload_n hx hb dX2_before_0 rfl (lv_at hl 1 rfl) ?_
  refine x_aload_n hx hb dX2_before_1 rfl (lv_at hl 0 rfl) ?_
  refine gX2_21 E hU dX2_before_2 ?_
  refine x_iadd hx hb dX2_before_5 ?_
  refine x_iconst (v := 1) hx hb dX2_before_6 (by decide) ?_
  refine x_isub hx hb dX2_before_7 ?_
  refine x_aload_n hx hb dX2_before_8 rfl (lv_at hl 0 rfl) ?_
  refine gX2_21 E hU dX2_before_9 ?_
  refine x_iremG hx hb dX2_before_12 ?_
  exact x_iret hx hb hr hlk hS rfl trivial dX2_before_13
section HK
variable {ρ : Type} {p : Program} {l : Launch} {e : Env} {R : Room} {s : State} {m : MethodId} {args : Array Value} {below : List Frame} {meth : Method} {c : Code} {H : Heap} {locs : List Loc} {cells slots : Nat} {Qf : ρ → State → Prop}
variable {cc : ByteArray} {pc nL L M q0 : Nat} {ls : Array Slot} {rest : List Value}
variable {D : va_G} {ct : CT} {ck : Nat → UC} {N : Nat} {ad : Nat → Nat} {P : Nat → Nat → Option Nat} {A A0 : Nat → Prop} {S : US} {w : Int64} {h : AH} {H0 : Heap}
theorem kX1_2_before {p1 : Int32} (E : ME p m c cc nL s args RX1 D clW ct) (hG : GH D ct ad P A S h H) (hS : va_S A0 H0 H locs) (hA0 : ∀ q, H0.size ≤ q → A0 q) (hR : 1 + 1 ≤ R.frames ∧ 8 + (2 + 11) + 40 ≤ R.locals) (hsize : ls.size = nL) (hW : (rest.map fun v => v.category).sum ≤ 8) (hdg : decode cc pc = .ok (.invokevirtual 280, 3)) (hf : cells ≤ R.cells ∧ slots ≤ R.slots) {kp : Int32 → Option ρ} (kk : ∀ (o : Int32) (H1 : Heap) (locs1 : List Loc), GH D ct ad P A S h H1 → va_S A0 H0 H1 locs1 → X p l e R s m args below meth c H1 locs1 cells slots Qf (kp o) (F0 m (pc + 3) ls (.int o :: rest))) : X p l e R s m args below meth c H locs cells slots Qf (callK (s2_before S p1) kp) (F0 m pc ls (.int p1 :: .ref (ad (1)) :: rest)) := gc_ro (val' := fun (o : Int32) => some (.int o)) (len := 3) hG hS hA0 (fun o ho => rnV (As := [.int p1]) E (hG.to fun _ _ => trivial) (recvU (i := 1) E.2.1 hG.1 (by decide) rfl rfl) (mH2_before l D ct ad P S h p1 _ o ho) (cwV 1 E.1.2.2.2.2 (lw_V q653 q469 q470 q114 q471) rfl rfl rfl (by decide +kernel) hR) rfl hsize rfl hW hdg hf) kk
theorem kX3_2_before {p1 : Int32} (E : ME p m c cc nL s args RX3 D clW ct) (hG : GH D ct ad P A S h H) (hS : va_S A0 H0 H locs) (hA0 : ∀ q, H0.size ≤ q → A0 q) (hR : 1 + 1 ≤ R.frames ∧ 8 + (2 + 11) + 40 ≤ R.locals) (hsize : ls.size = nL) (hW : (rest.map fun v => v.category).sum ≤ 8) (hdg : decode cc pc = .ok (.invokevirtual 55, 3)) (hf : cells ≤ R.cells ∧ slots ≤ R.slots) {kp : Int32 → Option ρ} (kk : ∀ (o : Int32) (H1 : Heap) (locs1 : List Loc), GH D ct ad P A S h H1 → va_S A0 H0 H1 locs1 → X p l e R s m args below meth c H1 locs1 cells slots Qf (kp o) (F0 m (pc + 3) ls (.int o :: rest))) : X p l e R s m args below meth c H locs cells slots Qf (callK (s2_before S p1) kp) (F0 m pc ls (.int p1 :: .ref (ad (1)) :: rest)) := gc_ro (val' := fun (o : Int32) => some (.int o)) (len := 3) hG hS hA0 (fun o ho => rnV (As := [.int p1]) E (hG.to fun _ _ => trivial) (recvU (i := 1) E.2.1 hG.1 (by decide) rfl rfl) (mH2_before l D ct ad P S h p1 _ o ho) (cwV 1 E.1.2.2.2.2 (lw_V q468 q469 q470 q114 q471) rfl rfl rfl (by decide +kernel) hR) rfl hsize rfl hW hdg hf) kk
end HK

set_option maxHeartbeats 4000000 in
theorem mH3_beside (l : Launch) (D : va_G) (ct : CT) (ad : Nat → Nat) (P : Nat → Nat → Option Nat) (S : US) (h : AH) (L : Nat) (p1 : Int32) (hL : L < 3) (sz : Nat) (o : Int32) (ho : s3_beside S L p1 = some o) : Met l yX3_beside (ws_ yX3_beside cX3_beside 2 (some .int)) { frames := 2, cells := 0, slots := 0, locals := 61 } (mP D clW ct [.ref (ad (lc L 0)), .int p1] sz (GH D ct ad P (fun _ => True) S h)) (mC (some (.int o)) (fun _ => True) (nA sz)) 0 0 (nA sz) := by
  refine X.start (val := fun (o : Int32) => some (.int o)) (Bt := fun _ _ => True) (A := nA sz) ho (by decide) (Nat.le_of_ble_eq_true rfl) (lv := [(0, .ref (ad (lc L 0))), (1, .int p1)]) rfl ?_
  intro p e s m args below meth c E hr hlk hnm hsz hU ls hl
  subst hsz
  obtain ⟨⟨hx, hb, hml, hown, hts⟩, hK, hJ⟩ := id E
  have hA0 : ∀ q, s.heap.size ≤ q → (nA s.heap.size) q := fun q h => h
  have hS : va_S (nA s.heap.size) s.heap s.heap [] := va_S.rf
  unfold s3_beside
  refine x_aload_n hx hb dX3_beside_0 rfl (lv_at hl 0 rfl) ?_
  refine gX3_15 E hU (hL) dX3_beside_1 ?_
  refine x_aload_n hx hb dX3_beside_4 rfl (lv_at hl 0 rfl) ?_
  refine gX3_3 E hU (hL) dX3_beside_5 ?_
  refine gX3_45 E hU dX3_beside_8 ?_
  refine x_iload_n hx hb dX3_beside_11 rfl (lv_at hl 1 rfl) ?_
  refine kX3_2_before E hU hS hA0 ⟨by decide, by decide⟩ hl.1 (Nat.le_of_ble_eq_true rfl) dX3_beside_12 ⟨Nat.le_refl _, Nat.le_refl _⟩ (fun o1 H locs hU hS => ?_)
  refine ux_ald (i := lc L 1) (n := 12) E hU.1 (lc_lt (hL) (by decide)) (ck_lc (by decide)) dX3_beside_15 ?_
  refine x_aload_n hx hb dX3_beside_16 rfl (lv_at hl 0 rfl) ?_
  refine gX3_15 E hU (hL) dX3_beside_17 ?_
  refine x_aload_n hx hb dX3_beside_20 rfl (lv_at hl 0 rfl) ?_
  refine gX3_3 E hU (hL) dX3_beside_21 ?_
  refine gX3_45 E hU dX3_beside_24 ?_
  refine x_iload_n hx hb dX3_beside_27 rfl (lv_at hl 1 rfl) ?_
  refine kX3_2_after E hU hS hA0 ⟨by decide, by decide⟩ hl.1 (Nat.le_of_ble_eq_true rfl) dX3_beside_28 ⟨Nat.le_refl _, Nat.le_refl _⟩ (fun o2 H locs hU hS => ?_)
  refine ux_ald (i := lc L 1) (n := 12) E hU.1 (lc_lt (hL) (by decide)) (ck_lc (by decide)) dX3_beside_31 ?_
  refine x_iadd hx hb dX3_beside_32 ?_
  exact x_iret hx hb hr hlk hS rfl trivial dX3_beside_33
section HK
variable {ρ : Type} {p : Program} {l : Launch} {e : Env} {R : Room} {s : State} {m : MethodId} {args : Array Value} {below : List Frame} {meth : Method} {c : Code} {H : Heap} {locs : List Loc} {cells slots : Nat} {Qf : ρ → State → Prop}
variable {cc : ByteArray} {pc nL L M q0 : Nat} {ls : Array Slot} {rest : List Value}
variable {D : va_G} {ct : CT} {ck : Nat → UC} {N : Nat} {ad : Nat → Nat} {P : Nat → Nat → Option Nat} {A A0 : Nat → Prop} {S : US} {w : Int64} {h : AH} {H0 : Heap}
theorem kX3_3_beside {p1 : Int32} (E : ME p m c cc nL s args RX3 D clW ct) (hG : GH D ct ad P A S h H) (hS : va_S A0 H0 H locs) (hA0 : ∀ q, H0.size ≤ q → A0 q) (hL : L < 3) (hR : 2 + 1 ≤ R.frames ∧ 8 + (2 + 11) + 61 ≤ R.locals) (hsize : ls.size = nL) (hW : (rest.map fun v => v.category).sum ≤ 8) (hdg : decode cc pc = .ok (.invokevirtual 65, 3)) (hf : cells ≤ R.cells ∧ slots ≤ R.slots) {kp : Int32 → Option ρ} (kk : ∀ (o : Int32) (H1 : Heap) (locs1 : List Loc), GH D ct ad P A S h H1 → va_S A0 H0 H1 locs1 → X p l e R s m args below meth c H1 locs1 cells slots Qf (kp o) (F0 m (pc + 3) ls (.int o :: rest))) : X p l e R s m args below meth c H locs cells slots Qf (callK (s3_beside S L p1) kp) (F0 m pc ls (.int p1 :: .ref (ad (lc L 0)) :: rest)) := gc_ro (val' := fun (o : Int32) => some (.int o)) (len := 3) hG hS hA0 (fun o ho => rnV (As := [.int p1]) E (hG.to fun _ _ => trivial) (recvU (i := lc L 0) E.2.1 hG.1 (lc_lt hL (by decide)) (ck_lc (by decide)) rfl) (mH3_beside l D ct ad P S h L p1 hL _ o ho) (cwV 1 E.1.2.2.2.2 (lw_V q464 q465 q466 q118 q467) rfl rfl rfl (by decide +kernel) hR) rfl hsize rfl hW hdg hf) kk
end HK

set_option maxHeartbeats 4000000 in
theorem mH2_women (l : Launch) (D : va_G) (ct : CT) (ad : Nat → Nat) (P : Nat → Nat → Option Nat) (S : US) (h : AH) (sz : Nat) (o : Int32) (ho : s2_women S P h = some o) : Met l yX2_women (ws_ yX2_women cX2_women 1 (some .int)) { frames := 2, cells := 0, slots := 0, locals := 60 } (mP D clW ct [.ref (ad (1))] sz (GH D ct ad P (fun _ => True) S h)) (mC (some (.int o)) (fun _ => True) (nA sz)) 0 0 (nA sz) := by
  refine X.start (val := fun (o : Int32) => some (.int o)) (Bt := fun _ _ => True) (A := nA sz) ho (by decide) (Nat.le_of_ble_eq_true rfl) (lv := [(0, .ref (ad (1)))]) rfl ?_
  intro p e s m args below meth c E hr hlk hnm hsz hU ls hl
  subst hsz
  obtain ⟨⟨hx, hb, hml, hown, hts⟩, hK, hJ⟩ := id E
  have hA0 : ∀ q, s.heap.size ≤ q → (nA s.heap.size) q := fun q h => h
  have hS : va_S (nA s.heap.size) s.heap s.heap [] := va_S.rf
  unfold s2_women
  refine x_aload_n hx hb dX2_women_0 rfl (lv_at hl 0 rfl) ?_
  refine gX2_12 E hU dX2_women_1 (fun r1 => ?_)
  refine X.onR (fun b2 hb_ => ?_)
  subst hb_
  refine kX2_L_size E hU hS hA0 ⟨by decide, by decide⟩ hl.1 (Nat.le_of_ble_eq_true rfl) dX2_women_4 ⟨Nat.le_refl _, Nat.le_refl _⟩ (fun o3 H locs hU hS => ?_)
  exact x_iret hx hb hr hlk hS rfl trivial dX2_women_9
section HK
variable {ρ : Type} {p : Program} {l : Launch} {e : Env} {R : Room} {s : State} {m : MethodId} {args : Array Value} {below : List Frame} {meth : Method} {c : Code} {H : Heap} {locs : List Loc} {cells slots : Nat} {Qf : ρ → State → Prop}
variable {cc : ByteArray} {pc nL L M q0 : Nat} {ls : Array Slot} {rest : List Value}
variable {D : va_G} {ct : CT} {ck : Nat → UC} {N : Nat} {ad : Nat → Nat} {P : Nat → Nat → Option Nat} {A A0 : Nat → Prop} {S : US} {w : Int64} {h : AH} {H0 : Heap}
theorem kX1_2_women (E : ME p m c cc nL s args RX1 D clW ct) (hG : GH D ct ad P A S h H) (hS : va_S A0 H0 H locs) (hA0 : ∀ q, H0.size ≤ q → A0 q) (hR : 2 + 1 ≤ R.frames ∧ 8 + (1 + 11) + 60 ≤ R.locals) (hsize : ls.size = nL) (hW : (rest.map fun v => v.category).sum ≤ 8) (hdg : decode cc pc = .ok (.invokevirtual 101, 3)) (hf : cells ≤ R.cells ∧ slots ≤ R.slots) {kp : Int32 → Option ρ} (kk : ∀ (o : Int32) (H1 : Heap) (locs1 : List Loc), GH D ct ad P A S h H1 → va_S A0 H0 H1 locs1 → X p l e R s m args below meth c H1 locs1 cells slots Qf (kp o) (F0 m (pc + 3) ls (.int o :: rest))) : X p l e R s m args below meth c H locs cells slots Qf (callK (s2_women S P h) kp) (F0 m pc ls (.ref (ad (1)) :: rest)) := gc_ro (val' := fun (o : Int32) => some (.int o)) (len := 3) hG hS hA0 (fun o ho => rnV (As := []) E (hG.to fun _ _ => trivial) (recvU (i := 1) E.2.1 hG.1 (by decide) rfl rfl) (mH2_women l D ct ad P S h _ o ho) (cwV 0 E.1.2.2.2.2 (lw_V q1371 q485 q486 q114 q487) rfl rfl rfl (by decide +kernel) hR) rfl hsize rfl hW hdg hf) kk
theorem kX3_2_women (E : ME p m c cc nL s args RX3 D clW ct) (hG : GH D ct ad P A S h H) (hS : va_S A0 H0 H locs) (hA0 : ∀ q, H0.size ≤ q → A0 q) (hR : 2 + 1 ≤ R.frames ∧ 8 + (1 + 11) + 60 ≤ R.locals) (hsize : ls.size = nL) (hW : (rest.map fun v => v.category).sum ≤ 8) (hdg : decode cc pc = .ok (.invokevirtual 49, 3)) (hf : cells ≤ R.cells ∧ slots ≤ R.slots) {kp : Int32 → Option ρ} (kk : ∀ (o : Int32) (H1 : Heap) (locs1 : List Loc), GH D ct ad P A S h H1 → va_S A0 H0 H1 locs1 → X p l e R s m args below meth c H1 locs1 cells slots Qf (kp o) (F0 m (pc + 3) ls (.int o :: rest))) : X p l e R s m args below meth c H locs cells slots Qf (callK (s2_women S P h) kp) (F0 m pc ls (.ref (ad (1)) :: rest)) := gc_ro (val' := fun (o : Int32) => some (.int o)) (len := 3) hG hS hA0 (fun o ho => rnV (As := []) E (hG.to fun _ _ => trivial) (recvU (i := 1) E.2.1 hG.1 (by decide) rfl rfl) (mH2_women l D ct ad P S h _ o ho) (cwV 0 E.1.2.2.2.2 (lw_V q484 q485 q486 q114 q487) rfl rfl rfl (by decide +kernel) hR) rfl hsize rfl hW hdg hf) kk
end HK

set_option maxHeartbeats 4000000 in
theorem mH3_womenAt (l : Launch) (D : va_G) (ct : CT) (ad : Nat → Nat) (P : Nat → Nat → Option Nat) (S : US) (h : AH) (L : Nat) (p1 : Int32) (hL : L < 3) (sz : Nat) (o : Int32) (ho : s3_womenAt S P h L p1 = some o) : Met l yX3_womenAt (ws_ yX3_womenAt cX3_womenAt 4 (some .int)) { frames := 3, cells := 0, slots := 0, locals := 80 } (mP D clW ct [.ref (ad (lc L 0)), .int p1] sz (GH D ct ad P (fun _ => True) S h)) (mC (some (.int o)) (fun _ => True) (nA sz)) 0 0 (nA sz) := by
  refine X.start (val := fun (o : Int32) => some (.int o)) (Bt := fun _ _ => True) (A := nA sz) ho (by decide) (Nat.le_of_ble_eq_true rfl) (lv := [(0, .ref (ad (lc L 0))), (1, .int p1)]) rfl ?_
  intro p e s m args below meth c E hr hlk hnm hsz hU ls hl
  subst hsz
  obtain ⟨⟨hx, hb, hml, hown, hts⟩, hK, hJ⟩ := id E
  have hA0 : ∀ q, s.heap.size ≤ q → (nA s.heap.size) q := fun q h => h
  have hS : va_S (nA s.heap.size) s.heap s.heap [] := va_S.rf
  unfold s3_womenAt
  refine x_iconst (v := 0) hx hb dX3_womenAt_0 (by decide) ?_
  refine x_istore_n (lv' := [(2, .int (0 : Int32)), (0, .ref (ad (lc L 0))), (1, .int p1)]) hx hb dX3_womenAt_1 rfl hl (by decide) rfl (fun ls hl => ?_)
  refine x_iconst (v := 0) hx hb dX3_womenAt_2 (by decide) ?_
  refine x_istore_n (lv' := [(3, .int (0 : Int32)), (2, .int (0 : Int32)), (0, .ref (ad (lc L 0))), (1, .int p1)]) hx hb dX3_womenAt_3 rfl hl (by decide) rfl (fun ls hl => ?_)
  refine X.loop (I := fun (x : (Int32 × Int32)) g H locs => GH D ct ad P (fun _ => True) S h H ∧ va_S (nA s.heap.size) s.heap H locs ∧ ∃ ls : Array Slot, g = F0 m 4 ls [] ∧ lv_has ls 4 [(0, .ref (ad (lc L 0))), (1, .int p1), (2, .int x.1), (3, .int x.2)]) (fun rc3 ih3 => ?_) FUEL _ _ _ _ ⟨hU, hS, _, rfl, lv_sub hl [2, 3, 1, 0] rfl⟩
  rintro ⟨v1, v2⟩ _ H locs ⟨hU, hS, ls, rfl, hl⟩
  have hU : GH D ct ad P (fun _ => True) S h H := hU
  have hl : lv_has ls 4 [(0, .ref (ad (lc L 0))), (1, .int p1), (2, .int v1), (3, .int v2)] := hl
  refine X.eqs (sp2 := s3_womenAt_L4 L p1 S P h rc3 v1 v2) rfl ?_
  unfold s3_womenAt_L4
  refine x_iload_n hx hb dX3_womenAt_4 rfl (lv_at hl 3 rfl) ?_
  refine x_aload_n hx hb dX3_womenAt_5 rfl (lv_at hl 0 rfl) ?_
  refine gX3_3 E hU (hL) dX3_womenAt_6 ?_
  refine gX3_45 E hU dX3_womenAt_9 ?_
  refine kX3_2_women E hU hS hA0 ⟨by decide, by decide⟩ hl.1 (Nat.le_of_ble_eq_true rfl) dX3_womenAt_12 ⟨Nat.le_refl _, Nat.le_refl _⟩ (fun o4 H locs hU hS => ?_)
  refine x_icmp_ge (tgt := 40) hx hb dX3_womenAt_15 (by decide) (fun hc => ?_) (fun hc => ?_)
  · refine x_iload_n hx hb dX3_womenAt_40 rfl (lv_at hl 2 rfl) ?_
    exact x_iret hx hb hr hlk hS rfl trivial dX3_womenAt_41
  · refine x_aload_n hx hb dX3_womenAt_18 rfl (lv_at hl 0 rfl) ?_
    refine gX3_25 E hU (hL) dX3_womenAt_19 ?_
    refine x_iload_n hx hb dX3_womenAt_22 rfl (lv_at hl 3 rfl) ?_
    refine ux_ald (i := lc L 4) (n := 6) E hU.1 (lc_lt (hL) (by decide)) (ck_lc (by decide)) dX3_womenAt_23 ?_
    refine x_iload_n hx hb dX3_womenAt_24 rfl (lv_at hl 1 rfl) ?_
    refine x_icmp_ne (tgt := 34) hx hb dX3_womenAt_25 (by decide) (fun hc => ?_) (fun hc => ?_)
    · refine x_iinc (v := (v2 + (1 : Int32))) (lv' := [(3, .int (v2 + (1 : Int32))), (0, .ref (ad (lc L 0))), (1, .int p1), (2, .int v1)]) (k := 3) hx hb dX3_womenAt_34 hl rfl rfl (by decide) rfl (fun ls hl => ?_)
      refine x_goto (tgt := 4) hx hb dX3_womenAt_37 (by decide) ?_
      exact ih3 (v1, (v2 + (1 : Int32))) _ _ _ ⟨hU, hS, _, rfl, lv_sub hl [1, 2, 3, 0] rfl⟩
    · refine x_iload_n hx hb dX3_womenAt_28 rfl (lv_at hl 2 rfl) ?_
      refine x_iconst (v := 1) hx hb dX3_womenAt_29 (by decide) ?_
      refine x_iload_n hx hb dX3_womenAt_30 rfl (lv_at hl 3 rfl) ?_
      refine x_ishl hx hb dX3_womenAt_31 ?_
      refine x_ior hx hb dX3_womenAt_32 ?_
      refine x_istore_n (lv' := [(2, .int (v1 ||| ((1 : Int32) <<< (v2 &&& 31)))), (0, .ref (ad (lc L 0))), (1, .int p1), (3, .int v2)]) hx hb dX3_womenAt_33 rfl hl (by decide) rfl (fun ls hl => ?_)
      refine x_iinc (v := (v2 + (1 : Int32))) (lv' := [(3, .int (v2 + (1 : Int32))), (2, .int (v1 ||| ((1 : Int32) <<< (v2 &&& 31)))), (0, .ref (ad (lc L 0))), (1, .int p1)]) (k := 3) hx hb dX3_womenAt_34 hl rfl rfl (by decide) rfl (fun ls hl => ?_)
      refine x_goto (tgt := 4) hx hb dX3_womenAt_37 (by decide) ?_
      exact ih3 ((v1 ||| ((1 : Int32) <<< (v2 &&& 31))), (v2 + (1 : Int32))) _ _ _ ⟨hU, hS, _, rfl, lv_sub hl [2, 3, 1, 0] rfl⟩
section HK
variable {ρ : Type} {p : Program} {l : Launch} {e : Env} {R : Room} {s : State} {m : MethodId} {args : Array Value} {below : List Frame} {meth : Method} {c : Code} {H : Heap} {locs : List Loc} {cells slots : Nat} {Qf : ρ → State → Prop}
variable {cc : ByteArray} {pc nL L M q0 : Nat} {ls : Array Slot} {rest : List Value}
variable {D : va_G} {ct : CT} {ck : Nat → UC} {N : Nat} {ad : Nat → Nat} {P : Nat → Nat → Option Nat} {A A0 : Nat → Prop} {S : US} {w : Int64} {h : AH} {H0 : Heap}
theorem kX1_3_womenAt {p1 : Int32} (E : ME p m c cc nL s args RX1 D clW ct) (hG : GH D ct ad P A S h H) (hS : va_S A0 H0 H locs) (hA0 : ∀ q, H0.size ≤ q → A0 q) (hL : L < 3) (hR : 3 + 1 ≤ R.frames ∧ 8 + (4 + 11) + 80 ≤ R.locals) (hsize : ls.size = nL) (hW : (rest.map fun v => v.category).sum ≤ 8) (hdg : decode cc pc = .ok (.invokevirtual 111, 3)) (hf : cells ≤ R.cells ∧ slots ≤ R.slots) {kp : Int32 → Option ρ} (kk : ∀ (o : Int32) (H1 : Heap) (locs1 : List Loc), GH D ct ad P A S h H1 → va_S A0 H0 H1 locs1 → X p l e R s m args below meth c H1 locs1 cells slots Qf (kp o) (F0 m (pc + 3) ls (.int o :: rest))) : X p l e R s m args below meth c H locs cells slots Qf (callK (s3_womenAt S P h L p1) kp) (F0 m pc ls (.int p1 :: .ref (ad (lc L 0)) :: rest)) := gc_ro (val' := fun (o : Int32) => some (.int o)) (len := 3) hG hS hA0 (fun o ho => rnV (As := [.int p1]) E (hG.to fun _ _ => trivial) (recvU (i := lc L 0) E.2.1 hG.1 (lc_lt hL (by decide)) (ck_lc (by decide)) rfl) (mH3_womenAt l D ct ad P S h L p1 hL _ o ho) (cwV 1 E.1.2.2.2.2 (lw_V q1384 q481 q482 q118 q483) rfl rfl rfl (by decide +kernel) hR) rfl hsize rfl hW hdg hf) kk
theorem kX3_3_womenAt {p1 : Int32} (E : ME p m c cc nL s args RX3 D clW ct) (hG : GH D ct ad P A S h H) (hS : va_S A0 H0 H locs) (hA0 : ∀ q, H0.size ≤ q → A0 q) (hL : L < 3) (hR : 3 + 1 ≤ R.frames ∧ 8 + (4 + 11) + 80 ≤ R.locals) (hsize : ls.size = nL) (hW : (rest.map fun v => v.category).sum ≤ 8) (hdg : decode cc pc = .ok (.invokevirtual 68, 3)) (hf : cells ≤ R.cells ∧ slots ≤ R.slots) {kp : Int32 → Option ρ} (kk : ∀ (o : Int32) (H1 : Heap) (locs1 : List Loc), GH D ct ad P A S h H1 → va_S A0 H0 H1 locs1 → X p l e R s m args below meth c H1 locs1 cells slots Qf (kp o) (F0 m (pc + 3) ls (.int o :: rest))) : X p l e R s m args below meth c H locs cells slots Qf (callK (s3_womenAt S P h L p1) kp) (F0 m pc ls (.int p1 :: .ref (ad (lc L 0)) :: rest)) := gc_ro (val' := fun (o : Int32) => some (.int o)) (len := 3) hG hS hA0 (fun o ho => rnV (As := [.int p1]) E (hG.to fun _ _ => trivial) (recvU (i := lc L 0) E.2.1 hG.1 (lc_lt hL (by decide)) (ck_lc (by decide)) rfl) (mH3_womenAt l D ct ad P S h L p1 hL _ o ho) (cwV 1 E.1.2.2.2.2 (lw_V q480 q481 q482 q118 q483) rfl rfl rfl (by decide +kernel) hR) rfl hsize rfl hW hdg hf) kk
end HK

set_option maxHeartbeats 4000000 in
theorem mH3_asked (l : Launch) (D : va_G) (ct : CT) (ad : Nat → Nat) (P : Nat → Nat → Option Nat) (S : US) (h : AH) (L : Nat) (p1 : (Option Nat)) (p2 : Int32) (hL : L < 3) (sz : Nat) (o : (Int32 × US)) (ho : s3_asked S ct P h L p1 p2 = some o) : Met l yX3_asked (ws_ yX3_asked cX3_asked 3 (some .int)) { frames := 500, cells := 0, slots := 0, locals := 20000 } (mP D clW ct [.ref (ad (lc L 0)), va_rf p1, .int p2] sz (GH D ct ad P (fun _ => True) S h)) (mC (some (.int o.1)) (UW D clW ckH ct 26 ad P (fun _ => True) o.2 0) (uA 26 ad sz)) 0 0 (uA 26 ad sz) := by
  refine X.start (val := fun (o : (Int32 × US)) => some (.int o.1)) (Bt := fun (o : (Int32 × US)) => UW D clW ckH ct 26 ad P (fun _ => True) o.2 0) (A := uA 26 ad sz) ho (by decide) (by rcases p1 with _ | _ <;> exact Nat.le_of_ble_eq_true rfl) (lv := [(0, .ref (ad (lc L 0))), (1, va_rf p1), (2, .int p2)]) (by rcases p1 with _ | _ <;> rfl) ?_
  intro p e s m args below meth c E hr hlk hnm hsz hU ls hl
  subst hsz
  obtain ⟨⟨hx, hb, hml, hown, hts⟩, hK, hJ⟩ := id E
  replace hU := hU.to (B := uA 26 ad s.heap.size) (fun i hi => Or.inl ⟨i, hi, rfl⟩)
  have hA0 : ∀ q, s.heap.size ≤ q → (uA 26 ad s.heap.size) q := fun q h => Or.inr h
  have hS : va_S (uA 26 ad s.heap.size) s.heap s.heap [] := va_S.rf
  unfold s3_asked
  refine x_aload_n hx hb dX3_asked_0 rfl (lv_at hl 0 rfl) ?_
  refine gX3_3 E hU (hL) dX3_asked_1 ?_
  refine gX3_62 E hU dX3_asked_4 ?_
  refine x_iconst (v := 0) hx hb dX3_asked_7 (by decide) ?_
  refine x_aload_n hx hb dX3_asked_8 rfl (lv_at hl 0 rfl) ?_
  refine gX3_15 E hU (hL) dX3_asked_9 ?_
  refine x_iload_n hx hb dX3_asked_12 rfl (lv_at hl 2 rfl) ?_
  refine ux_ald (i := lc L 1) (n := 12) E hU.1 (lc_lt (hL) (by decide)) (ck_lc (by decide)) dX3_asked_13 ?_
  refine gx_ast (i := 2) (n := 6) E hU hS (by decide) rfl dX3_asked_14 (fun S1 H locs hU hS _ => ?_)
  refine x_aload_n hx hb dX3_asked_15 rfl (lv_at hl 0 rfl) ?_
  refine gX3_3 E hU (hL) dX3_asked_16 ?_
  refine gX3_62 E hU dX3_asked_19 ?_
  refine x_iconst (v := 1) hx hb dX3_asked_22 (by decide) ?_
  refine x_aload_n hx hb dX3_asked_23 rfl (lv_at hl 0 rfl) ?_
  refine gX3_19 E hU (hL) dX3_asked_24 ?_
  refine x_iload_n hx hb dX3_asked_27 rfl (lv_at hl 2 rfl) ?_
  refine ux_ald (i := lc L 2) (n := 12) E hU.1 (lc_lt (hL) (by decide)) (ck_lc (by decide)) dX3_asked_28 ?_
  refine gx_ast (i := 2) (n := 6) E hU hS (by decide) rfl dX3_asked_29 (fun S2 H locs hU hS _ => ?_)
  refine x_aload_n hx hb dX3_asked_30 rfl (lv_at hl 0 rfl) ?_
  refine gX3_3 E hU (hL) dX3_asked_31 ?_
  refine gX3_62 E hU dX3_asked_34 ?_
  refine x_iconst (v := 2) hx hb dX3_asked_37 (by decide) ?_
  refine x_aload_n hx hb dX3_asked_38 rfl (lv_at hl 0 rfl) ?_
  refine gX3_22 E hU (hL) dX3_asked_39 ?_
  refine x_iload_n hx hb dX3_asked_42 rfl (lv_at hl 2 rfl) ?_
  refine ux_ald (i := lc L 3) (n := 12) E hU.1 (lc_lt (hL) (by decide)) (ck_lc (by decide)) dX3_asked_43 ?_
  refine gx_ast (i := 2) (n := 6) E hU hS (by decide) rfl dX3_asked_44 (fun S3 H locs hU hS _ => ?_)
  refine x_aload_n hx hb dX3_asked_45 rfl (lv_at hl 0 rfl) ?_
  refine gX3_3 E hU (hL) dX3_asked_46 ?_
  refine gX3_62 E hU dX3_asked_49 ?_
  refine x_iconst (v := 3) hx hb dX3_asked_52 (by decide) ?_
  refine x_aload_n hx hb dX3_asked_53 rfl (lv_at hl 0 rfl) ?_
  refine x_iload_n hx hb dX3_asked_54 rfl (lv_at hl 2 rfl) ?_
  refine kX3_3_beside E hU hS hA0 (hL) ⟨by decide, by decide⟩ hl.1 (Nat.le_of_ble_eq_true rfl) dX3_asked_55 ⟨Nat.le_refl _, Nat.le_refl _⟩ (fun o4 H locs hU hS => ?_)
  refine gx_ast (i := 2) (n := 6) E hU hS (by decide) rfl dX3_asked_58 (fun S5 H locs hU hS _ => ?_)
  refine x_aload_n hx hb dX3_asked_59 rfl (lv_at hl 0 rfl) ?_
  refine gX3_3 E hU (hL) dX3_asked_60 ?_
  refine gX3_62 E hU dX3_asked_63 ?_
  refine x_iconst (v := 4) hx hb dX3_asked_66 (by decide) ?_
  refine x_aload_n hx hb dX3_asked_67 rfl (lv_at hl 0 rfl) ?_
  refine x_iload_n hx hb dX3_asked_68 rfl (lv_at hl 2 rfl) ?_
  refine kX3_3_womenAt E hU hS hA0 (hL) ⟨by decide, by decide⟩ hl.1 (Nat.le_of_ble_eq_true rfl) dX3_asked_69 ⟨Nat.le_refl _, Nat.le_refl _⟩ (fun o6 H locs hU hS => ?_)
  refine kX3_N_bitCount E hS hA0 ⟨by decide, by decide⟩ hl.1 (Nat.le_of_ble_eq_true rfl) dX3_asked_72 ⟨Nat.le_refl _, Nat.le_refl _⟩ (fun o7 H locs hz_ hk_ hS => ?_)
  replace hU := hU.kept hz_ hk_
  refine gx_ast (i := 2) (n := 6) E hU hS (by decide) rfl dX3_asked_75 (fun S8 H locs hU hS _ => ?_)
  refine x_aload_n hx hb dX3_asked_76 rfl (lv_at hl 0 rfl) ?_
  refine gX3_3 E hU (hL) dX3_asked_77 ?_
  refine gX3_62 E hU dX3_asked_80 ?_
  refine x_iconst (v := 5) hx hb dX3_asked_83 (by decide) ?_
  refine x_aload_n hx hb dX3_asked_84 rfl (lv_at hl 0 rfl) ?_
  refine gX3_41 E hU (hL) dX3_asked_85 ?_
  refine gx_ast (i := 2) (n := 6) E hU hS (by decide) rfl dX3_asked_88 (fun S9 H locs hU hS _ => ?_)
  refine x_aload_nO hx hb dX3_asked_89 rfl (lv_at hl 1 rfl) ?_
  refine x_aload_n hx hb dX3_asked_90 rfl (lv_at hl 0 rfl) ?_
  refine gX3_3 E hU (hL) dX3_asked_91 ?_
  refine gX3_62 E hU dX3_asked_94 ?_
  refine X.onR (fun b10 hb_ => ?_)
  subst hb_
  refine kFX3 E hU hS hA0 (rm := rmF FDEEP) (fun o ho => fmet l D ct ad P S9 h FDEEP b10 o ho) ⟨by decide, by decide⟩ hl.1 (Nat.le_of_ble_eq_true rfl) dX3_asked_97 ⟨Nat.le_refl _, Nat.le_refl _⟩ (fun o11 H locs hU hS => ?_)
  exact x_iret hx hb hr hlk hS rfl (hU.1.to fun _ _ => trivial) dX3_asked_102
section HK
variable {ρ : Type} {p : Program} {l : Launch} {e : Env} {R : Room} {s : State} {m : MethodId} {args : Array Value} {below : List Frame} {meth : Method} {c : Code} {H : Heap} {locs : List Loc} {cells slots : Nat} {Qf : ρ → State → Prop}
variable {cc : ByteArray} {pc nL L M q0 : Nat} {ls : Array Slot} {rest : List Value}
variable {D : va_G} {ct : CT} {ck : Nat → UC} {N : Nat} {ad : Nat → Nat} {P : Nat → Nat → Option Nat} {A A0 : Nat → Prop} {S : US} {w : Int64} {h : AH} {H0 : Heap}
theorem kX3_3_asked {p1 : (Option Nat)} {p2 : Int32} (E : ME p m c cc nL s args RX3 D clW ct) (hG : GH D ct ad P A S h H) (hS : va_S A H0 H locs) (hA0 : ∀ q, H0.size ≤ q → A q) (hL : L < 3) (hR : 500 + 1 ≤ R.frames ∧ 8 + (3 + 11) + 20000 ≤ R.locals) (hsize : ls.size = nL) (hW : (rest.map fun v => v.category).sum ≤ 8) (hdg : decode cc pc = .ok (.invokevirtual 90, 3)) (hf : cells ≤ R.cells ∧ slots ≤ R.slots) {kp : (Int32 × US) → Option ρ} (kk : ∀ (o : (Int32 × US)) (H1 : Heap) (locs1 : List Loc), GH D ct ad P A o.2 h H1 → va_S A H0 H1 locs1 → X p l e R s m args below meth c H1 locs1 cells slots Qf (kp o) (F0 m (pc + 3) ls (.int o.1 :: rest))) : X p l e R s m args below meth c H locs cells slots Qf (callK (s3_asked S ct P h L p1 p2) kp) (F0 m pc ls (.int p2 :: va_rf p1 :: .ref (ad (lc L 0)) :: rest)) := gc_mod (val' := fun (o : (Int32 × US)) => some (.int o.1)) (len := 3) (So := fun (o : (Int32 × US)) => o.2) hG hS hA0 (fun o ho => rnV (As := [va_rf p1, .int p2]) E (hG.to fun _ _ => trivial) (recvU (i := lc L 0) E.2.1 hG.1 (lc_lt hL (by decide)) (ck_lc (by decide)) rfl) (mH3_asked l D ct ad P S h L p1 p2 hL _ o ho) (cwV 2 E.1.2.2.2.2 (lw_V q476 q478 qs6 q118 q479) rfl rfl rfl (by decide +kernel) hR) rfl hsize rfl hW hdg hf) kk
end HK

set_option maxHeartbeats 4000000 in
theorem mH3_frays (l : Launch) (D : va_G) (ct : CT) (ad : Nat → Nat) (P : Nat → Nat → Option Nat) (S : US) (h : AH) (L : Nat) (p1 : Int32) (hL : L < 3) (sz : Nat) (o : (Int32 × US)) (ho : s3_frays S ct P h L p1 = some o) : Met l yX3_frays (ws_ yX3_frays cX3_frays 3 (some .int)) { frames := 501, cells := 0, slots := 0, locals := 20022 } (mP D clW ct [.ref (ad (lc L 0)), .int p1] sz (GH D ct ad P (fun _ => True) S h)) (mC (some (.int o.1)) (UW D clW ckH ct 26 ad P (fun _ => True) o.2 0) (uA 26 ad sz)) 0 0 (uA 26 ad sz) := by
  refine X.start (val := fun (o : (Int32 × US)) => some (.int o.1)) (Bt := fun (o : (Int32 × US)) => UW D clW ckH ct 26 ad P (fun _ => True) o.2 0) (A := uA 26 ad sz) ho (by decide) (Nat.le_of_ble_eq_true rfl) (lv := [(0, .ref (ad (lc L 0))), (1, .int p1)]) rfl ?_
  intro p e s m args below meth c E hr hlk hnm hsz hU ls hl
  subst hsz
  obtain ⟨⟨hx, hb, hml, hown, hts⟩, hK, hJ⟩ := id E
  replace hU := hU.to (B := uA 26 ad s.heap.size) (fun i hi => Or.inl ⟨i, hi, rfl⟩)
  have hA0 : ∀ q, s.heap.size ≤ q → (uA 26 ad s.heap.size) q := fun q h => Or.inr h
  have hS : va_S (uA 26 ad s.heap.size) s.heap s.heap [] := va_S.rf
  unfold s3_frays
  refine x_aload_n hx hb dX3_frays_0 rfl (lv_at hl 0 rfl) ?_
  refine x_iload_n hx hb dX3_frays_1 rfl (lv_at hl 1 rfl) ?_
  refine kX3_3_isOpen E hU hS hA0 (hL) ⟨by decide, by decide⟩ hl.1 (Nat.le_of_ble_eq_true rfl) dX3_frays_2 ⟨Nat.le_refl _, Nat.le_refl _⟩ (fun o1 H locs hU hS => ?_)
  refine x_if_eq (tgt := 10) hx hb dX3_frays_5 (by decide) (fun hc => ?_) (fun hc => ?_)
  · refine x_aload_n hx hb dX3_frays_10 rfl (lv_at hl 0 rfl) ?_
    refine gX3_3 E hU (hL) dX3_frays_11 ?_
    refine gX3_45 E hU dX3_frays_14 ?_
    refine gX3_98 E hU dX3_frays_17 (fun r2 => ?_)
    refine x_ifnonnullO (tgt := 44) hx hb dX3_frays_20 (by decide) (fun hc => ?_) (fun b3 hc => ?_)
    · subst hc
      refine x_aload_n hx hb dX3_frays_23 rfl (lv_at hl 0 rfl) ?_
      refine gX3_15 E hU (hL) dX3_frays_24 ?_
      refine x_iload_n hx hb dX3_frays_27 rfl (lv_at hl 1 rfl) ?_
      refine ux_ald (i := lc L 1) (n := 12) E hU.1 (lc_lt (hL) (by decide)) (ck_lc (by decide)) dX3_frays_28 ?_
      refine x_bipush (v := 9) hx hb dX3_frays_29 (by decide) ?_
      refine x_idiv hx hb dX3_frays_31 (by decide) ?_
      refine x_aload_n hx hb dX3_frays_32 rfl (lv_at hl 0 rfl) ?_
      refine gX3_22 E hU (hL) dX3_frays_33 ?_
      refine x_iload_n hx hb dX3_frays_36 rfl (lv_at hl 1 rfl) ?_
      refine ux_ald (i := lc L 3) (n := 12) E hU.1 (lc_lt (hL) (by decide)) (ck_lc (by decide)) dX3_frays_37 ?_
      refine x_iconst (v := 1) hx hb dX3_frays_38 (by decide) ?_
      refine x_iadd hx hb dX3_frays_39 ?_
      refine x_idivG hx hb dX3_frays_40 ?_
      refine x_goto (tgt := 59) hx hb dX3_frays_41 (by decide) ?_
      refine x_topi (fun e4 => ?_)
      refine x_istore_n (lv' := [(2, .int e4), (0, .ref (ad (lc L 0))), (1, .int p1)]) hx hb dX3_frays_59 rfl hl (by decide) rfl (fun ls hl => ?_)
      refine x_iload_n hx hb dX3_frays_60 rfl (lv_at hl 0 rfl) ?_
      refine x_iconst (v := 0) hx hb dX3_frays_61 (by decide) ?_
      refine x_bipush (v := 20) hx hb dX3_frays_62 (by decide) ?_
      refine kX3_1_within E hS hA0 ⟨by decide, by decide⟩ hl.1 (Nat.le_of_ble_eq_true rfl) dX3_frays_64 ⟨Nat.le_refl _, Nat.le_refl _⟩ (fun o5 H locs hz_ hk_ hS => ?_)
      replace hU := hU.kept hz_ hk_
      exact x_iret hx hb hr hlk hS rfl (hU.1.to fun _ _ => trivial) dX3_frays_67
    · subst hc
      refine x_aload_n hx hb dX3_frays_44 rfl (lv_at hl 0 rfl) ?_
      refine x_aload_n hx hb dX3_frays_45 rfl (lv_at hl 0 rfl) ?_
      refine gX3_3 E hU (hL) dX3_frays_46 ?_
      refine gX3_45 E hU dX3_frays_49 ?_
      refine gX3_98 E hU dX3_frays_52 (fun r6 => ?_)
      refine x_iload_n hx hb dX3_frays_55 rfl (lv_at hl 1 rfl) ?_
      refine kX3_3_asked E hU hS hA0 (hL) ⟨by decide, by decide⟩ hl.1 (Nat.le_of_ble_eq_true rfl) dX3_frays_56 ⟨Nat.le_refl _, Nat.le_refl _⟩ (fun o7 H locs hU hS => ?_)
      refine x_istore_n (lv' := [(2, .int o7.1), (0, .ref (ad (lc L 0))), (1, .int p1)]) hx hb dX3_frays_59 rfl hl (by decide) rfl (fun ls hl => ?_)
      refine x_iload_n hx hb dX3_frays_60 rfl (lv_at hl 0 rfl) ?_
      refine x_iconst (v := 0) hx hb dX3_frays_61 (by decide) ?_
      refine x_bipush (v := 20) hx hb dX3_frays_62 (by decide) ?_
      refine kX3_1_within E hS hA0 ⟨by decide, by decide⟩ hl.1 (Nat.le_of_ble_eq_true rfl) dX3_frays_64 ⟨Nat.le_refl _, Nat.le_refl _⟩ (fun o8 H locs hz_ hk_ hS => ?_)
      replace hU := hU.kept hz_ hk_
      exact x_iret hx hb hr hlk hS rfl (hU.1.to fun _ _ => trivial) dX3_frays_67
  · refine x_iconst (v := 0) hx hb dX3_frays_8 (by decide) ?_
    exact x_iret hx hb hr hlk hS rfl (hU.1.to fun _ _ => trivial) dX3_frays_9
section HK
variable {ρ : Type} {p : Program} {l : Launch} {e : Env} {R : Room} {s : State} {m : MethodId} {args : Array Value} {below : List Frame} {meth : Method} {c : Code} {H : Heap} {locs : List Loc} {cells slots : Nat} {Qf : ρ → State → Prop}
variable {cc : ByteArray} {pc nL L M q0 : Nat} {ls : Array Slot} {rest : List Value}
variable {D : va_G} {ct : CT} {ck : Nat → UC} {N : Nat} {ad : Nat → Nat} {P : Nat → Nat → Option Nat} {A A0 : Nat → Prop} {S : US} {w : Int64} {h : AH} {H0 : Heap}
theorem kX1_3_frays {p1 : Int32} (E : ME p m c cc nL s args RX1 D clW ct) (hG : GH D ct ad P A S h H) (hS : va_S A H0 H locs) (hA0 : ∀ q, H0.size ≤ q → A q) (hL : L < 3) (hR : 501 + 1 ≤ R.frames ∧ 8 + (3 + 11) + 20022 ≤ R.locals) (hsize : ls.size = nL) (hW : (rest.map fun v => v.category).sum ≤ 8) (hdg : decode cc pc = .ok (.invokevirtual 164, 3)) (hf : cells ≤ R.cells ∧ slots ≤ R.slots) {kp : (Int32 × US) → Option ρ} (kk : ∀ (o : (Int32 × US)) (H1 : Heap) (locs1 : List Loc), GH D ct ad P A o.2 h H1 → va_S A H0 H1 locs1 → X p l e R s m args below meth c H1 locs1 cells slots Qf (kp o) (F0 m (pc + 3) ls (.int o.1 :: rest))) : X p l e R s m args below meth c H locs cells slots Qf (callK (s3_frays S ct P h L p1) kp) (F0 m pc ls (.int p1 :: .ref (ad (lc L 0)) :: rest)) := gc_mod (val' := fun (o : (Int32 × US)) => some (.int o.1)) (len := 3) (So := fun (o : (Int32 × US)) => o.2) hG hS hA0 (fun o ho => rnV (As := [.int p1]) E (hG.to fun _ _ => trivial) (recvU (i := lc L 0) E.2.1 hG.1 (lc_lt hL (by decide)) (ck_lc (by decide)) rfl) (mH3_frays l D ct ad P S h L p1 hL _ o ho) (cwV 1 E.1.2.2.2.2 (lw_V q1414 q584 q585 q118 q586) rfl rfl rfl (by decide +kernel) hR) rfl hsize rfl hW hdg hf) kk
theorem kX3_3_frays {p1 : Int32} (E : ME p m c cc nL s args RX3 D clW ct) (hG : GH D ct ad P A S h H) (hS : va_S A H0 H locs) (hA0 : ∀ q, H0.size ≤ q → A q) (hL : L < 3) (hR : 501 + 1 ≤ R.frames ∧ 8 + (3 + 11) + 20022 ≤ R.locals) (hsize : ls.size = nL) (hW : (rest.map fun v => v.category).sum ≤ 8) (hdg : decode cc pc = .ok (.invokevirtual 132, 3)) (hf : cells ≤ R.cells ∧ slots ≤ R.slots) {kp : (Int32 × US) → Option ρ} (kk : ∀ (o : (Int32 × US)) (H1 : Heap) (locs1 : List Loc), GH D ct ad P A o.2 h H1 → va_S A H0 H1 locs1 → X p l e R s m args below meth c H1 locs1 cells slots Qf (kp o) (F0 m (pc + 3) ls (.int o.1 :: rest))) : X p l e R s m args below meth c H locs cells slots Qf (callK (s3_frays S ct P h L p1) kp) (F0 m pc ls (.int p1 :: .ref (ad (lc L 0)) :: rest)) := gc_mod (val' := fun (o : (Int32 × US)) => some (.int o.1)) (len := 3) (So := fun (o : (Int32 × US)) => o.2) hG hS hA0 (fun o ho => rnV (As := [.int p1]) E (hG.to fun _ _ => trivial) (recvU (i := lc L 0) E.2.1 hG.1 (lc_lt hL (by decide)) (ck_lc (by decide)) rfl) (mH3_frays l D ct ad P S h L p1 hL _ o ho) (cwV 1 E.1.2.2.2.2 (lw_V q583 q584 q585 q118 q586) rfl rfl rfl (by decide +kernel) hR) rfl hsize rfl hW hdg hf) kk
end HK

set_option maxHeartbeats 4000000 in
theorem mH3_goOn (l : Launch) (D : va_G) (ct : CT) (ad : Nat → Nat) (P : Nat → Nat → Option Nat) (S : US) (h : AH) (L : Nat) (p1 : Int32) (hL : L < 3) (sz : Nat) (o : US) (ho : s3_goOn S L p1 = some o) : Met l yX3_goOn (ws_ yX3_goOn cX3_goOn 2 none) { frames := 2, cells := 0, slots := 0, locals := 61 } (mP D clW ct [.ref (ad (lc L 0)), .int p1] sz (GH D ct ad P (fun _ => True) S h)) (mC (none) (UW D clW ckH ct 26 ad P (fun _ => True) o 0) (uA 26 ad sz)) 0 0 (uA 26 ad sz) := by
  refine X.start (val := fun (o : US) => none) (Bt := fun (o : US) => UW D clW ckH ct 26 ad P (fun _ => True) o 0) (A := uA 26 ad sz) ho (by decide) (Nat.le_of_ble_eq_true rfl) (lv := [(0, .ref (ad (lc L 0))), (1, .int p1)]) rfl ?_
  intro p e s m args below meth c E hr hlk hnm hsz hU ls hl
  subst hsz
  obtain ⟨⟨hx, hb, hml, hown, hts⟩, hK, hJ⟩ := id E
  replace hU := hU.to (B := uA 26 ad s.heap.size) (fun i hi => Or.inl ⟨i, hi, rfl⟩)
  have hA0 : ∀ q, s.heap.size ≤ q → (uA 26 ad s.heap.size) q := fun q h => Or.inr h
  have hS : va_S (uA 26 ad s.heap.size) s.heap s.heap [] := va_S.rf
  unfold s3_goOn
  refine x_aload_n hx hb dX3_goOn_0 rfl (lv_at hl 0 rfl) ?_
  refine gX3_25 E hU (hL) dX3_goOn_1 ?_
  refine x_iload_n hx hb dX3_goOn_4 rfl (lv_at hl 1 rfl) ?_
  refine x_aload_n hx hb dX3_goOn_5 rfl (lv_at hl 0 rfl) ?_
  refine gX3_3 E hU (hL) dX3_goOn_6 ?_
  refine gX3_45 E hU dX3_goOn_9 ?_
  refine x_aload_n hx hb dX3_goOn_12 rfl (lv_at hl 0 rfl) ?_
  refine gX3_25 E hU (hL) dX3_goOn_13 ?_
  refine x_iload_n hx hb dX3_goOn_16 rfl (lv_at hl 1 rfl) ?_
  refine ux_ald (i := lc L 4) (n := 6) E hU.1 (lc_lt (hL) (by decide)) (ck_lc (by decide)) dX3_goOn_17 ?_
  refine kX3_2_after E hU hS hA0 ⟨by decide, by decide⟩ hl.1 (Nat.le_of_ble_eq_true rfl) dX3_goOn_18 ⟨Nat.le_refl _, Nat.le_refl _⟩ (fun o1 H locs hU hS => ?_)
  refine gx_ast (i := lc L 4) (n := 6) E hU hS (lc_lt (hL) (by decide)) (ck_lc (by decide)) dX3_goOn_21 (fun S2 H locs hU hS _ => ?_)
  exact x_vret hx hb hr hlk hS rfl (hU.1.to fun _ _ => trivial) dX3_goOn_22
section HK
variable {ρ : Type} {p : Program} {l : Launch} {e : Env} {R : Room} {s : State} {m : MethodId} {args : Array Value} {below : List Frame} {meth : Method} {c : Code} {H : Heap} {locs : List Loc} {cells slots : Nat} {Qf : ρ → State → Prop}
variable {cc : ByteArray} {pc nL L M q0 : Nat} {ls : Array Slot} {rest : List Value}
variable {D : va_G} {ct : CT} {ck : Nat → UC} {N : Nat} {ad : Nat → Nat} {P : Nat → Nat → Option Nat} {A A0 : Nat → Prop} {S : US} {w : Int64} {h : AH} {H0 : Heap}
theorem kX1_3_goOn {p1 : Int32} (E : ME p m c cc nL s args RX1 D clW ct) (hG : GH D ct ad P A S h H) (hS : va_S A H0 H locs) (hA0 : ∀ q, H0.size ≤ q → A q) (hL : L < 3) (hR : 2 + 1 ≤ R.frames ∧ 8 + (2 + 11) + 61 ≤ R.locals) (hsize : ls.size = nL) (hW : (rest.map fun v => v.category).sum ≤ 8) (hdg : decode cc pc = .ok (.invokevirtual 315, 3)) (hf : cells ≤ R.cells ∧ slots ≤ R.slots) {kp : US → Option ρ} (kk : ∀ (o : US) (H1 : Heap) (locs1 : List Loc), GH D ct ad P A o h H1 → va_S A H0 H1 locs1 → X p l e R s m args below meth c H1 locs1 cells slots Qf (kp o) (F0 m (pc + 3) ls (rest))) : X p l e R s m args below meth c H locs cells slots Qf (callK (s3_goOn S L p1) kp) (F0 m pc ls (.int p1 :: .ref (ad (lc L 0)) :: rest)) := gc_mod (val' := fun (o : US) => none) (len := 3) (So := fun (o : US) => o) hG hS hA0 (fun o ho => rnV (As := [.int p1]) E (hG.to fun _ _ => trivial) (recvU (i := lc L 0) E.2.1 hG.1 (lc_lt hL (by decide)) (ck_lc (by decide)) rfl) (mH3_goOn l D ct ad P S h L p1 hL _ o ho) (cwV 1 E.1.2.2.2.2 (lw_V q1778 q605 q606 q118 q607) rfl rfl rfl (by decide +kernel) hR) rfl hsize rfl hW hdg hf) kk
theorem kX3_3_goOn {p1 : Int32} (E : ME p m c cc nL s args RX3 D clW ct) (hG : GH D ct ad P A S h H) (hS : va_S A H0 H locs) (hA0 : ∀ q, H0.size ≤ q → A q) (hL : L < 3) (hR : 2 + 1 ≤ R.frames ∧ 8 + (2 + 11) + 61 ≤ R.locals) (hsize : ls.size = nL) (hW : (rest.map fun v => v.category).sum ≤ 8) (hdg : decode cc pc = .ok (.invokevirtual 144, 3)) (hf : cells ≤ R.cells ∧ slots ≤ R.slots) {kp : US → Option ρ} (kk : ∀ (o : US) (H1 : Heap) (locs1 : List Loc), GH D ct ad P A o h H1 → va_S A H0 H1 locs1 → X p l e R s m args below meth c H1 locs1 cells slots Qf (kp o) (F0 m (pc + 3) ls (rest))) : X p l e R s m args below meth c H locs cells slots Qf (callK (s3_goOn S L p1) kp) (F0 m pc ls (.int p1 :: .ref (ad (lc L 0)) :: rest)) := gc_mod (val' := fun (o : US) => none) (len := 3) (So := fun (o : US) => o) hG hS hA0 (fun o ho => rnV (As := [.int p1]) E (hG.to fun _ _ => trivial) (recvU (i := lc L 0) E.2.1 hG.1 (lc_lt hL (by decide)) (ck_lc (by decide)) rfl) (mH3_goOn l D ct ad P S h L p1 hL _ o ho) (cwV 1 E.1.2.2.2.2 (lw_V q604 q605 q606 q118 q607) rfl rfl rfl (by decide +kernel) hR) rfl hsize rfl hW hdg hf) kk
end HK

set_option maxHeartbeats 4000000 in
theorem mH3_pull (l : Launch) (D : va_G) (ct : CT) (ad : Nat → Nat) (P : Nat → Nat → Option Nat) (S : US) (h : AH) (L : Nat) (p1 : Int32) (p2 : Int32) (hL : L < 3) (sz : Nat) (o : US) (ho : s3_pull S L p1 p2 = some o) : Met l yX3_pull (ws_ yX3_pull cX3_pull 3 none) { frames := 2, cells := 0, slots := 0, locals := 62 } (mP D clW ct [.ref (ad (lc L 0)), .int p1, .int p2] sz (GH D ct ad P (fun _ => True) S h)) (mC (none) (UW D clW ckH ct 26 ad P (fun _ => True) o 0) (uA 26 ad sz)) 0 0 (uA 26 ad sz) := by
  refine X.start (val := fun (o : US) => none) (Bt := fun (o : US) => UW D clW ckH ct 26 ad P (fun _ => True) o 0) (A := uA 26 ad sz) ho (by decide) (Nat.le_of_ble_eq_true rfl) (lv := [(0, .ref (ad (lc L 0))), (1, .int p1), (2, .int p2)]) rfl ?_
  intro p e s m args below meth c E hr hlk hnm hsz hU ls hl
  subst hsz
  obtain ⟨⟨hx, hb, hml, hown, hts⟩, hK, hJ⟩ := id E
  replace hU := hU.to (B := uA 26 ad s.heap.size) (fun i hi => Or.inl ⟨i, hi, rfl⟩)
  have hA0 : ∀ q, s.heap.size ≤ q → (uA 26 ad s.heap.size) q := fun q h => Or.inr h
  have hS : va_S (uA 26 ad s.heap.size) s.heap s.heap [] := va_S.rf
  unfold s3_pull
  refine x_aload_n hx hb dX3_pull_0 rfl (lv_at hl 0 rfl) ?_
  refine gX3_15 E hU (hL) dX3_pull_1 ?_
  refine x_iload_n hx hb dX3_pull_4 rfl (lv_at hl 1 rfl) ?_
  refine x_aload_n hx hb dX3_pull_5 rfl (lv_at hl 0 rfl) ?_
  refine gX3_15 E hU (hL) dX3_pull_6 ?_
  refine x_iload_n hx hb dX3_pull_9 rfl (lv_at hl 1 rfl) ?_
  refine ux_ald (i := lc L 1) (n := 12) E hU.1 (lc_lt (hL) (by decide)) (ck_lc (by decide)) dX3_pull_10 ?_
  refine x_iload_n hx hb dX3_pull_11 rfl (lv_at hl 2 rfl) ?_
  refine x_iadd hx hb dX3_pull_12 ?_
  refine x_iconst (v := 0) hx hb dX3_pull_13 (by decide) ?_
  refine x_bipush (v := 99) hx hb dX3_pull_14 (by decide) ?_
  refine kX3_1_within E hS hA0 ⟨by decide, by decide⟩ hl.1 (Nat.le_of_ble_eq_true rfl) dX3_pull_16 ⟨Nat.le_refl _, Nat.le_refl _⟩ (fun o1 H locs hz_ hk_ hS => ?_)
  replace hU := hU.kept hz_ hk_
  refine gx_ast (i := lc L 1) (n := 12) E hU hS (lc_lt (hL) (by decide)) (ck_lc (by decide)) dX3_pull_19 (fun S2 H locs hU hS _ => ?_)
  exact x_vret hx hb hr hlk hS rfl (hU.1.to fun _ _ => trivial) dX3_pull_20
section HK
variable {ρ : Type} {p : Program} {l : Launch} {e : Env} {R : Room} {s : State} {m : MethodId} {args : Array Value} {below : List Frame} {meth : Method} {c : Code} {H : Heap} {locs : List Loc} {cells slots : Nat} {Qf : ρ → State → Prop}
variable {cc : ByteArray} {pc nL L M q0 : Nat} {ls : Array Slot} {rest : List Value}
variable {D : va_G} {ct : CT} {ck : Nat → UC} {N : Nat} {ad : Nat → Nat} {P : Nat → Nat → Option Nat} {A A0 : Nat → Prop} {S : US} {w : Int64} {h : AH} {H0 : Heap}
theorem kX1_3_pull {p1 : Int32} {p2 : Int32} (E : ME p m c cc nL s args RX1 D clW ct) (hG : GH D ct ad P A S h H) (hS : va_S A H0 H locs) (hA0 : ∀ q, H0.size ≤ q → A q) (hL : L < 3) (hR : 2 + 1 ≤ R.frames ∧ 8 + (3 + 11) + 62 ≤ R.locals) (hsize : ls.size = nL) (hW : (rest.map fun v => v.category).sum ≤ 8) (hdg : decode cc pc = .ok (.invokevirtual 312, 3)) (hf : cells ≤ R.cells ∧ slots ≤ R.slots) {kp : US → Option ρ} (kk : ∀ (o : US) (H1 : Heap) (locs1 : List Loc), GH D ct ad P A o h H1 → va_S A H0 H1 locs1 → X p l e R s m args below meth c H1 locs1 cells slots Qf (kp o) (F0 m (pc + 3) ls (rest))) : X p l e R s m args below meth c H locs cells slots Qf (callK (s3_pull S L p1 p2) kp) (F0 m pc ls (.int p2 :: .int p1 :: .ref (ad (lc L 0)) :: rest)) := gc_mod (val' := fun (o : US) => none) (len := 3) (So := fun (o : US) => o) hG hS hA0 (fun o ho => rnV (As := [.int p1, .int p2]) E (hG.to fun _ _ => trivial) (recvU (i := lc L 0) E.2.1 hG.1 (lc_lt hL (by decide)) (ck_lc (by decide)) rfl) (mH3_pull l D ct ad P S h L p1 p2 hL _ o ho) (cwV 2 E.1.2.2.2.2 (lw_V q1762 q580 q581 q118 q582) rfl rfl rfl (by decide +kernel) hR) rfl hsize rfl hW hdg hf) kk
theorem kX3_3_pull {p1 : Int32} {p2 : Int32} (E : ME p m c cc nL s args RX3 D clW ct) (hG : GH D ct ad P A S h H) (hS : va_S A H0 H locs) (hA0 : ∀ q, H0.size ≤ q → A q) (hL : L < 3) (hR : 2 + 1 ≤ R.frames ∧ 8 + (3 + 11) + 62 ≤ R.locals) (hsize : ls.size = nL) (hW : (rest.map fun v => v.category).sum ≤ 8) (hdg : decode cc pc = .ok (.invokevirtual 107, 3)) (hf : cells ≤ R.cells ∧ slots ≤ R.slots) {kp : US → Option ρ} (kk : ∀ (o : US) (H1 : Heap) (locs1 : List Loc), GH D ct ad P A o h H1 → va_S A H0 H1 locs1 → X p l e R s m args below meth c H1 locs1 cells slots Qf (kp o) (F0 m (pc + 3) ls (rest))) : X p l e R s m args below meth c H locs cells slots Qf (callK (s3_pull S L p1 p2) kp) (F0 m pc ls (.int p2 :: .int p1 :: .ref (ad (lc L 0)) :: rest)) := gc_mod (val' := fun (o : US) => none) (len := 3) (So := fun (o : US) => o) hG hS hA0 (fun o ho => rnV (As := [.int p1, .int p2]) E (hG.to fun _ _ => trivial) (recvU (i := lc L 0) E.2.1 hG.1 (lc_lt hL (by decide)) (ck_lc (by decide)) rfl) (mH3_pull l D ct ad P S h L p1 p2 hL _ o ho) (cwV 2 E.1.2.2.2.2 (lw_V q579 q580 q581 q118 q582) rfl rfl rfl (by decide +kernel) hR) rfl hsize rfl hW hdg hf) kk
end HK

set_option maxHeartbeats 4000000 in
theorem mH3_loosen (l : Launch) (D : va_G) (ct : CT) (ad : Nat → Nat) (P : Nat → Nat → Option Nat) (S : US) (h : AH) (L : Nat) (p1 : Int32) (p2 : Int32) (hL : L < 3) (sz : Nat) (o : US) (ho : s3_loosen S L p1 p2 = some o) : Met l yX3_loosen (ws_ yX3_loosen cX3_loosen 4 none) { frames := 3, cells := 0, slots := 0, locals := 84 } (mP D clW ct [.ref (ad (lc L 0)), .int p1, .int p2] sz (GH D ct ad P (fun _ => True) S h)) (mC (none) (UW D clW ckH ct 26 ad P (fun _ => True) o 0) (uA 26 ad sz)) 0 0 (uA 26 ad sz) := by
  refine X.start (val := fun (o : US) => none) (Bt := fun (o : US) => UW D clW ckH ct 26 ad P (fun _ => True) o 0) (A := uA 26 ad sz) ho (by decide) (Nat.le_of_ble_eq_true rfl) (lv := [(0, .ref (ad (lc L 0))), (1, .int p1), (2, .int p2)]) rfl ?_
  intro p e s m args below meth c E hr hlk hnm hsz hU ls hl
  subst hsz
  obtain ⟨⟨hx, hb, hml, hown, hts⟩, hK, hJ⟩ := id E
  replace hU := hU.to (B := uA 26 ad s.heap.size) (fun i hi => Or.inl ⟨i, hi, rfl⟩)
  have hA0 : ∀ q, s.heap.size ≤ q → (uA 26 ad s.heap.size) q := fun q h => Or.inr h
  have hS : va_S (uA 26 ad s.heap.size) s.heap s.heap [] := va_S.rf
  unfold s3_loosen
  refine x_aload_n hx hb dX3_loosen_0 rfl (lv_at hl 0 rfl) ?_
  refine gX3_19 E hU (hL) dX3_loosen_1 ?_
  refine x_iload_n hx hb dX3_loosen_4 rfl (lv_at hl 1 rfl) ?_
  refine x_iconst (v := 0) hx hb dX3_loosen_5 (by decide) ?_
  refine x_aload_n hx hb dX3_loosen_6 rfl (lv_at hl 0 rfl) ?_
  refine gX3_19 E hU (hL) dX3_loosen_7 ?_
  refine x_iload_n hx hb dX3_loosen_10 rfl (lv_at hl 1 rfl) ?_
  refine ux_ald (i := lc L 2) (n := 12) E hU.1 (lc_lt (hL) (by decide)) (ck_lc (by decide)) dX3_loosen_11 ?_
  refine x_iload_n hx hb dX3_loosen_12 rfl (lv_at hl 2 rfl) ?_
  refine x_isub hx hb dX3_loosen_13 ?_
  refine kX3_max E ⟨by decide, by decide⟩ hl.1 (Nat.le_of_ble_eq_true rfl) dX3_loosen_14 ⟨Nat.le_refl _, Nat.le_refl _⟩ ?_
  refine gx_ast (i := lc L 2) (n := 12) E hU hS (lc_lt (hL) (by decide)) (ck_lc (by decide)) dX3_loosen_17 (fun S1 H locs hU hS _ => ?_)
  refine x_aload_n hx hb dX3_loosen_18 rfl (lv_at hl 0 rfl) ?_
  refine x_iload_n hx hb dX3_loosen_19 rfl (lv_at hl 1 rfl) ?_
  refine kX3_3_isOpen E hU hS hA0 (hL) ⟨by decide, by decide⟩ hl.1 (Nat.le_of_ble_eq_true rfl) dX3_loosen_20 ⟨Nat.le_refl _, Nat.le_refl _⟩ (fun o2 H locs hU hS => ?_)
  refine x_if_ne (tgt := 27) hx hb dX3_loosen_23 (by decide) (fun hc => ?_) (fun hc => ?_)
  · refine x_aload_n hx hb dX3_loosen_27 rfl (lv_at hl 0 rfl) ?_
    refine gX3_15 E hU (hL) dX3_loosen_28 ?_
    refine x_iload_n hx hb dX3_loosen_31 rfl (lv_at hl 1 rfl) ?_
    refine ux_ald (i := lc L 1) (n := 12) E hU.1 (lc_lt (hL) (by decide)) (ck_lc (by decide)) dX3_loosen_32 ?_
    refine x_iconst (v := 2) hx hb dX3_loosen_33 (by decide) ?_
    refine x_idiv hx hb dX3_loosen_34 (by decide) ?_
    refine x_istore_n (lv' := [(3, .int ((S1 (lc L 1) p1.toNatClampNeg) / (2 : Int32))), (0, .ref (ad (lc L 0))), (1, .int p1), (2, .int p2)]) hx hb dX3_loosen_35 rfl hl (by decide) rfl (fun ls hl => ?_)
    refine x_aload_n hx hb dX3_loosen_36 rfl (lv_at hl 1 rfl) ?_
    refine gX3_15 E hU (hL) dX3_loosen_37 ?_
    refine x_iload_n hx hb dX3_loosen_40 rfl (lv_at hl 2 rfl) ?_
    refine x_iconst (v := 0) hx hb dX3_loosen_41 (by decide) ?_
    refine gx_ast (i := lc L 1) (n := 12) E hU hS (lc_lt (hL) (by decide)) (ck_lc (by decide)) dX3_loosen_42 (fun S3 H locs hU hS _ => ?_)
    refine x_aload_n hx hb dX3_loosen_43 rfl (lv_at hl 1 rfl) ?_
    refine x_aload_n hx hb dX3_loosen_44 rfl (lv_at hl 1 rfl) ?_
    refine gX3_3 E hU (hL) dX3_loosen_45 ?_
    refine gX3_45 E hU dX3_loosen_48 ?_
    refine x_iload_n hx hb dX3_loosen_51 rfl (lv_at hl 2 rfl) ?_
    refine kX3_2_before E hU hS hA0 ⟨by decide, by decide⟩ hl.1 (Nat.le_of_ble_eq_true rfl) dX3_loosen_52 ⟨Nat.le_refl _, Nat.le_refl _⟩ (fun o4 H locs hU hS => ?_)
    refine kX3_3_isOpen E hU hS hA0 (hL) ⟨by decide, by decide⟩ hl.1 (Nat.le_of_ble_eq_true rfl) dX3_loosen_55 ⟨Nat.le_refl _, Nat.le_refl _⟩ (fun o5 H locs hU hS => ?_)
    refine X.join2 (fun (x : US) g H locs => GH D ct ad P (uA 26 ad s.heap.size) x h H ∧ va_S (uA 26 ad s.heap.size) s.heap H locs ∧ ∃ ls : Array Slot, g = F0 m 77 ls [] ∧ lv_has ls 4 [(0, .ref (ad (lc L 0))), (1, .int p1), (3, .int ((S1 (lc L 1) p1.toNatClampNeg) / (2 : Int32)))]) ?_ (fun j7 hj7 => ?_)
    · rintro S6 _ H locs ⟨hU, hS, ls, rfl, hl⟩
      refine X.eqs (sp2 := s3_loosen_J77 L p1 S1 S6) rfl ?_
      unfold s3_loosen_J77
      refine x_aload_n hx hb dX3_loosen_77 rfl (lv_at hl 0 rfl) ?_
      refine x_aload_n hx hb dX3_loosen_78 rfl (lv_at hl 0 rfl) ?_
      refine gX3_3 E hU (hL) dX3_loosen_79 ?_
      refine gX3_45 E hU dX3_loosen_82 ?_
      refine x_iload_n hx hb dX3_loosen_85 rfl (lv_at hl 1 rfl) ?_
      refine kX3_2_after E hU hS hA0 ⟨by decide, by decide⟩ hl.1 (Nat.le_of_ble_eq_true rfl) dX3_loosen_86 ⟨Nat.le_refl _, Nat.le_refl _⟩ (fun o8 H locs hU hS => ?_)
      refine kX3_3_isOpen E hU hS hA0 (hL) ⟨by decide, by decide⟩ hl.1 (Nat.le_of_ble_eq_true rfl) dX3_loosen_89 ⟨Nat.le_refl _, Nat.le_refl _⟩ (fun o9 H locs hU hS => ?_)
      refine x_if_ne (tgt := 111) hx hb dX3_loosen_92 (by decide) (fun hc => ?_) (fun hc => ?_)
      · exact x_vret hx hb hr hlk hS rfl (hU.1.to fun _ _ => trivial) dX3_loosen_111
      · refine x_aload_n hx hb dX3_loosen_95 rfl (lv_at hl 0 rfl) ?_
        refine x_aload_n hx hb dX3_loosen_96 rfl (lv_at hl 0 rfl) ?_
        refine gX3_3 E hU (hL) dX3_loosen_97 ?_
        refine gX3_45 E hU dX3_loosen_100 ?_
        refine x_iload_n hx hb dX3_loosen_103 rfl (lv_at hl 1 rfl) ?_
        refine kX3_2_after E hU hS hA0 ⟨by decide, by decide⟩ hl.1 (Nat.le_of_ble_eq_true rfl) dX3_loosen_104 ⟨Nat.le_refl _, Nat.le_refl _⟩ (fun o10 H locs hU hS => ?_)
        refine x_iload_n hx hb dX3_loosen_107 rfl (lv_at hl 2 rfl) ?_
        refine kX3_3_pull E hU hS hA0 (hL) ⟨by decide, by decide⟩ hl.1 (Nat.le_of_ble_eq_true rfl) dX3_loosen_108 ⟨Nat.le_refl _, Nat.le_refl _⟩ (fun o11 H locs hU hS => ?_)
        exact x_vret hx hb hr hlk hS rfl (hU.1.to fun _ _ => trivial) dX3_loosen_111
    · refine x_if_ne (tgt := 77) hx hb dX3_loosen_58 (by decide) (fun hc => ?_) (fun hc => ?_)
      · exact hj7 S3 _ _ _ ⟨hU, hS, _, rfl, lv_sub hl [1, 2, 0] rfl⟩
      · refine x_aload_n hx hb dX3_loosen_61 rfl (lv_at hl 1 rfl) ?_
        refine x_aload_n hx hb dX3_loosen_62 rfl (lv_at hl 1 rfl) ?_
        refine gX3_3 E hU (hL) dX3_loosen_63 ?_
        refine gX3_45 E hU dX3_loosen_66 ?_
        refine x_iload_n hx hb dX3_loosen_69 rfl (lv_at hl 2 rfl) ?_
        refine kX3_2_before E hU hS hA0 ⟨by decide, by decide⟩ hl.1 (Nat.le_of_ble_eq_true rfl) dX3_loosen_70 ⟨Nat.le_refl _, Nat.le_refl _⟩ (fun o12 H locs hU hS => ?_)
        refine x_iload_n hx hb dX3_loosen_73 rfl (lv_at hl 0 rfl) ?_
        refine kX3_3_pull E hU hS hA0 (hL) ⟨by decide, by decide⟩ hl.1 (Nat.le_of_ble_eq_true rfl) dX3_loosen_74 ⟨Nat.le_refl _, Nat.le_refl _⟩ (fun o13 H locs hU hS => ?_)
        exact hj7 o13 _ _ _ ⟨hU, hS, _, rfl, lv_sub hl [1, 2, 0] rfl⟩
  · exact x_vret hx hb hr hlk hS rfl (hU.1.to fun _ _ => trivial) dX3_loosen_26
section HK
variable {ρ : Type} {p : Program} {l : Launch} {e : Env} {R : Room} {s : State} {m : MethodId} {args : Array Value} {below : List Frame} {meth : Method} {c : Code} {H : Heap} {locs : List Loc} {cells slots : Nat} {Qf : ρ → State → Prop}
variable {cc : ByteArray} {pc nL L M q0 : Nat} {ls : Array Slot} {rest : List Value}
variable {D : va_G} {ct : CT} {ck : Nat → UC} {N : Nat} {ad : Nat → Nat} {P : Nat → Nat → Option Nat} {A A0 : Nat → Prop} {S : US} {w : Int64} {h : AH} {H0 : Heap}
theorem kX1_3_loosen {p1 : Int32} {p2 : Int32} (E : ME p m c cc nL s args RX1 D clW ct) (hG : GH D ct ad P A S h H) (hS : va_S A H0 H locs) (hA0 : ∀ q, H0.size ≤ q → A q) (hL : L < 3) (hR : 3 + 1 ≤ R.frames ∧ 8 + (4 + 11) + 84 ≤ R.locals) (hsize : ls.size = nL) (hW : (rest.map fun v => v.category).sum ≤ 8) (hdg : decode cc pc = .ok (.invokevirtual 217, 3)) (hf : cells ≤ R.cells ∧ slots ≤ R.slots) {kp : US → Option ρ} (kk : ∀ (o : US) (H1 : Heap) (locs1 : List Loc), GH D ct ad P A o h H1 → va_S A H0 H1 locs1 → X p l e R s m args below meth c H1 locs1 cells slots Qf (kp o) (F0 m (pc + 3) ls (rest))) : X p l e R s m args below meth c H locs cells slots Qf (callK (s3_loosen S L p1 p2) kp) (F0 m pc ls (.int p2 :: .int p1 :: .ref (ad (lc L 0)) :: rest)) := gc_mod (val' := fun (o : US) => none) (len := 3) (So := fun (o : US) => o) hG hS hA0 (fun o ho => rnV (As := [.int p1, .int p2]) E (hG.to fun _ _ => trivial) (recvU (i := lc L 0) E.2.1 hG.1 (lc_lt hL (by decide)) (ck_lc (by decide)) rfl) (mH3_loosen l D ct ad P S h L p1 p2 hL _ o ho) (cwV 2 E.1.2.2.2.2 (lw_V q1470 q588 q589 q118 q590) rfl rfl rfl (by decide +kernel) hR) rfl hsize rfl hW hdg hf) kk
theorem kX3_3_loosen {p1 : Int32} {p2 : Int32} (E : ME p m c cc nL s args RX3 D clW ct) (hG : GH D ct ad P A S h H) (hS : va_S A H0 H locs) (hA0 : ∀ q, H0.size ≤ q → A q) (hL : L < 3) (hR : 3 + 1 ≤ R.frames ∧ 8 + (4 + 11) + 84 ≤ R.locals) (hsize : ls.size = nL) (hW : (rest.map fun v => v.category).sum ≤ 8) (hdg : decode cc pc = .ok (.invokevirtual 134, 3)) (hf : cells ≤ R.cells ∧ slots ≤ R.slots) {kp : US → Option ρ} (kk : ∀ (o : US) (H1 : Heap) (locs1 : List Loc), GH D ct ad P A o h H1 → va_S A H0 H1 locs1 → X p l e R s m args below meth c H1 locs1 cells slots Qf (kp o) (F0 m (pc + 3) ls (rest))) : X p l e R s m args below meth c H locs cells slots Qf (callK (s3_loosen S L p1 p2) kp) (F0 m pc ls (.int p2 :: .int p1 :: .ref (ad (lc L 0)) :: rest)) := gc_mod (val' := fun (o : US) => none) (len := 3) (So := fun (o : US) => o) hG hS hA0 (fun o ho => rnV (As := [.int p1, .int p2]) E (hG.to fun _ _ => trivial) (recvU (i := lc L 0) E.2.1 hG.1 (lc_lt hL (by decide)) (ck_lc (by decide)) rfl) (mH3_loosen l D ct ad P S h L p1 p2 hL _ o ho) (cwV 2 E.1.2.2.2.2 (lw_V q587 q588 q589 q118 q590) rfl rfl rfl (by decide +kernel) hR) rfl hsize rfl hW hdg hf) kk
end HK

set_option maxHeartbeats 4000000 in
theorem mH3_mend (l : Launch) (D : va_G) (ct : CT) (ad : Nat → Nat) (P : Nat → Nat → Option Nat) (S : US) (h : AH) (L : Nat) (p1 : Int32) (hL : L < 3) (sz : Nat) (o : US) (ho : s3_mend S P h L p1 = some o) : Met l yX3_mend (ws_ yX3_mend cX3_mend 2 none) { frames := 4, cells := 0, slots := 0, locals := 104 } (mP D clW ct [.ref (ad (lc L 0)), .int p1] sz (GH D ct ad P (fun _ => True) S h)) (mC (none) (UW D clW ckH ct 26 ad P (fun _ => True) o 0) (uA 26 ad sz)) 0 0 (uA 26 ad sz) := by
  refine X.start (val := fun (o : US) => none) (Bt := fun (o : US) => UW D clW ckH ct 26 ad P (fun _ => True) o 0) (A := uA 26 ad sz) ho (by decide) (Nat.le_of_ble_eq_true rfl) (lv := [(0, .ref (ad (lc L 0))), (1, .int p1)]) rfl ?_
  intro p e s m args below meth c E hr hlk hnm hsz hU ls hl
  subst hsz
  obtain ⟨⟨hx, hb, hml, hown, hts⟩, hK, hJ⟩ := id E
  replace hU := hU.to (B := uA 26 ad s.heap.size) (fun i hi => Or.inl ⟨i, hi, rfl⟩)
  have hA0 : ∀ q, s.heap.size ≤ q → (uA 26 ad s.heap.size) q := fun q h => Or.inr h
  have hS : va_S (uA 26 ad s.heap.size) s.heap s.heap [] := va_S.rf
  unfold s3_mend
  refine x_aload_n hx hb dX3_mend_0 rfl (lv_at hl 0 rfl) ?_
  refine gX3_28 E hU (hL) dX3_mend_1 ?_
  refine x_iload_n hx hb dX3_mend_4 rfl (lv_at hl 1 rfl) ?_
  refine ux_ald (i := lc L 5) (n := 6) E hU.1 (lc_lt (hL) (by decide)) (ck_lc (by decide)) dX3_mend_5 ?_
  refine x_if_ne (tgt := 10) hx hb dX3_mend_6 (by decide) (fun hc => ?_) (fun hc => ?_)
  · refine x_aload_n hx hb dX3_mend_10 rfl (lv_at hl 0 rfl) ?_
    refine gX3_28 E hU (hL) dX3_mend_11 ?_
    refine x_iload_n hx hb dX3_mend_14 rfl (lv_at hl 1 rfl) ?_
    refine x_dup2_11 hx hb dX3_mend_15 rfl rfl ?_
    refine ux_ald (i := lc L 5) (n := 6) E hU.1 (lc_lt (hL) (by decide)) (ck_lc (by decide)) dX3_mend_16 ?_
    refine x_iconst (v := 1) hx hb dX3_mend_17 (by decide) ?_
    refine x_isub hx hb dX3_mend_18 ?_
    refine gx_ast (i := lc L 5) (n := 6) E hU hS (lc_lt (hL) (by decide)) (ck_lc (by decide)) dX3_mend_19 (fun S1 H locs hU hS _ => ?_)
    refine x_aload_n hx hb dX3_mend_20 rfl (lv_at hl 0 rfl) ?_
    refine gX3_19 E hU (hL) dX3_mend_21 ?_
    refine x_aload_n hx hb dX3_mend_24 rfl (lv_at hl 0 rfl) ?_
    refine gX3_25 E hU (hL) dX3_mend_25 ?_
    refine x_iload_n hx hb dX3_mend_28 rfl (lv_at hl 1 rfl) ?_
    refine ux_ald (i := lc L 4) (n := 6) E hU.1 (lc_lt (hL) (by decide)) (ck_lc (by decide)) dX3_mend_29 ?_
    refine x_bipush (v := 99) hx hb dX3_mend_30 (by decide) ?_
    refine x_aload_n hx hb dX3_mend_32 rfl (lv_at hl 0 rfl) ?_
    refine gX3_19 E hU (hL) dX3_mend_33 ?_
    refine x_aload_n hx hb dX3_mend_36 rfl (lv_at hl 0 rfl) ?_
    refine gX3_25 E hU (hL) dX3_mend_37 ?_
    refine x_iload_n hx hb dX3_mend_40 rfl (lv_at hl 1 rfl) ?_
    refine ux_ald (i := lc L 4) (n := 6) E hU.1 (lc_lt (hL) (by decide)) (ck_lc (by decide)) dX3_mend_41 ?_
    refine ux_ald (i := lc L 2) (n := 12) E hU.1 (lc_lt (hL) (by decide)) (ck_lc (by decide)) dX3_mend_42 ?_
    refine x_iconst (v := 2) hx hb dX3_mend_43 (by decide) ?_
    refine x_aload_n hx hb dX3_mend_44 rfl (lv_at hl 0 rfl) ?_
    refine gX3_3 E hU (hL) dX3_mend_45 ?_
    refine gX3_45 E hU dX3_mend_48 ?_
    refine gX3_111 E hU dX3_mend_51 (fun r2 => ?_)
    refine x_iload_n hx hb dX3_mend_54 rfl (lv_at hl 1 rfl) ?_
    refine X.onR (fun b3 hb_ => ?_)
    subst hb_
    refine kX3_L_get E hU hS hA0 ⟨by decide, by decide⟩ hl.1 (Nat.le_of_ble_eq_true rfl) dX3_mend_55 ⟨Nat.le_refl _, Nat.le_refl _⟩ (fun o4 H locs hU hS => ?_)
    refine X.onR (fun b5 hb_ => ?_)
    subst hb_
    refine fx_cast E hU.2.1 (ci := 12) rfl (hts _ q598) dX3_mend_60 ?_
    refine kX3_N_intValue E hU hS hA0 ⟨by decide, by decide⟩ hl.1 (Nat.le_of_ble_eq_true rfl) dX3_mend_63 ⟨Nat.le_refl _, Nat.le_refl _⟩ (fun o6 H locs hU hS => ?_)
    refine x_imul hx hb dX3_mend_66 ?_
    refine x_iadd hx hb dX3_mend_67 ?_
    refine x_iconst (v := 3) hx hb dX3_mend_68 (by decide) ?_
    refine x_iadd hx hb dX3_mend_69 ?_
    refine kX3_min E ⟨by decide, by decide⟩ hl.1 (Nat.le_of_ble_eq_true rfl) dX3_mend_70 ⟨Nat.le_refl _, Nat.le_refl _⟩ ?_
    refine gx_ast (i := lc L 2) (n := 12) E hU hS (lc_lt (hL) (by decide)) (ck_lc (by decide)) dX3_mend_73 (fun S7 H locs hU hS _ => ?_)
    exact x_vret hx hb hr hlk hS rfl (hU.1.to fun _ _ => trivial) dX3_mend_74
  · exact x_vret hx hb hr hlk hS rfl (hU.1.to fun _ _ => trivial) dX3_mend_9
section HK
variable {ρ : Type} {p : Program} {l : Launch} {e : Env} {R : Room} {s : State} {m : MethodId} {args : Array Value} {below : List Frame} {meth : Method} {c : Code} {H : Heap} {locs : List Loc} {cells slots : Nat} {Qf : ρ → State → Prop}
variable {cc : ByteArray} {pc nL L M q0 : Nat} {ls : Array Slot} {rest : List Value}
variable {D : va_G} {ct : CT} {ck : Nat → UC} {N : Nat} {ad : Nat → Nat} {P : Nat → Nat → Option Nat} {A A0 : Nat → Prop} {S : US} {w : Int64} {h : AH} {H0 : Heap}
theorem kX1_3_mend {p1 : Int32} (E : ME p m c cc nL s args RX1 D clW ct) (hG : GH D ct ad P A S h H) (hS : va_S A H0 H locs) (hA0 : ∀ q, H0.size ≤ q → A q) (hL : L < 3) (hR : 4 + 1 ≤ R.frames ∧ 8 + (2 + 11) + 104 ≤ R.locals) (hsize : ls.size = nL) (hW : (rest.map fun v => v.category).sum ≤ 8) (hdg : decode cc pc = .ok (.invokevirtual 210, 3)) (hf : cells ≤ R.cells ∧ slots ≤ R.slots) {kp : US → Option ρ} (kk : ∀ (o : US) (H1 : Heap) (locs1 : List Loc), GH D ct ad P A o h H1 → va_S A H0 H1 locs1 → X p l e R s m args below meth c H1 locs1 cells slots Qf (kp o) (F0 m (pc + 3) ls (rest))) : X p l e R s m args below meth c H locs cells slots Qf (callK (s3_mend S P h L p1) kp) (F0 m pc ls (.int p1 :: .ref (ad (lc L 0)) :: rest)) := gc_mod (val' := fun (o : US) => none) (len := 3) (So := fun (o : US) => o) hG hS hA0 (fun o ho => rnV (As := [.int p1]) E (hG.to fun _ _ => trivial) (recvU (i := lc L 0) E.2.1 hG.1 (lc_lt hL (by decide)) (ck_lc (by decide)) rfl) (mH3_mend l D ct ad P S h L p1 hL _ o ho) (cwV 1 E.1.2.2.2.2 (lw_V q1441 q593 q594 q118 q595) rfl rfl rfl (by decide +kernel) hR) rfl hsize rfl hW hdg hf) kk
theorem kX3_3_mend {p1 : Int32} (E : ME p m c cc nL s args RX3 D clW ct) (hG : GH D ct ad P A S h H) (hS : va_S A H0 H locs) (hA0 : ∀ q, H0.size ≤ q → A q) (hL : L < 3) (hR : 4 + 1 ≤ R.frames ∧ 8 + (2 + 11) + 104 ≤ R.locals) (hsize : ls.size = nL) (hW : (rest.map fun v => v.category).sum ≤ 8) (hdg : decode cc pc = .ok (.invokevirtual 140, 3)) (hf : cells ≤ R.cells ∧ slots ≤ R.slots) {kp : US → Option ρ} (kk : ∀ (o : US) (H1 : Heap) (locs1 : List Loc), GH D ct ad P A o h H1 → va_S A H0 H1 locs1 → X p l e R s m args below meth c H1 locs1 cells slots Qf (kp o) (F0 m (pc + 3) ls (rest))) : X p l e R s m args below meth c H locs cells slots Qf (callK (s3_mend S P h L p1) kp) (F0 m pc ls (.int p1 :: .ref (ad (lc L 0)) :: rest)) := gc_mod (val' := fun (o : US) => none) (len := 3) (So := fun (o : US) => o) hG hS hA0 (fun o ho => rnV (As := [.int p1]) E (hG.to fun _ _ => trivial) (recvU (i := lc L 0) E.2.1 hG.1 (lc_lt hL (by decide)) (ck_lc (by decide)) rfl) (mH3_mend l D ct ad P S h L p1 hL _ o ho) (cwV 1 E.1.2.2.2.2 (lw_V q592 q593 q594 q118 q595) rfl rfl rfl (by decide +kernel) hR) rfl hsize rfl hW hdg hf) kk
end HK

set_option maxHeartbeats 4000000 in
theorem mH3_pulls (l : Launch) (D : va_G) (ct : CT) (ad : Nat → Nat) (P : Nat → Nat → Option Nat) (S : US) (h : AH) (L : Nat) (p1 : Int32) (hL : L < 3) (sz : Nat) (o : (Int32 × US)) (ho : s3_pulls S ct P h L p1 = some o) : Met l yX3_pulls (ws_ yX3_pulls cX3_pulls 3 (some .int)) { frames := 501, cells := 0, slots := 0, locals := 20022 } (mP D clW ct [.ref (ad (lc L 0)), .int p1] sz (GH D ct ad P (fun _ => True) S h)) (mC (some (.int o.1)) (UW D clW ckH ct 26 ad P (fun _ => True) o.2 0) (uA 26 ad sz)) 0 0 (uA 26 ad sz) := by
  refine X.start (val := fun (o : (Int32 × US)) => some (.int o.1)) (Bt := fun (o : (Int32 × US)) => UW D clW ckH ct 26 ad P (fun _ => True) o.2 0) (A := uA 26 ad sz) ho (by decide) (Nat.le_of_ble_eq_true rfl) (lv := [(0, .ref (ad (lc L 0))), (1, .int p1)]) rfl ?_
  intro p e s m args below meth c E hr hlk hnm hsz hU ls hl
  subst hsz
  obtain ⟨⟨hx, hb, hml, hown, hts⟩, hK, hJ⟩ := id E
  replace hU := hU.to (B := uA 26 ad s.heap.size) (fun i hi => Or.inl ⟨i, hi, rfl⟩)
  have hA0 : ∀ q, s.heap.size ≤ q → (uA 26 ad s.heap.size) q := fun q h => Or.inr h
  have hS : va_S (uA 26 ad s.heap.size) s.heap s.heap [] := va_S.rf
  unfold s3_pulls
  refine x_aload_n hx hb dX3_pulls_0 rfl (lv_at hl 0 rfl) ?_
  refine x_iload_n hx hb dX3_pulls_1 rfl (lv_at hl 1 rfl) ?_
  refine kX3_3_isOpen E hU hS hA0 (hL) ⟨by decide, by decide⟩ hl.1 (Nat.le_of_ble_eq_true rfl) dX3_pulls_2 ⟨Nat.le_refl _, Nat.le_refl _⟩ (fun o1 H locs hU hS => ?_)
  refine x_if_eq (tgt := 10) hx hb dX3_pulls_5 (by decide) (fun hc => ?_) (fun hc => ?_)
  · refine x_aload_n hx hb dX3_pulls_10 rfl (lv_at hl 0 rfl) ?_
    refine gX3_3 E hU (hL) dX3_pulls_11 ?_
    refine gX3_45 E hU dX3_pulls_14 ?_
    refine gX3_86 E hU dX3_pulls_17 (fun r2 => ?_)
    refine x_ifnonnullO (tgt := 43) hx hb dX3_pulls_20 (by decide) (fun hc => ?_) (fun b3 hc => ?_)
    · subst hc
      refine x_aload_n hx hb dX3_pulls_23 rfl (lv_at hl 0 rfl) ?_
      refine x_iload_n hx hb dX3_pulls_24 rfl (lv_at hl 1 rfl) ?_
      refine kX3_3_beside E hU hS hA0 (hL) ⟨by decide, by decide⟩ hl.1 (Nat.le_of_ble_eq_true rfl) dX3_pulls_25 ⟨Nat.le_refl _, Nat.le_refl _⟩ (fun o4 H locs hU hS => ?_)
      refine x_iconst (v := 2) hx hb dX3_pulls_28 (by decide) ?_
      refine x_aload_n hx hb dX3_pulls_29 rfl (lv_at hl 0 rfl) ?_
      refine gX3_15 E hU (hL) dX3_pulls_30 ?_
      refine x_iload_n hx hb dX3_pulls_33 rfl (lv_at hl 1 rfl) ?_
      refine ux_ald (i := lc L 1) (n := 12) E hU.1 (lc_lt (hL) (by decide)) (ck_lc (by decide)) dX3_pulls_34 ?_
      refine x_imul hx hb dX3_pulls_35 ?_
      refine x_isub hx hb dX3_pulls_36 ?_
      refine x_bipush (v := 9) hx hb dX3_pulls_37 (by decide) ?_
      refine x_idiv hx hb dX3_pulls_39 (by decide) ?_
      refine x_goto (tgt := 58) hx hb dX3_pulls_40 (by decide) ?_
      refine x_istore_n (lv' := [(2, .int ((o4 - ((2 : Int32) * (S (lc L 1) p1.toNatClampNeg))) / (9 : Int32))), (0, .ref (ad (lc L 0))), (1, .int p1)]) hx hb dX3_pulls_58 rfl hl (by decide) rfl (fun ls hl => ?_)
      refine x_iload_n hx hb dX3_pulls_59 rfl (lv_at hl 0 rfl) ?_
      refine x_bipush (v := -9) hx hb dX3_pulls_60 (by decide) ?_
      refine x_bipush (v := 9) hx hb dX3_pulls_62 (by decide) ?_
      refine kX3_1_within E hS hA0 ⟨by decide, by decide⟩ hl.1 (Nat.le_of_ble_eq_true rfl) dX3_pulls_64 ⟨Nat.le_refl _, Nat.le_refl _⟩ (fun o5 H locs hz_ hk_ hS => ?_)
      replace hU := hU.kept hz_ hk_
      exact x_iret hx hb hr hlk hS rfl (hU.1.to fun _ _ => trivial) dX3_pulls_67
    · subst hc
      refine x_aload_n hx hb dX3_pulls_43 rfl (lv_at hl 0 rfl) ?_
      refine x_aload_n hx hb dX3_pulls_44 rfl (lv_at hl 0 rfl) ?_
      refine gX3_3 E hU (hL) dX3_pulls_45 ?_
      refine gX3_45 E hU dX3_pulls_48 ?_
      refine gX3_86 E hU dX3_pulls_51 (fun r6 => ?_)
      refine x_iload_n hx hb dX3_pulls_54 rfl (lv_at hl 1 rfl) ?_
      refine kX3_3_asked E hU hS hA0 (hL) ⟨by decide, by decide⟩ hl.1 (Nat.le_of_ble_eq_true rfl) dX3_pulls_55 ⟨Nat.le_refl _, Nat.le_refl _⟩ (fun o7 H locs hU hS => ?_)
      refine x_istore_n (lv' := [(2, .int o7.1), (0, .ref (ad (lc L 0))), (1, .int p1)]) hx hb dX3_pulls_58 rfl hl (by decide) rfl (fun ls hl => ?_)
      refine x_iload_n hx hb dX3_pulls_59 rfl (lv_at hl 0 rfl) ?_
      refine x_bipush (v := -9) hx hb dX3_pulls_60 (by decide) ?_
      refine x_bipush (v := 9) hx hb dX3_pulls_62 (by decide) ?_
      refine kX3_1_within E hS hA0 ⟨by decide, by decide⟩ hl.1 (Nat.le_of_ble_eq_true rfl) dX3_pulls_64 ⟨Nat.le_refl _, Nat.le_refl _⟩ (fun o8 H locs hz_ hk_ hS => ?_)
      replace hU := hU.kept hz_ hk_
      exact x_iret hx hb hr hlk hS rfl (hU.1.to fun _ _ => trivial) dX3_pulls_67
  · refine x_iconst (v := 0) hx hb dX3_pulls_8 (by decide) ?_
    exact x_iret hx hb hr hlk hS rfl (hU.1.to fun _ _ => trivial) dX3_pulls_9
section HK
variable {ρ : Type} {p : Program} {l : Launch} {e : Env} {R : Room} {s : State} {m : MethodId} {args : Array Value} {below : List Frame} {meth : Method} {c : Code} {H : Heap} {locs : List Loc} {cells slots : Nat} {Qf : ρ → State → Prop}
variable {cc : ByteArray} {pc nL L M q0 : Nat} {ls : Array Slot} {rest : List Value}
variable {D : va_G} {ct : CT} {ck : Nat → UC} {N : Nat} {ad : Nat → Nat} {P : Nat → Nat → Option Nat} {A A0 : Nat → Prop} {S : US} {w : Int64} {h : AH} {H0 : Heap}
theorem kX1_3_pulls {p1 : Int32} (E : ME p m c cc nL s args RX1 D clW ct) (hG : GH D ct ad P A S h H) (hS : va_S A H0 H locs) (hA0 : ∀ q, H0.size ≤ q → A q) (hL : L < 3) (hR : 501 + 1 ≤ R.frames ∧ 8 + (3 + 11) + 20022 ≤ R.locals) (hsize : ls.size = nL) (hW : (rest.map fun v => v.category).sum ≤ 8) (hdg : decode cc pc = .ok (.invokevirtual 167, 3)) (hf : cells ≤ R.cells ∧ slots ≤ R.slots) {kp : (Int32 × US) → Option ρ} (kk : ∀ (o : (Int32 × US)) (H1 : Heap) (locs1 : List Loc), GH D ct ad P A o.2 h H1 → va_S A H0 H1 locs1 → X p l e R s m args below meth c H1 locs1 cells slots Qf (kp o) (F0 m (pc + 3) ls (.int o.1 :: rest))) : X p l e R s m args below meth c H locs cells slots Qf (callK (s3_pulls S ct P h L p1) kp) (F0 m pc ls (.int p1 :: .ref (ad (lc L 0)) :: rest)) := gc_mod (val' := fun (o : (Int32 × US)) => some (.int o.1)) (len := 3) (So := fun (o : (Int32 × US)) => o.2) hG hS hA0 (fun o ho => rnV (As := [.int p1]) E (hG.to fun _ _ => trivial) (recvU (i := lc L 0) E.2.1 hG.1 (lc_lt hL (by decide)) (ck_lc (by decide)) rfl) (mH3_pulls l D ct ad P S h L p1 hL _ o ho) (cwV 1 E.1.2.2.2.2 (lw_V q1415 q457 q458 q118 q459) rfl rfl rfl (by decide +kernel) hR) rfl hsize rfl hW hdg hf) kk
theorem kX3_3_pulls {p1 : Int32} (E : ME p m c cc nL s args RX3 D clW ct) (hG : GH D ct ad P A S h H) (hS : va_S A H0 H locs) (hA0 : ∀ q, H0.size ≤ q → A q) (hL : L < 3) (hR : 501 + 1 ≤ R.frames ∧ 8 + (3 + 11) + 20022 ≤ R.locals) (hsize : ls.size = nL) (hW : (rest.map fun v => v.category).sum ≤ 8) (hdg : decode cc pc = .ok (.invokevirtual 130, 3)) (hf : cells ≤ R.cells ∧ slots ≤ R.slots) {kp : (Int32 × US) → Option ρ} (kk : ∀ (o : (Int32 × US)) (H1 : Heap) (locs1 : List Loc), GH D ct ad P A o.2 h H1 → va_S A H0 H1 locs1 → X p l e R s m args below meth c H1 locs1 cells slots Qf (kp o) (F0 m (pc + 3) ls (.int o.1 :: rest))) : X p l e R s m args below meth c H locs cells slots Qf (callK (s3_pulls S ct P h L p1) kp) (F0 m pc ls (.int p1 :: .ref (ad (lc L 0)) :: rest)) := gc_mod (val' := fun (o : (Int32 × US)) => some (.int o.1)) (len := 3) (So := fun (o : (Int32 × US)) => o.2) hG hS hA0 (fun o ho => rnV (As := [.int p1]) E (hG.to fun _ _ => trivial) (recvU (i := lc L 0) E.2.1 hG.1 (lc_lt hL (by decide)) (ck_lc (by decide)) rfl) (mH3_pulls l D ct ad P S h L p1 hL _ o ho) (cwV 1 E.1.2.2.2.2 (lw_V q456 q457 q458 q118 q459) rfl rfl rfl (by decide +kernel) hR) rfl hsize rfl hW hdg hf) kk
end HK

set_option maxHeartbeats 4000000 in
theorem mH3_pass (l : Launch) (D : va_G) (ct : CT) (ad : Nat → Nat) (P : Nat → Nat → Option Nat) (S : US) (h : AH) (L : Nat) (hL : L < 3) (sz : Nat) (o : US) (ho : s3_pass S ct P h L = some o) : Met l yX3_pass (ws_ yX3_pass cX3_pass 2 (some (.object "HorizonSeam$Line"))) { frames := 502, cells := 0, slots := 0, locals := 20044 } (mP D clW ct [.ref (ad (lc L 0))] sz (GH D ct ad P (fun _ => True) S h)) (mC (some (.ref (ad (lc L 0)))) (UW D clW ckH ct 26 ad P (fun _ => True) o 0) (uA 26 ad sz)) 0 0 (uA 26 ad sz) := by
  refine X.start (val := fun (o : US) => some (.ref (ad (lc L 0)))) (Bt := fun (o : US) => UW D clW ckH ct 26 ad P (fun _ => True) o 0) (A := uA 26 ad sz) ho (by decide) (Nat.le_of_ble_eq_true rfl) (lv := [(0, .ref (ad (lc L 0)))]) rfl ?_
  intro p e s m args below meth c E hr hlk hnm hsz hU ls hl
  subst hsz
  obtain ⟨⟨hx, hb, hml, hown, hts⟩, hK, hJ⟩ := id E
  replace hr : meth.sig.returnType = some (FieldType.object "HorizonSeam$Line") ∧ ((∃ n, (FieldType.object "HorizonSeam$Line") = .object n) ∨ ∃ t, (FieldType.object "HorizonSeam$Line") = .array t) := ⟨hr, Or.inl ⟨_, rfl⟩⟩
  replace hU := hU.to (B := uA 26 ad s.heap.size) (fun i hi => Or.inl ⟨i, hi, rfl⟩)
  have hA0 : ∀ q, s.heap.size ≤ q → (uA 26 ad s.heap.size) q := fun q h => Or.inr h
  have hS : va_S (uA 26 ad s.heap.size) s.heap s.heap [] := va_S.rf
  unfold s3_pass
  refine x_iconst (v := 0) hx hb dX3_pass_0 (by decide) ?_
  refine x_istore_n (lv' := [(1, .int (0 : Int32)), (0, .ref (ad (lc L 0)))]) hx hb dX3_pass_1 rfl hl (by decide) rfl (fun ls hl => ?_)
  refine X.loop (I := fun (x : (US × Int32)) g H locs => GH D ct ad P (uA 26 ad s.heap.size) x.1 h H ∧ va_S (uA 26 ad s.heap.size) s.heap H locs ∧ ∃ ls : Array Slot, g = F0 m 2 ls [] ∧ lv_has ls 2 [(0, .ref (ad (lc L 0))), (1, .int x.2)]) (fun rc3 ih3 => ?_) FUEL _ _ _ _ ⟨hU, hS, _, rfl, lv_sub hl [1, 0] rfl⟩
  rintro ⟨S1, v2⟩ _ H locs ⟨hU, hS, ls, rfl, hl⟩
  have hU : GH D ct ad P (uA 26 ad s.heap.size) S1 h H := hU
  have hl : lv_has ls 2 [(0, .ref (ad (lc L 0))), (1, .int v2)] := hl
  refine X.eqs (sp2 := s3_pass_L2 L P h ct rc3 S1 v2) rfl ?_
  unfold s3_pass_L2
  refine x_iload_n hx hb dX3_pass_2 rfl (lv_at hl 1 rfl) ?_
  refine x_aload_n hx hb dX3_pass_3 rfl (lv_at hl 0 rfl) ?_
  refine gX3_3 E hU (hL) dX3_pass_4 ?_
  refine gX3_45 E hU dX3_pass_7 ?_
  refine gX3_127 E hU dX3_pass_10 ?_
  refine x_icmp_ge (tgt := 33) hx hb dX3_pass_13 (by decide) (fun hc => ?_) (fun hc => ?_)
  · refine x_iconst (v := 0) hx hb dX3_pass_33 (by decide) ?_
    refine x_istore_n (lv' := [(1, .int (0 : Int32)), (0, .ref (ad (lc L 0)))]) hx hb dX3_pass_34 rfl hl (by decide) rfl (fun ls hl => ?_)
    refine X.loop (I := fun (x : (US × Int32)) g H locs => GH D ct ad P (uA 26 ad s.heap.size) x.1 h H ∧ va_S (uA 26 ad s.heap.size) s.heap H locs ∧ ∃ ls : Array Slot, g = F0 m 35 ls [] ∧ lv_has ls 2 [(0, .ref (ad (lc L 0))), (1, .int x.2)]) (fun rc6 ih6 => ?_) FUEL _ _ _ _ ⟨hU, hS, _, rfl, lv_sub hl [1, 0] rfl⟩
    rintro ⟨S4, v5⟩ _ H locs ⟨hU, hS, ls, rfl, hl⟩
    have hU : GH D ct ad P (uA 26 ad s.heap.size) S4 h H := hU
    have hl : lv_has ls 2 [(0, .ref (ad (lc L 0))), (1, .int v5)] := hl
    refine X.eqs (sp2 := s3_pass_L35 L P h ct rc6 S4 v5) rfl ?_
    unfold s3_pass_L35
    refine x_iload_n hx hb dX3_pass_35 rfl (lv_at hl 1 rfl) ?_
    refine x_aload_n hx hb dX3_pass_36 rfl (lv_at hl 0 rfl) ?_
    refine gX3_3 E hU (hL) dX3_pass_37 ?_
    refine gX3_45 E hU dX3_pass_40 ?_
    refine gX3_127 E hU dX3_pass_43 ?_
    refine x_icmp_ge (tgt := 74) hx hb dX3_pass_46 (by decide) (fun hc => ?_) (fun hc => ?_)
    · refine x_iconst (v := 0) hx hb dX3_pass_74 (by decide) ?_
      refine x_istore_n (lv' := [(1, .int (0 : Int32)), (0, .ref (ad (lc L 0)))]) hx hb dX3_pass_75 rfl hl (by decide) rfl (fun ls hl => ?_)
      refine X.loop (I := fun (x : (US × Int32)) g H locs => GH D ct ad P (uA 26 ad s.heap.size) x.1 h H ∧ va_S (uA 26 ad s.heap.size) s.heap H locs ∧ ∃ ls : Array Slot, g = F0 m 76 ls [] ∧ lv_has ls 2 [(0, .ref (ad (lc L 0))), (1, .int x.2)]) (fun rc9 ih9 => ?_) FUEL _ _ _ _ ⟨hU, hS, _, rfl, lv_sub hl [1, 0] rfl⟩
      rintro ⟨S7, v8⟩ _ H locs ⟨hU, hS, ls, rfl, hl⟩
      have hU : GH D ct ad P (uA 26 ad s.heap.size) S7 h H := hU
      have hl : lv_has ls 2 [(0, .ref (ad (lc L 0))), (1, .int v8)] := hl
      refine X.eqs (sp2 := s3_pass_L76 L P h ct rc9 S7 v8) rfl ?_
      unfold s3_pass_L76
      refine x_iload_n hx hb dX3_pass_76 rfl (lv_at hl 1 rfl) ?_
      refine x_aload_n hx hb dX3_pass_77 rfl (lv_at hl 0 rfl) ?_
      refine gX3_3 E hU (hL) dX3_pass_78 ?_
      refine gX3_45 E hU dX3_pass_81 ?_
      refine gX3_127 E hU dX3_pass_84 ?_
      refine x_icmp_ge (tgt := 114) hx hb dX3_pass_87 (by decide) (fun hc => ?_) (fun hc => ?_)
      · refine x_iconst (v := 0) hx hb dX3_pass_114 (by decide) ?_
        refine x_istore_n (lv' := [(1, .int (0 : Int32)), (0, .ref (ad (lc L 0)))]) hx hb dX3_pass_115 rfl hl (by decide) rfl (fun ls hl => ?_)
        refine X.loop (I := fun (x : (US × Int32)) g H locs => GH D ct ad P (uA 26 ad s.heap.size) x.1 h H ∧ va_S (uA 26 ad s.heap.size) s.heap H locs ∧ ∃ ls : Array Slot, g = F0 m 116 ls [] ∧ lv_has ls 2 [(0, .ref (ad (lc L 0))), (1, .int x.2)]) (fun rc12 ih12 => ?_) FUEL _ _ _ _ ⟨hU, hS, _, rfl, lv_sub hl [1, 0] rfl⟩
        rintro ⟨S10, v11⟩ _ H locs ⟨hU, hS, ls, rfl, hl⟩
        have hU : GH D ct ad P (uA 26 ad s.heap.size) S10 h H := hU
        have hl : lv_has ls 2 [(0, .ref (ad (lc L 0))), (1, .int v11)] := hl
        refine X.eqs (sp2 := s3_pass_L116 L P h rc12 S10 v11) rfl ?_
        unfold s3_pass_L116
        refine x_iload_n hx hb dX3_pass_116 rfl (lv_at hl 1 rfl) ?_
        refine x_aload_n hx hb dX3_pass_117 rfl (lv_at hl 0 rfl) ?_
        refine gX3_3 E hU (hL) dX3_pass_118 ?_
        refine gX3_45 E hU dX3_pass_121 ?_
        refine kX3_2_women E hU hS hA0 ⟨by decide, by decide⟩ hl.1 (Nat.le_of_ble_eq_true rfl) dX3_pass_124 ⟨Nat.le_refl _, Nat.le_refl _⟩ (fun o13 H locs hU hS => ?_)
        refine x_icmp_ge (tgt := 176) hx hb dX3_pass_127 (by decide) (fun hc => ?_) (fun hc => ?_)
        · refine x_aload_n hx hb dX3_pass_176 rfl (lv_at hl 0 rfl) ?_
          refine x_dup hx hb dX3_pass_177 rfl ?_
          refine gX3_41 E hU (hL) dX3_pass_178 ?_
          refine x_iconst (v := 1) hx hb dX3_pass_181 (by decide) ?_
          refine x_iadd hx hb dX3_pass_182 ?_
          refine pX3_41 E hU hS (hL) dX3_pass_183 (fun S14 H locs hU hS _ => ?_)
          refine x_aload_n hx hb dX3_pass_186 rfl (lv_at hl 0 rfl) ?_
          exact x_aret hx hb hr hlk hS rfl (hU.1.to fun _ _ => trivial) dX3_pass_187
        · refine x_aload_n hx hb dX3_pass_130 rfl (lv_at hl 0 rfl) ?_
          refine gX3_41 E hU (hL) dX3_pass_131 ?_
          refine x_aload_n hx hb dX3_pass_134 rfl (lv_at hl 0 rfl) ?_
          refine gX3_3 E hU (hL) dX3_pass_135 ?_
          refine gX3_45 E hU dX3_pass_138 ?_
          refine gX3_137 E hU dX3_pass_141 ?_
          refine x_iremG hx hb dX3_pass_144 ?_
          refine x_aload_n hx hb dX3_pass_145 rfl (lv_at hl 0 rfl) ?_
          refine gX3_3 E hU (hL) dX3_pass_146 ?_
          refine gX3_45 E hU dX3_pass_149 ?_
          refine gX3_137 E hU dX3_pass_152 ?_
          refine x_iconst (v := 1) hx hb dX3_pass_155 (by decide) ?_
          refine x_isub hx hb dX3_pass_156 ?_
          refine x_icmp_ne (tgt := 176) hx hb dX3_pass_157 (by decide) (fun hc => ?_) (fun hc => ?_)
          · refine x_aload_n hx hb dX3_pass_176 rfl (lv_at hl 0 rfl) ?_
            refine x_dup hx hb dX3_pass_177 rfl ?_
            refine gX3_41 E hU (hL) dX3_pass_178 ?_
            refine x_iconst (v := 1) hx hb dX3_pass_181 (by decide) ?_
            refine x_iadd hx hb dX3_pass_182 ?_
            refine pX3_41 E hU hS (hL) dX3_pass_183 (fun S15 H locs hU hS _ => ?_)
            refine x_aload_n hx hb dX3_pass_186 rfl (lv_at hl 0 rfl) ?_
            exact x_aret hx hb hr hlk hS rfl (hU.1.to fun _ _ => trivial) dX3_pass_187
          · refine x_aload_n hx hb dX3_pass_160 rfl (lv_at hl 0 rfl) ?_
            refine x_iload_n hx hb dX3_pass_161 rfl (lv_at hl 1 rfl) ?_
            refine kX3_3_mend E hU hS hA0 (hL) ⟨by decide, by decide⟩ hl.1 (Nat.le_of_ble_eq_true rfl) dX3_pass_162 ⟨Nat.le_refl _, Nat.le_refl _⟩ (fun o16 H locs hU hS => ?_)
            refine x_aload_n hx hb dX3_pass_165 rfl (lv_at hl 0 rfl) ?_
            refine x_iload_n hx hb dX3_pass_166 rfl (lv_at hl 1 rfl) ?_
            refine kX3_3_goOn E hU hS hA0 (hL) ⟨by decide, by decide⟩ hl.1 (Nat.le_of_ble_eq_true rfl) dX3_pass_167 ⟨Nat.le_refl _, Nat.le_refl _⟩ (fun o17 H locs hU hS => ?_)
            refine x_iinc (v := (v11 + (1 : Int32))) (lv' := [(1, .int (v11 + (1 : Int32))), (0, .ref (ad (lc L 0)))]) (k := 1) hx hb dX3_pass_170 hl rfl rfl (by decide) rfl (fun ls hl => ?_)
            refine x_goto (tgt := 116) hx hb dX3_pass_173 (by decide) ?_
            exact ih12 (o17, (v11 + (1 : Int32))) _ _ _ ⟨hU, hS, _, rfl, lv_sub hl [1, 0] rfl⟩
      · refine x_aload_n hx hb dX3_pass_90 rfl (lv_at hl 0 rfl) ?_
        refine x_iload_n hx hb dX3_pass_91 rfl (lv_at hl 1 rfl) ?_
        refine kX3_3_isOpen E hU hS hA0 (hL) ⟨by decide, by decide⟩ hl.1 (Nat.le_of_ble_eq_true rfl) dX3_pass_92 ⟨Nat.le_refl _, Nat.le_refl _⟩ (fun o18 H locs hU hS => ?_)
        refine x_if_ne (tgt := 108) hx hb dX3_pass_95 (by decide) (fun hc => ?_) (fun hc => ?_)
        · refine x_iinc (v := (v8 + (1 : Int32))) (lv' := [(1, .int (v8 + (1 : Int32))), (0, .ref (ad (lc L 0)))]) (k := 1) hx hb dX3_pass_108 hl rfl rfl (by decide) rfl (fun ls hl => ?_)
          refine x_goto (tgt := 76) hx hb dX3_pass_111 (by decide) ?_
          exact ih9 (S7, (v8 + (1 : Int32))) _ _ _ ⟨hU, hS, _, rfl, lv_sub hl [1, 0] rfl⟩
        · refine x_aload_n hx hb dX3_pass_98 rfl (lv_at hl 0 rfl) ?_
          refine x_iload_n hx hb dX3_pass_99 rfl (lv_at hl 1 rfl) ?_
          refine x_aload_n hx hb dX3_pass_100 rfl (lv_at hl 0 rfl) ?_
          refine x_iload_n hx hb dX3_pass_101 rfl (lv_at hl 1 rfl) ?_
          refine kX3_3_frays E hU hS hA0 (hL) ⟨by decide, by decide⟩ hl.1 (Nat.le_of_ble_eq_true rfl) dX3_pass_102 ⟨Nat.le_refl _, Nat.le_refl _⟩ (fun o19 H locs hU hS => ?_)
          refine kX3_3_loosen E hU hS hA0 (hL) ⟨by decide, by decide⟩ hl.1 (Nat.le_of_ble_eq_true rfl) dX3_pass_105 ⟨Nat.le_refl _, Nat.le_refl _⟩ (fun o20 H locs hU hS => ?_)
          refine x_iinc (v := (v8 + (1 : Int32))) (lv' := [(1, .int (v8 + (1 : Int32))), (0, .ref (ad (lc L 0)))]) (k := 1) hx hb dX3_pass_108 hl rfl rfl (by decide) rfl (fun ls hl => ?_)
          refine x_goto (tgt := 76) hx hb dX3_pass_111 (by decide) ?_
          exact ih9 (o20, (v8 + (1 : Int32))) _ _ _ ⟨hU, hS, _, rfl, lv_sub hl [1, 0] rfl⟩
    · refine x_aload_n hx hb dX3_pass_49 rfl (lv_at hl 0 rfl) ?_
      refine x_iload_n hx hb dX3_pass_50 rfl (lv_at hl 1 rfl) ?_
      refine kX3_3_isOpen E hU hS hA0 (hL) ⟨by decide, by decide⟩ hl.1 (Nat.le_of_ble_eq_true rfl) dX3_pass_51 ⟨Nat.le_refl _, Nat.le_refl _⟩ (fun o21 H locs hU hS => ?_)
      refine x_if_ne (tgt := 68) hx hb dX3_pass_54 (by decide) (fun hc => ?_) (fun hc => ?_)
      · refine x_iinc (v := (v5 + (1 : Int32))) (lv' := [(1, .int (v5 + (1 : Int32))), (0, .ref (ad (lc L 0)))]) (k := 1) hx hb dX3_pass_68 hl rfl rfl (by decide) rfl (fun ls hl => ?_)
        refine x_goto (tgt := 35) hx hb dX3_pass_71 (by decide) ?_
        exact ih6 (S4, (v5 + (1 : Int32))) _ _ _ ⟨hU, hS, _, rfl, lv_sub hl [1, 0] rfl⟩
      · refine x_aload_n hx hb dX3_pass_57 rfl (lv_at hl 0 rfl) ?_
        refine x_iload_n hx hb dX3_pass_58 rfl (lv_at hl 1 rfl) ?_
        refine x_aload_n hx hb dX3_pass_59 rfl (lv_at hl 0 rfl) ?_
        refine gX3_31 E hU (hL) dX3_pass_60 ?_
        refine x_iload_n hx hb dX3_pass_63 rfl (lv_at hl 1 rfl) ?_
        refine ux_ald (i := lc L 6) (n := 12) E hU.1 (lc_lt (hL) (by decide)) (ck_lc (by decide)) dX3_pass_64 ?_
        refine kX3_3_pull E hU hS hA0 (hL) ⟨by decide, by decide⟩ hl.1 (Nat.le_of_ble_eq_true rfl) dX3_pass_65 ⟨Nat.le_refl _, Nat.le_refl _⟩ (fun o22 H locs hU hS => ?_)
        refine x_iinc (v := (v5 + (1 : Int32))) (lv' := [(1, .int (v5 + (1 : Int32))), (0, .ref (ad (lc L 0)))]) (k := 1) hx hb dX3_pass_68 hl rfl rfl (by decide) rfl (fun ls hl => ?_)
        refine x_goto (tgt := 35) hx hb dX3_pass_71 (by decide) ?_
        exact ih6 (o22, (v5 + (1 : Int32))) _ _ _ ⟨hU, hS, _, rfl, lv_sub hl [1, 0] rfl⟩
  · refine x_aload_n hx hb dX3_pass_16 rfl (lv_at hl 0 rfl) ?_
    refine gX3_31 E hU (hL) dX3_pass_17 ?_
    refine x_iload_n hx hb dX3_pass_20 rfl (lv_at hl 1 rfl) ?_
    refine x_aload_n hx hb dX3_pass_21 rfl (lv_at hl 0 rfl) ?_
    refine x_iload_n hx hb dX3_pass_22 rfl (lv_at hl 1 rfl) ?_
    refine kX3_3_pulls E hU hS hA0 (hL) ⟨by decide, by decide⟩ hl.1 (Nat.le_of_ble_eq_true rfl) dX3_pass_23 ⟨Nat.le_refl _, Nat.le_refl _⟩ (fun o23 H locs hU hS => ?_)
    refine gx_ast (i := lc L 6) (n := 12) E hU hS (lc_lt (hL) (by decide)) (ck_lc (by decide)) dX3_pass_26 (fun S24 H locs hU hS _ => ?_)
    refine x_iinc (v := (v2 + (1 : Int32))) (lv' := [(1, .int (v2 + (1 : Int32))), (0, .ref (ad (lc L 0)))]) (k := 1) hx hb dX3_pass_27 hl rfl rfl (by decide) rfl (fun ls hl => ?_)
    refine x_goto (tgt := 2) hx hb dX3_pass_30 (by decide) ?_
    exact ih3 (S24, (v2 + (1 : Int32))) _ _ _ ⟨hU, hS, _, rfl, lv_sub hl [1, 0] rfl⟩
section HK
variable {ρ : Type} {p : Program} {l : Launch} {e : Env} {R : Room} {s : State} {m : MethodId} {args : Array Value} {below : List Frame} {meth : Method} {c : Code} {H : Heap} {locs : List Loc} {cells slots : Nat} {Qf : ρ → State → Prop}
variable {cc : ByteArray} {pc nL L M q0 : Nat} {ls : Array Slot} {rest : List Value}
variable {D : va_G} {ct : CT} {ck : Nat → UC} {N : Nat} {ad : Nat → Nat} {P : Nat → Nat → Option Nat} {A A0 : Nat → Prop} {S : US} {w : Int64} {h : AH} {H0 : Heap}
theorem kX1_3_pass (E : ME p m c cc nL s args RX1 D clW ct) (hG : GH D ct ad P A S h H) (hS : va_S A H0 H locs) (hA0 : ∀ q, H0.size ≤ q → A q) (hL : L < 3) (hR : 502 + 1 ≤ R.frames ∧ 8 + (2 + 11) + 20044 ≤ R.locals) (hsize : ls.size = nL) (hW : (rest.map fun v => v.category).sum ≤ 8) (hdg : decode cc pc = .ok (.invokevirtual 237, 3)) (hf : cells ≤ R.cells ∧ slots ≤ R.slots) {kp : US → Option ρ} (kk : ∀ (o : US) (H1 : Heap) (locs1 : List Loc), GH D ct ad P A o h H1 → va_S A H0 H1 locs1 → X p l e R s m args below meth c H1 locs1 cells slots Qf (kp o) (F0 m (pc + 3) ls (.ref (ad (lc L 0)) :: rest))) : X p l e R s m args below meth c H locs cells slots Qf (callK (s3_pass S ct P h L) kp) (F0 m pc ls (.ref (ad (lc L 0)) :: rest)) := gc_mod (val' := fun (o : US) => some (.ref (ad (lc L 0)))) (len := 3) (So := fun (o : US) => o) hG hS hA0 (fun o ho => rnV (As := []) E (hG.to fun _ _ => trivial) (recvU (i := lc L 0) E.2.1 hG.1 (lc_lt hL (by decide)) (ck_lc (by decide)) rfl) (mH3_pass l D ct ad P S h L hL _ o ho) (cwV 0 E.1.2.2.2.2 (lw_V q632 q453 q454 q118 q455) rfl rfl rfl (by decide +kernel) hR) rfl hsize rfl hW hdg hf) kk
theorem kX3_3_pass (E : ME p m c cc nL s args RX3 D clW ct) (hG : GH D ct ad P A S h H) (hS : va_S A H0 H locs) (hA0 : ∀ q, H0.size ≤ q → A q) (hL : L < 3) (hR : 502 + 1 ≤ R.frames ∧ 8 + (2 + 11) + 20044 ≤ R.locals) (hsize : ls.size = nL) (hW : (rest.map fun v => v.category).sum ≤ 8) (hdg : decode cc pc = .ok (.invokevirtual 147, 3)) (hf : cells ≤ R.cells ∧ slots ≤ R.slots) {kp : US → Option ρ} (kk : ∀ (o : US) (H1 : Heap) (locs1 : List Loc), GH D ct ad P A o h H1 → va_S A H0 H1 locs1 → X p l e R s m args below meth c H1 locs1 cells slots Qf (kp o) (F0 m (pc + 3) ls (.ref (ad (lc L 0)) :: rest))) : X p l e R s m args below meth c H locs cells slots Qf (callK (s3_pass S ct P h L) kp) (F0 m pc ls (.ref (ad (lc L 0)) :: rest)) := gc_mod (val' := fun (o : US) => some (.ref (ad (lc L 0)))) (len := 3) (So := fun (o : US) => o) hG hS hA0 (fun o ho => rnV (As := []) E (hG.to fun _ _ => trivial) (recvU (i := lc L 0) E.2.1 hG.1 (lc_lt hL (by decide)) (ck_lc (by decide)) rfl) (mH3_pass l D ct ad P S h L hL _ o ho) (cwV 0 E.1.2.2.2.2 (lw_V q452 q453 q454 q118 q455) rfl rfl rfl (by decide +kernel) hR) rfl hsize rfl hW hdg hf) kk
end HK

set_option maxHeartbeats 4000000 in
theorem mH1_opensIn (l : Launch) (D : va_G) (ct : CT) (ad : Nat → Nat) (P : Nat → Nat → Option Nat) (S : US) (h : AH) (p1 : Int32) (sz : Nat) (o : (Int32 × US)) (ho : s1_opensIn S ct P h p1 = some o) : Met l yX1_opensIn (ws_ yX1_opensIn cX1_opensIn 3 (some .int)) { frames := 503, cells := 0, slots := 0, locals := 20065 } (mP D clW ct [.ref (ad (0)), .int p1] sz (GH D ct ad P (fun _ => True) S h)) (mC (some (.int o.1)) (UW D clW ckH ct 26 ad P (fun _ => True) o.2 0) (uA 26 ad sz)) 0 0 (uA 26 ad sz) := by
  refine X.start (val := fun (o : (Int32 × US)) => some (.int o.1)) (Bt := fun (o : (Int32 × US)) => UW D clW ckH ct 26 ad P (fun _ => True) o.2 0) (A := uA 26 ad sz) ho (by decide) (Nat.le_of_ble_eq_true rfl) (lv := [(0, .ref (ad (0))), (1, .int p1)]) rfl ?_
  intro p e s m args below meth c E hr hlk hnm hsz hU ls hl
  subst hsz
  obtain ⟨⟨hx, hb, hml, hown, hts⟩, hK, hJ⟩ := id E
  replace hU := hU.to (B := uA 26 ad s.heap.size) (fun i hi => Or.inl ⟨i, hi, rfl⟩)
  have hA0 : ∀ q, s.heap.size ≤ q → (uA 26 ad s.heap.size) q := fun q h => Or.inr h
  have hS : va_S (uA 26 ad s.heap.size) s.heap s.heap [] := va_S.rf
  unfold s1_opensIn
  refine x_aload_n hx hb dX1_opensIn_0 rfl (lv_at hl 0 rfl) ?_
  refine gX1_44 E hU dX1_opensIn_1 ?_
  refine x_aload_n hx hb dX1_opensIn_4 rfl (lv_at hl 0 rfl) ?_
  refine gX1_40 E hU dX1_opensIn_5 ?_
  refine kX1_3_be E hU hS hA0 (by decide) (by decide) ⟨by decide, by decide⟩ hl.1 (Nat.le_of_ble_eq_true rfl) dX1_opensIn_8 ⟨Nat.le_refl _, Nat.le_refl _⟩ (fun o1 H locs hU hS => ?_)
  refine x_pop hx hb dX1_opensIn_11 rfl ?_
  refine x_iconst (v := 0) hx hb dX1_opensIn_12 (by decide) ?_
  refine x_istore_n (lv' := [(2, .int (0 : Int32)), (0, .ref (ad (0))), (1, .int p1)]) hx hb dX1_opensIn_13 rfl hl (by decide) rfl (fun ls hl => ?_)
  refine X.loop (I := fun (x : (US × Int32)) g H locs => GH D ct ad P (uA 26 ad s.heap.size) x.1 h H ∧ va_S (uA 26 ad s.heap.size) s.heap H locs ∧ ∃ ls : Array Slot, g = F0 m 14 ls [] ∧ lv_has ls 3 [(0, .ref (ad (0))), (1, .int p1), (2, .int x.2)]) (fun rc4 ih4 => ?_) FUEL _ _ _ _ ⟨hU, hS, _, rfl, lv_sub hl [1, 2, 0] rfl⟩
  rintro ⟨S2, v3⟩ _ H locs ⟨hU, hS, ls, rfl, hl⟩
  have hU : GH D ct ad P (uA 26 ad s.heap.size) S2 h H := hU
  have hl : lv_has ls 3 [(0, .ref (ad (0))), (1, .int p1), (2, .int v3)] := hl
  refine X.eqs (sp2 := s1_opensIn_L14 p1 P h ct rc4 S2 v3) rfl ?_
  unfold s1_opensIn_L14
  refine x_iload_n hx hb dX1_opensIn_14 rfl (lv_at hl 2 rfl) ?_
  refine x_bipush (v := 60) hx hb dX1_opensIn_15 (by decide) ?_
  refine x_icmp_gt (tgt := 47) hx hb dX1_opensIn_17 (by decide) (fun hc => ?_) (fun hc => ?_)
  · refine x_iconst (v := -1) hx hb dX1_opensIn_47 (by decide) ?_
    exact x_iret hx hb hr hlk hS rfl (hU.1.to fun _ _ => trivial) dX1_opensIn_48
  · refine x_aload_n hx hb dX1_opensIn_20 rfl (lv_at hl 0 rfl) ?_
    refine gX1_44 E hU dX1_opensIn_21 ?_
    refine x_iload_n hx hb dX1_opensIn_24 rfl (lv_at hl 1 rfl) ?_
    refine kX1_3_isOpen E hU hS hA0 (by decide) ⟨by decide, by decide⟩ hl.1 (Nat.le_of_ble_eq_true rfl) dX1_opensIn_25 ⟨Nat.le_refl _, Nat.le_refl _⟩ (fun o5 H locs hU hS => ?_)
    refine x_if_eq (tgt := 33) hx hb dX1_opensIn_28 (by decide) (fun hc => ?_) (fun hc => ?_)
    · refine x_aload_n hx hb dX1_opensIn_33 rfl (lv_at hl 0 rfl) ?_
      refine gX1_44 E hU dX1_opensIn_34 ?_
      refine kX1_3_pass E hU hS hA0 (by decide) ⟨by decide, by decide⟩ hl.1 (Nat.le_of_ble_eq_true rfl) dX1_opensIn_37 ⟨Nat.le_refl _, Nat.le_refl _⟩ (fun o6 H locs hU hS => ?_)
      refine x_pop hx hb dX1_opensIn_40 rfl ?_
      refine x_iinc (v := (v3 + (1 : Int32))) (lv' := [(2, .int (v3 + (1 : Int32))), (0, .ref (ad (0))), (1, .int p1)]) (k := 2) hx hb dX1_opensIn_41 hl rfl rfl (by decide) rfl (fun ls hl => ?_)
      refine x_goto (tgt := 14) hx hb dX1_opensIn_44 (by decide) ?_
      exact ih4 (o6, (v3 + (1 : Int32))) _ _ _ ⟨hU, hS, _, rfl, lv_sub hl [1, 2, 0] rfl⟩
    · refine x_iload_n hx hb dX1_opensIn_31 rfl (lv_at hl 2 rfl) ?_
      exact x_iret hx hb hr hlk hS rfl (hU.1.to fun _ _ => trivial) dX1_opensIn_32
section HK
variable {ρ : Type} {p : Program} {l : Launch} {e : Env} {R : Room} {s : State} {m : MethodId} {args : Array Value} {below : List Frame} {meth : Method} {c : Code} {H : Heap} {locs : List Loc} {cells slots : Nat} {Qf : ρ → State → Prop}
variable {cc : ByteArray} {pc nL L M q0 : Nat} {ls : Array Slot} {rest : List Value}
variable {D : va_G} {ct : CT} {ck : Nat → UC} {N : Nat} {ad : Nat → Nat} {P : Nat → Nat → Option Nat} {A A0 : Nat → Prop} {S : US} {w : Int64} {h : AH} {H0 : Heap}
theorem kX1_1_opensIn {p1 : Int32} (E : ME p m c cc nL s args RX1 D clW ct) (hG : GH D ct ad P A S h H) (hS : va_S A H0 H locs) (hA0 : ∀ q, H0.size ≤ q → A q) (hR : 503 + 1 ≤ R.frames ∧ 8 + (3 + 11) + 20065 ≤ R.locals) (hsize : ls.size = nL) (hW : (rest.map fun v => v.category).sum ≤ 8) (hdg : decode cc pc = .ok (.invokevirtual 240, 3)) (hf : cells ≤ R.cells ∧ slots ≤ R.slots) {kp : (Int32 × US) → Option ρ} (kk : ∀ (o : (Int32 × US)) (H1 : Heap) (locs1 : List Loc), GH D ct ad P A o.2 h H1 → va_S A H0 H1 locs1 → X p l e R s m args below meth c H1 locs1 cells slots Qf (kp o) (F0 m (pc + 3) ls (.int o.1 :: rest))) : X p l e R s m args below meth c H locs cells slots Qf (callK (s1_opensIn S ct P h p1) kp) (F0 m pc ls (.int p1 :: .ref (ad (0)) :: rest)) := gc_mod (val' := fun (o : (Int32 × US)) => some (.int o.1)) (len := 3) (So := fun (o : (Int32 × US)) => o.2) hG hS hA0 (fun o ho => rnV (As := [.int p1]) E (hG.to fun _ _ => trivial) (recvU (i := 0) E.2.1 hG.1 (by decide) rfl rfl) (mH1_opensIn l D ct ad P S h p1 _ o ho) (cwV 1 E.1.2.2.2.2 (lw_V q626 q628 qs7 q113 q629) rfl rfl rfl (by decide +kernel) hR) rfl hsize rfl hW hdg hf) kk
end HK

set_option maxHeartbeats 4000000 in
theorem mH1_first (l : Launch) (D : va_G) (ct : CT) (ad : Nat → Nat) (P : Nat → Nat → Option Nat) (S : US) (h : AH) (sz : Nat) (o : (Int32 × US)) (ho : s1_first S ct P h = some o) : Met l yX1_first (ws_ yX1_first cX1_first 5 (some .int)) { frames := 504, cells := 0, slots := 0, locals := 20087 } (mP D clW ct [.ref (ad (0))] sz (GH D ct ad P (fun _ => True) S h)) (mC (some (.int o.1)) (UW D clW ckH ct 26 ad P (fun _ => True) o.2 0) (uA 26 ad sz)) 0 0 (uA 26 ad sz) := by
  refine X.start (val := fun (o : (Int32 × US)) => some (.int o.1)) (Bt := fun (o : (Int32 × US)) => UW D clW ckH ct 26 ad P (fun _ => True) o.2 0) (A := uA 26 ad sz) ho (by decide) (Nat.le_of_ble_eq_true rfl) (lv := [(0, .ref (ad (0)))]) rfl ?_
  intro p e s m args below meth c E hr hlk hnm hsz hU ls hl
  subst hsz
  obtain ⟨⟨hx, hb, hml, hown, hts⟩, hK, hJ⟩ := id E
  replace hU := hU.to (B := uA 26 ad s.heap.size) (fun i hi => Or.inl ⟨i, hi, rfl⟩)
  have hA0 : ∀ q, s.heap.size ≤ q → (uA 26 ad s.heap.size) q := fun q h => Or.inr h
  have hS : va_S (uA 26 ad s.heap.size) s.heap s.heap [] := va_S.rf
  unfold s1_first
  refine x_iconst (v := -1) hx hb dX1_first_0 (by decide) ?_
  refine x_istore_n (lv' := [(1, .int (-1 : Int32)), (0, .ref (ad (0)))]) hx hb dX1_first_1 rfl hl (by decide) rfl (fun ls hl => ?_)
  refine x_ldc hx hb hown (hts _ q625) dX1_first_2 ?_
  refine x_istore_n (lv' := [(2, .int (100000 : Int32)), (1, .int (-1 : Int32)), (0, .ref (ad (0)))]) hx hb dX1_first_4 rfl hl (by decide) rfl (fun ls hl => ?_)
  refine x_iconst (v := 0) hx hb dX1_first_5 (by decide) ?_
  refine x_istore_n (lv' := [(3, .int (0 : Int32)), (2, .int (100000 : Int32)), (1, .int (-1 : Int32)), (0, .ref (ad (0)))]) hx hb dX1_first_6 rfl hl (by decide) rfl (fun ls hl => ?_)
  refine X.loop (I := fun (x : (US × Int32 × Int32 × Int32)) g H locs => GH D ct ad P (uA 26 ad s.heap.size) x.1 h H ∧ va_S (uA 26 ad s.heap.size) s.heap H locs ∧ ∃ ls : Array Slot, g = F0 m 7 ls [] ∧ lv_has ls 5 [(0, .ref (ad (0))), (1, .int x.2.1), (2, .int x.2.2.1), (3, .int x.2.2.2)]) (fun rc5 ih5 => ?_) FUEL _ _ _ _ ⟨hU, hS, _, rfl, lv_sub hl [3, 2, 1, 0] rfl⟩
  rintro ⟨S1, v2, v3, v4⟩ _ H locs ⟨hU, hS, ls, rfl, hl⟩
  have hU : GH D ct ad P (uA 26 ad s.heap.size) S1 h H := hU
  have hl : lv_has ls 5 [(0, .ref (ad (0))), (1, .int v2), (2, .int v3), (3, .int v4)] := hl
  refine X.eqs (sp2 := s1_first_L7 P h ct rc5 S1 v2 v3 v4) rfl ?_
  unfold s1_first_L7
  refine x_iload_n hx hb dX1_first_7 rfl (lv_at hl 3 rfl) ?_
  refine x_aload_n hx hb dX1_first_8 rfl (lv_at hl 0 rfl) ?_
  refine gX1_31 E hU dX1_first_9 ?_
  refine gX1_115 E hU dX1_first_12 ?_
  refine x_icmp_ge (tgt := 51) hx hb dX1_first_15 (by decide) (fun hc => ?_) (fun hc => ?_)
  · refine x_iload_n hx hb dX1_first_51 rfl (lv_at hl 1 rfl) ?_
    exact x_iret hx hb hr hlk hS rfl (hU.1.to fun _ _ => trivial) dX1_first_52
  · refine x_aload_n hx hb dX1_first_18 rfl (lv_at hl 0 rfl) ?_
    refine x_iload_n hx hb dX1_first_19 rfl (lv_at hl 3 rfl) ?_
    refine kX1_1_opensIn E hU hS hA0 ⟨by decide, by decide⟩ hl.1 (Nat.le_of_ble_eq_true rfl) dX1_first_20 ⟨Nat.le_refl _, Nat.le_refl _⟩ (fun o6 H locs hU hS => ?_)
    refine x_istore (lv' := [(4, .int o6.1), (0, .ref (ad (0))), (1, .int v2), (2, .int v3), (3, .int v4)]) hx hb dX1_first_23 hl (by decide) rfl (fun ls hl => ?_)
    refine x_iload hx hb dX1_first_25 (lv_at hl 0 rfl) ?_
    refine x_iconst (v := 1) hx hb dX1_first_27 (by decide) ?_
    refine x_icmp_lt (tgt := 45) hx hb dX1_first_28 (by decide) (fun hc => ?_) (fun hc => ?_)
    · refine x_iinc (v := (v4 + (1 : Int32))) (lv' := [(3, .int (v4 + (1 : Int32))), (4, .int o6.1), (0, .ref (ad (0))), (1, .int v2), (2, .int v3)]) (k := 4) hx hb dX1_first_45 hl rfl rfl (by decide) rfl (fun ls hl => ?_)
      refine x_goto (tgt := 7) hx hb dX1_first_48 (by decide) ?_
      exact ih5 (o6.2, v2, v3, (v4 + (1 : Int32))) _ _ _ ⟨hU, hS, _, rfl, lv_sub hl [2, 3, 4, 0] rfl⟩
    · refine x_iload hx hb dX1_first_31 (lv_at hl 0 rfl) ?_
      refine x_iload_n hx hb dX1_first_33 rfl (lv_at hl 3 rfl) ?_
      refine x_icmp_lt (tgt := 40) hx hb dX1_first_34 (by decide) (fun hc => ?_) (fun hc => ?_)
      · refine x_iload_n hx hb dX1_first_40 rfl (lv_at hl 4 rfl) ?_
        refine x_istore_n (lv' := [(1, .int v4), (4, .int o6.1), (0, .ref (ad (0))), (2, .int v3), (3, .int v4)]) hx hb dX1_first_41 rfl hl (by decide) rfl (fun ls hl => ?_)
        refine x_iload hx hb dX1_first_42 (lv_at hl 1 rfl) ?_
        refine x_istore_n (lv' := [(2, .int o6.1), (1, .int v4), (4, .int o6.1), (0, .ref (ad (0))), (3, .int v4)]) hx hb dX1_first_44 rfl hl (by decide) rfl (fun ls hl => ?_)
        refine x_iinc (v := (v4 + (1 : Int32))) (lv' := [(3, .int (v4 + (1 : Int32))), (2, .int o6.1), (1, .int v4), (4, .int o6.1), (0, .ref (ad (0)))]) (k := 4) hx hb dX1_first_45 hl rfl rfl (by decide) rfl (fun ls hl => ?_)
        refine x_goto (tgt := 7) hx hb dX1_first_48 (by decide) ?_
        exact ih5 (o6.2, v4, o6.1, (v4 + (1 : Int32))) _ _ _ ⟨hU, hS, _, rfl, lv_sub hl [4, 2, 1, 0] rfl⟩
      · refine x_goto (tgt := 45) hx hb dX1_first_37 (by decide) ?_
        refine x_iinc (v := (v4 + (1 : Int32))) (lv' := [(3, .int (v4 + (1 : Int32))), (4, .int o6.1), (0, .ref (ad (0))), (1, .int v2), (2, .int v3)]) (k := 4) hx hb dX1_first_45 hl rfl rfl (by decide) rfl (fun ls hl => ?_)
        refine x_goto (tgt := 7) hx hb dX1_first_48 (by decide) ?_
        exact ih5 (o6.2, v2, v3, (v4 + (1 : Int32))) _ _ _ ⟨hU, hS, _, rfl, lv_sub hl [2, 3, 4, 0] rfl⟩

set_option maxHeartbeats 4000000 in
theorem mH3_allThread (l : Launch) (D : va_G) (ct : CT) (ad : Nat → Nat) (P : Nat → Nat → Option Nat) (S : US) (h : AH) (L : Nat) (hL : L < 3) (sz : Nat) (o : Int32) (ho : s3_allThread S P h L = some o) : Met l yX3_allThread (ws_ yX3_allThread cX3_allThread 3 (some .int)) { frames := 3, cells := 0, slots := 0, locals := 80 } (mP D clW ct [.ref (ad (lc L 0))] sz (GH D ct ad P (fun _ => True) S h)) (mC (some (.int o)) (fun _ => True) (nA sz)) 0 0 (nA sz) := by
  refine X.start (val := fun (o : Int32) => some (.int o)) (Bt := fun _ _ => True) (A := nA sz) ho (by decide) (Nat.le_of_ble_eq_true rfl) (lv := [(0, .ref (ad (lc L 0)))]) rfl ?_
  intro p e s m args below meth c E hr hlk hnm hsz hU ls hl
  subst hsz
  obtain ⟨⟨hx, hb, hml, hown, hts⟩, hK, hJ⟩ := id E
  have hA0 : ∀ q, s.heap.size ≤ q → (nA s.heap.size) q := fun q h => h
  have hS : va_S (nA s.heap.size) s.heap s.heap [] := va_S.rf
  unfold s3_allThread
  refine x_iconst (v := 0) hx hb dX3_allThread_0 (by decide) ?_
  refine x_istore_n (lv' := [(1, .int (0 : Int32)), (0, .ref (ad (lc L 0)))]) hx hb dX3_allThread_1 rfl hl (by decide) rfl (fun ls hl => ?_)
  refine x_iconst (v := 0) hx hb dX3_allThread_2 (by decide) ?_
  refine x_istore_n (lv' := [(2, .int (0 : Int32)), (1, .int (0 : Int32)), (0, .ref (ad (lc L 0)))]) hx hb dX3_allThread_3 rfl hl (by decide) rfl (fun ls hl => ?_)
  refine X.loop (I := fun (x : (Int32 × Int32)) g H locs => GH D ct ad P (fun _ => True) S h H ∧ va_S (nA s.heap.size) s.heap H locs ∧ ∃ ls : Array Slot, g = F0 m 4 ls [] ∧ lv_has ls 3 [(0, .ref (ad (lc L 0))), (1, .int x.1), (2, .int x.2)]) (fun rc3 ih3 => ?_) FUEL _ _ _ _ ⟨hU, hS, _, rfl, lv_sub hl [2, 1, 0] rfl⟩
  rintro ⟨v1, v2⟩ _ H locs ⟨hU, hS, ls, rfl, hl⟩
  have hU : GH D ct ad P (fun _ => True) S h H := hU
  have hl : lv_has ls 3 [(0, .ref (ad (lc L 0))), (1, .int v1), (2, .int v2)] := hl
  refine X.eqs (sp2 := s3_allThread_L4 L S P h rc3 v1 v2) rfl ?_
  unfold s3_allThread_L4
  refine x_iload_n hx hb dX3_allThread_4 rfl (lv_at hl 2 rfl) ?_
  refine x_aload_n hx hb dX3_allThread_5 rfl (lv_at hl 0 rfl) ?_
  refine gX3_3 E hU (hL) dX3_allThread_6 ?_
  refine gX3_45 E hU dX3_allThread_9 ?_
  refine kX3_2_women E hU hS hA0 ⟨by decide, by decide⟩ hl.1 (Nat.le_of_ble_eq_true rfl) dX3_allThread_12 ⟨Nat.le_refl _, Nat.le_refl _⟩ (fun o4 H locs hU hS => ?_)
  refine x_icmp_ge (tgt := 33) hx hb dX3_allThread_15 (by decide) (fun hc => ?_) (fun hc => ?_)
  · refine x_iload_n hx hb dX3_allThread_33 rfl (lv_at hl 1 rfl) ?_
    exact x_iret hx hb hr hlk hS rfl trivial dX3_allThread_34
  · refine x_iload_n hx hb dX3_allThread_18 rfl (lv_at hl 1 rfl) ?_
    refine x_aload_n hx hb dX3_allThread_19 rfl (lv_at hl 0 rfl) ?_
    refine gX3_28 E hU (hL) dX3_allThread_20 ?_
    refine x_iload_n hx hb dX3_allThread_23 rfl (lv_at hl 2 rfl) ?_
    refine ux_ald (i := lc L 5) (n := 6) E hU.1 (lc_lt (hL) (by decide)) (ck_lc (by decide)) dX3_allThread_24 ?_
    refine x_iadd hx hb dX3_allThread_25 ?_
    refine x_istore_n (lv' := [(1, .int (v1 + (S (lc L 5) v2.toNatClampNeg))), (0, .ref (ad (lc L 0))), (2, .int v2)]) hx hb dX3_allThread_26 rfl hl (by decide) rfl (fun ls hl => ?_)
    refine x_iinc (v := (v2 + (1 : Int32))) (lv' := [(2, .int (v2 + (1 : Int32))), (1, .int (v1 + (S (lc L 5) v2.toNatClampNeg))), (0, .ref (ad (lc L 0)))]) (k := 2) hx hb dX3_allThread_27 hl rfl rfl (by decide) rfl (fun ls hl => ?_)
    refine x_goto (tgt := 4) hx hb dX3_allThread_30 (by decide) ?_
    exact ih3 ((v1 + (S (lc L 5) v2.toNatClampNeg)), (v2 + (1 : Int32))) _ _ _ ⟨hU, hS, _, rfl, lv_sub hl [2, 1, 0] rfl⟩
section HK
variable {ρ : Type} {p : Program} {l : Launch} {e : Env} {R : Room} {s : State} {m : MethodId} {args : Array Value} {below : List Frame} {meth : Method} {c : Code} {H : Heap} {locs : List Loc} {cells slots : Nat} {Qf : ρ → State → Prop}
variable {cc : ByteArray} {pc nL L M q0 : Nat} {ls : Array Slot} {rest : List Value}
variable {D : va_G} {ct : CT} {ck : Nat → UC} {N : Nat} {ad : Nat → Nat} {P : Nat → Nat → Option Nat} {A A0 : Nat → Prop} {S : US} {w : Int64} {h : AH} {H0 : Heap}
theorem kX1_3_allThread (E : ME p m c cc nL s args RX1 D clW ct) (hG : GH D ct ad P A S h H) (hS : va_S A0 H0 H locs) (hA0 : ∀ q, H0.size ≤ q → A0 q) (hL : L < 3) (hR : 3 + 1 ≤ R.frames ∧ 8 + (3 + 11) + 80 ≤ R.locals) (hsize : ls.size = nL) (hW : (rest.map fun v => v.category).sum ≤ 8) (hdg : decode cc pc = .ok (.invokevirtual 138, 3)) (hf : cells ≤ R.cells ∧ slots ≤ R.slots) {kp : Int32 → Option ρ} (kk : ∀ (o : Int32) (H1 : Heap) (locs1 : List Loc), GH D ct ad P A S h H1 → va_S A0 H0 H1 locs1 → X p l e R s m args below meth c H1 locs1 cells slots Qf (kp o) (F0 m (pc + 3) ls (.int o :: rest))) : X p l e R s m args below meth c H locs cells slots Qf (callK (s3_allThread S P h L) kp) (F0 m pc ls (.ref (ad (lc L 0)) :: rest)) := gc_ro (val' := fun (o : Int32) => some (.int o)) (len := 3) hG hS hA0 (fun o ho => rnV (As := []) E (hG.to fun _ _ => trivial) (recvU (i := lc L 0) E.2.1 hG.1 (lc_lt hL (by decide)) (ck_lc (by decide)) rfl) (mH3_allThread l D ct ad P S h L hL _ o ho) (cwV 0 E.1.2.2.2.2 (lw_V q637 q638 q639 q118 q640) rfl rfl rfl (by decide +kernel) hR) rfl hsize rfl hW hdg hf) kk
end HK

set_option maxHeartbeats 4000000 in
theorem mH1_spent (l : Launch) (D : va_G) (ct : CT) (ad : Nat → Nat) (P : Nat → Nat → Option Nat) (S : US) (h : AH) (sz : Nat) (o : (Int32 × US)) (ho : s1_spent S ct P h = some o) : Met l yX1_spent (ws_ yX1_spent cX1_spent 2 (some .int)) { frames := 503, cells := 0, slots := 0, locals := 20065 } (mP D clW ct [.ref (ad (0))] sz (GH D ct ad P (fun _ => True) S h)) (mC (some (.int o.1)) (UW D clW ckH ct 26 ad P (fun _ => True) o.2 0) (uA 26 ad sz)) 0 0 (uA 26 ad sz) := by
  refine X.start (val := fun (o : (Int32 × US)) => some (.int o.1)) (Bt := fun (o : (Int32 × US)) => UW D clW ckH ct 26 ad P (fun _ => True) o.2 0) (A := uA 26 ad sz) ho (by decide) (Nat.le_of_ble_eq_true rfl) (lv := [(0, .ref (ad (0)))]) rfl ?_
  intro p e s m args below meth c E hr hlk hnm hsz hU ls hl
  subst hsz
  obtain ⟨⟨hx, hb, hml, hown, hts⟩, hK, hJ⟩ := id E
  replace hU := hU.to (B := uA 26 ad s.heap.size) (fun i hi => Or.inl ⟨i, hi, rfl⟩)
  have hA0 : ∀ q, s.heap.size ≤ q → (uA 26 ad s.heap.size) q := fun q h => Or.inr h
  have hS : va_S (uA 26 ad s.heap.size) s.heap s.heap [] := va_S.rf
  unfold s1_spent
  refine x_aload_n hx hb dX1_spent_0 rfl (lv_at hl 0 rfl) ?_
  refine gX1_44 E hU dX1_spent_1 ?_
  refine x_aload_n hx hb dX1_spent_4 rfl (lv_at hl 0 rfl) ?_
  refine gX1_40 E hU dX1_spent_5 ?_
  refine kX1_3_be E hU hS hA0 (by decide) (by decide) ⟨by decide, by decide⟩ hl.1 (Nat.le_of_ble_eq_true rfl) dX1_spent_8 ⟨Nat.le_refl _, Nat.le_refl _⟩ (fun o1 H locs hU hS => ?_)
  refine x_pop hx hb dX1_spent_11 rfl ?_
  refine x_iconst (v := 0) hx hb dX1_spent_12 (by decide) ?_
  refine x_istore_n (lv' := [(1, .int (0 : Int32)), (0, .ref (ad (0)))]) hx hb dX1_spent_13 rfl hl (by decide) rfl (fun ls hl => ?_)
  refine X.loop (I := fun (x : (US × Int32)) g H locs => GH D ct ad P (uA 26 ad s.heap.size) x.1 h H ∧ va_S (uA 26 ad s.heap.size) s.heap H locs ∧ ∃ ls : Array Slot, g = F0 m 14 ls [] ∧ lv_has ls 2 [(0, .ref (ad (0))), (1, .int x.2)]) (fun rc4 ih4 => ?_) FUEL _ _ _ _ ⟨hU, hS, _, rfl, lv_sub hl [1, 0] rfl⟩
  rintro ⟨S2, v3⟩ _ H locs ⟨hU, hS, ls, rfl, hl⟩
  have hU : GH D ct ad P (uA 26 ad s.heap.size) S2 h H := hU
  have hl : lv_has ls 2 [(0, .ref (ad (0))), (1, .int v3)] := hl
  refine X.eqs (sp2 := s1_spent_L14 P h ct rc4 S2 v3) rfl ?_
  unfold s1_spent_L14
  refine x_iload_n hx hb dX1_spent_14 rfl (lv_at hl 1 rfl) ?_
  refine x_bipush (v := 60) hx hb dX1_spent_15 (by decide) ?_
  refine x_icmp_gt (tgt := 46) hx hb dX1_spent_17 (by decide) (fun hc => ?_) (fun hc => ?_)
  · refine x_iconst (v := -1) hx hb dX1_spent_46 (by decide) ?_
    exact x_iret hx hb hr hlk hS rfl (hU.1.to fun _ _ => trivial) dX1_spent_47
  · refine x_aload_n hx hb dX1_spent_20 rfl (lv_at hl 0 rfl) ?_
    refine gX1_44 E hU dX1_spent_21 ?_
    refine kX1_3_allThread E hU hS hA0 (by decide) ⟨by decide, by decide⟩ hl.1 (Nat.le_of_ble_eq_true rfl) dX1_spent_24 ⟨Nat.le_refl _, Nat.le_refl _⟩ (fun o5 H locs hU hS => ?_)
    refine x_if_ne (tgt := 32) hx hb dX1_spent_27 (by decide) (fun hc => ?_) (fun hc => ?_)
    · refine x_aload_n hx hb dX1_spent_32 rfl (lv_at hl 0 rfl) ?_
      refine gX1_44 E hU dX1_spent_33 ?_
      refine kX1_3_pass E hU hS hA0 (by decide) ⟨by decide, by decide⟩ hl.1 (Nat.le_of_ble_eq_true rfl) dX1_spent_36 ⟨Nat.le_refl _, Nat.le_refl _⟩ (fun o6 H locs hU hS => ?_)
      refine x_pop hx hb dX1_spent_39 rfl ?_
      refine x_iinc (v := (v3 + (1 : Int32))) (lv' := [(1, .int (v3 + (1 : Int32))), (0, .ref (ad (0)))]) (k := 1) hx hb dX1_spent_40 hl rfl rfl (by decide) rfl (fun ls hl => ?_)
      refine x_goto (tgt := 14) hx hb dX1_spent_43 (by decide) ?_
      exact ih4 (o6, (v3 + (1 : Int32))) _ _ _ ⟨hU, hS, _, rfl, lv_sub hl [1, 0] rfl⟩
    · refine x_iload_n hx hb dX1_spent_30 rfl (lv_at hl 1 rfl) ?_
      exact x_iret hx hb hr hlk hS rfl (hU.1.to fun _ _ => trivial) dX1_spent_31

set_option maxHeartbeats 4000000 in
theorem mH3_isLike (l : Launch) (D : va_G) (ct : CT) (ad : Nat → Nat) (P : Nat → Nat → Option Nat) (S : US) (h : AH) (L : Nat) (M : Nat) (hL : L < 3) (hM : M < 3) (sz : Nat) (o : Bool) (ho : s3_isLike S L M = some o) : Met l yX3_isLike (ws_ yX3_isLike cX3_isLike 4 (some .boolean)) { frames := 1, cells := 0, slots := 0, locals := 40 } (mP D clW ct [.ref (ad (lc L 0)), .ref (ad (lc M 0))] sz (GH D ct ad P (fun _ => True) S h)) (mC (some (.int (bI o))) (fun _ => True) (nA sz)) 0 0 (nA sz) := by
  refine X.start (val := fun (o : Bool) => some (.int (bI o))) (Bt := fun _ _ => True) (A := nA sz) ho (by decide) (Nat.le_of_ble_eq_true rfl) (lv := [(0, .ref (ad (lc L 0))), (1, .ref (ad (lc M 0)))]) rfl ?_
  intro p e s m args below meth c E hr hlk hnm hsz hU ls hl
  subst hsz
  obtain ⟨⟨hx, hb, hml, hown, hts⟩, hK, hJ⟩ := id E
  have hA0 : ∀ q, s.heap.size ≤ q → (nA s.heap.size) q := fun q h => h
  have hS : va_S (nA s.heap.size) s.heap s.heap [] := va_S.rf
  unfold s3_isLike
  refine x_iconst (v := 1) hx hb dX3_isLike_0 (by decide) ?_
  refine x_istore_n (lv' := [(2, .int (1 : Int32)), (0, .ref (ad (lc L 0))), (1, .ref (ad (lc M 0)))]) hx hb dX3_isLike_1 rfl hl (by decide) rfl (fun ls hl => ?_)
  refine x_iconst (v := 0) hx hb dX3_isLike_2 (by decide) ?_
  refine x_istore_n (lv' := [(3, .int (0 : Int32)), (2, .int (1 : Int32)), (0, .ref (ad (lc L 0))), (1, .ref (ad (lc M 0)))]) hx hb dX3_isLike_3 rfl hl (by decide) rfl (fun ls hl => ?_)
  refine X.loop (I := fun (x : (Int32 × Int32)) g H locs => GH D ct ad P (fun _ => True) S h H ∧ va_S (nA s.heap.size) s.heap H locs ∧ ∃ ls : Array Slot, g = F0 m 4 ls [] ∧ lv_has ls 4 [(0, .ref (ad (lc L 0))), (1, .ref (ad (lc M 0))), (2, .int x.1), (3, .int x.2)]) (fun rc3 ih3 => ?_) FUEL _ _ _ _ ⟨hU, hS, _, rfl, lv_sub hl [2, 3, 1, 0] rfl⟩
  rintro ⟨v1, v2⟩ _ H locs ⟨hU, hS, ls, rfl, hl⟩
  have hU : GH D ct ad P (fun _ => True) S h H := hU
  have hl : lv_has ls 4 [(0, .ref (ad (lc L 0))), (1, .ref (ad (lc M 0))), (2, .int v1), (3, .int v2)] := hl
  refine X.eqs (sp2 := s3_isLike_L4 L M S rc3 v1 v2) rfl ?_
  unfold s3_isLike_L4
  refine x_iload_n hx hb dX3_isLike_4 rfl (lv_at hl 3 rfl) ?_
  refine x_aload_n hx hb dX3_isLike_5 rfl (lv_at hl 0 rfl) ?_
  refine gX3_3 E hU (hL) dX3_isLike_6 ?_
  refine gX3_45 E hU dX3_isLike_9 ?_
  refine gX3_127 E hU dX3_isLike_12 ?_
  refine x_icmp_ge (tgt := 62) hx hb dX3_isLike_15 (by decide) (fun hc => ?_) (fun hc => ?_)
  · refine x_iload_n hx hb dX3_isLike_62 rfl (lv_at hl 2 rfl) ?_
    refine X.ite (fun hz => ?_) (fun _ => X.ite (fun hz => ?_) (fun _ => X.none))
    · exact x_zret hx hb hr hlk hS (by rw [hz]; rfl) (by rw [hz]; rfl) trivial dX3_isLike_63
    · exact x_zret hx hb hr hlk hS (by rw [hz]; rfl) (by rw [hz]; rfl) trivial dX3_isLike_63
  · refine x_iload_n hx hb dX3_isLike_18 rfl (lv_at hl 2 rfl) ?_
    refine x_aload_n hx hb dX3_isLike_19 rfl (lv_at hl 0 rfl) ?_
    refine gX3_15 E hU (hL) dX3_isLike_20 ?_
    refine x_iload_n hx hb dX3_isLike_23 rfl (lv_at hl 3 rfl) ?_
    refine ux_ald (i := lc L 1) (n := 12) E hU.1 (lc_lt (hL) (by decide)) (ck_lc (by decide)) dX3_isLike_24 ?_
    refine x_aload_n hx hb dX3_isLike_25 rfl (lv_at hl 1 rfl) ?_
    refine gX3_15 E hU (hM) dX3_isLike_26 ?_
    refine x_iload_n hx hb dX3_isLike_29 rfl (lv_at hl 3 rfl) ?_
    refine ux_ald (i := lc M 1) (n := 12) E hU.1 (lc_lt (hM) (by decide)) (ck_lc (by decide)) dX3_isLike_30 ?_
    refine x_icmp_ne (tgt := 53) hx hb dX3_isLike_31 (by decide) (fun hc => ?_) (fun hc => ?_)
    · refine x_iconst (v := 0) hx hb dX3_isLike_53 (by decide) ?_
      refine x_iand hx hb dX3_isLike_54 ?_
      refine x_istore_n (lv' := [(2, .int (v1 &&& (0 : Int32))), (0, .ref (ad (lc L 0))), (1, .ref (ad (lc M 0))), (3, .int v2)]) hx hb dX3_isLike_55 rfl hl (by decide) rfl (fun ls hl => ?_)
      refine x_iinc (v := (v2 + (1 : Int32))) (lv' := [(3, .int (v2 + (1 : Int32))), (2, .int (v1 &&& (0 : Int32))), (0, .ref (ad (lc L 0))), (1, .ref (ad (lc M 0)))]) (k := 3) hx hb dX3_isLike_56 hl rfl rfl (by decide) rfl (fun ls hl => ?_)
      refine x_goto (tgt := 4) hx hb dX3_isLike_59 (by decide) ?_
      exact ih3 ((v1 &&& (0 : Int32)), (v2 + (1 : Int32))) _ _ _ ⟨hU, hS, _, rfl, lv_sub hl [2, 3, 1, 0] rfl⟩
    · refine x_aload_n hx hb dX3_isLike_34 rfl (lv_at hl 0 rfl) ?_
      refine gX3_19 E hU (hL) dX3_isLike_35 ?_
      refine x_iload_n hx hb dX3_isLike_38 rfl (lv_at hl 3 rfl) ?_
      refine ux_ald (i := lc L 2) (n := 12) E hU.1 (lc_lt (hL) (by decide)) (ck_lc (by decide)) dX3_isLike_39 ?_
      refine x_aload_n hx hb dX3_isLike_40 rfl (lv_at hl 1 rfl) ?_
      refine gX3_19 E hU (hM) dX3_isLike_41 ?_
      refine x_iload_n hx hb dX3_isLike_44 rfl (lv_at hl 3 rfl) ?_
      refine ux_ald (i := lc M 2) (n := 12) E hU.1 (lc_lt (hM) (by decide)) (ck_lc (by decide)) dX3_isLike_45 ?_
      refine x_icmp_ne (tgt := 53) hx hb dX3_isLike_46 (by decide) (fun hc => ?_) (fun hc => ?_)
      · refine x_iconst (v := 0) hx hb dX3_isLike_53 (by decide) ?_
        refine x_iand hx hb dX3_isLike_54 ?_
        refine x_istore_n (lv' := [(2, .int (v1 &&& (0 : Int32))), (0, .ref (ad (lc L 0))), (1, .ref (ad (lc M 0))), (3, .int v2)]) hx hb dX3_isLike_55 rfl hl (by decide) rfl (fun ls hl => ?_)
        refine x_iinc (v := (v2 + (1 : Int32))) (lv' := [(3, .int (v2 + (1 : Int32))), (2, .int (v1 &&& (0 : Int32))), (0, .ref (ad (lc L 0))), (1, .ref (ad (lc M 0)))]) (k := 3) hx hb dX3_isLike_56 hl rfl rfl (by decide) rfl (fun ls hl => ?_)
        refine x_goto (tgt := 4) hx hb dX3_isLike_59 (by decide) ?_
        exact ih3 ((v1 &&& (0 : Int32)), (v2 + (1 : Int32))) _ _ _ ⟨hU, hS, _, rfl, lv_sub hl [2, 3, 1, 0] rfl⟩
      · refine x_iconst (v := 1) hx hb dX3_isLike_49 (by decide) ?_
        refine x_goto (tgt := 54) hx hb dX3_isLike_50 (by decide) ?_
        refine x_iand hx hb dX3_isLike_54 ?_
        refine x_istore_n (lv' := [(2, .int (v1 &&& (1 : Int32))), (0, .ref (ad (lc L 0))), (1, .ref (ad (lc M 0))), (3, .int v2)]) hx hb dX3_isLike_55 rfl hl (by decide) rfl (fun ls hl => ?_)
        refine x_iinc (v := (v2 + (1 : Int32))) (lv' := [(3, .int (v2 + (1 : Int32))), (2, .int (v1 &&& (1 : Int32))), (0, .ref (ad (lc L 0))), (1, .ref (ad (lc M 0)))]) (k := 3) hx hb dX3_isLike_56 hl rfl rfl (by decide) rfl (fun ls hl => ?_)
        refine x_goto (tgt := 4) hx hb dX3_isLike_59 (by decide) ?_
        exact ih3 ((v1 &&& (1 : Int32)), (v2 + (1 : Int32))) _ _ _ ⟨hU, hS, _, rfl, lv_sub hl [2, 3, 1, 0] rfl⟩
section HK
variable {ρ : Type} {p : Program} {l : Launch} {e : Env} {R : Room} {s : State} {m : MethodId} {args : Array Value} {below : List Frame} {meth : Method} {c : Code} {H : Heap} {locs : List Loc} {cells slots : Nat} {Qf : ρ → State → Prop}
variable {cc : ByteArray} {pc nL L M q0 : Nat} {ls : Array Slot} {rest : List Value}
variable {D : va_G} {ct : CT} {ck : Nat → UC} {N : Nat} {ad : Nat → Nat} {P : Nat → Nat → Option Nat} {A A0 : Nat → Prop} {S : US} {w : Int64} {h : AH} {H0 : Heap}
theorem kX1_3_isLike (E : ME p m c cc nL s args RX1 D clW ct) (hG : GH D ct ad P A S h H) (hS : va_S A0 H0 H locs) (hA0 : ∀ q, H0.size ≤ q → A0 q) (hL : L < 3) (hM : M < 3) (hR : 1 + 1 ≤ R.frames ∧ 8 + (4 + 11) + 40 ≤ R.locals) (hsize : ls.size = nL) (hW : (rest.map fun v => v.category).sum ≤ 8) (hdg : decode cc pc = .ok (.invokevirtual 244, 3)) (hf : cells ≤ R.cells ∧ slots ≤ R.slots) {kp : Bool → Option ρ} (kk : ∀ (o : Bool) (H1 : Heap) (locs1 : List Loc), GH D ct ad P A S h H1 → va_S A0 H0 H1 locs1 → X p l e R s m args below meth c H1 locs1 cells slots Qf (kp o) (F0 m (pc + 3) ls (.int (bI o) :: rest))) : X p l e R s m args below meth c H locs cells slots Qf (callK (s3_isLike S L M) kp) (F0 m pc ls (.ref (ad (lc M 0)) :: .ref (ad (lc L 0)) :: rest)) := gc_ro (val' := fun (o : Bool) => some (.int (bI o))) (len := 3) hG hS hA0 (fun o ho => rnV (As := [.ref (ad (lc M 0))]) E (hG.to fun _ _ => trivial) (recvU (i := lc L 0) E.2.1 hG.1 (lc_lt hL (by decide)) (ck_lc (by decide)) rfl) (mH3_isLike l D ct ad P S h L M hL hM _ o ho) (cwV 1 E.1.2.2.2.2 (lw_V q645 q646 q647 q118 q648) rfl rfl rfl (by decide +kernel) hR) rfl hsize rfl hW hdg hf) kk
end HK

set_option maxHeartbeats 4000000 in
theorem mH1_steady (l : Launch) (D : va_G) (ct : CT) (ad : Nat → Nat) (P : Nat → Nat → Option Nat) (S : US) (h : AH) (sz : Nat) (o : (Int32 × US)) (ho : s1_steady S ct P h = some o) : Met l yX1_steady (ws_ yX1_steady cX1_steady 2 (some .int)) { frames := 503, cells := 0, slots := 0, locals := 20065 } (mP D clW ct [.ref (ad (0))] sz (GH D ct ad P (fun _ => True) S h)) (mC (some (.int o.1)) (UW D clW ckH ct 26 ad P (fun _ => True) o.2 0) (uA 26 ad sz)) 0 0 (uA 26 ad sz) := by
  refine X.start (val := fun (o : (Int32 × US)) => some (.int o.1)) (Bt := fun (o : (Int32 × US)) => UW D clW ckH ct 26 ad P (fun _ => True) o.2 0) (A := uA 26 ad sz) ho (by decide) (Nat.le_of_ble_eq_true rfl) (lv := [(0, .ref (ad (0)))]) rfl ?_
  intro p e s m args below meth c E hr hlk hnm hsz hU ls hl
  subst hsz
  obtain ⟨⟨hx, hb, hml, hown, hts⟩, hK, hJ⟩ := id E
  replace hU := hU.to (B := uA 26 ad s.heap.size) (fun i hi => Or.inl ⟨i, hi, rfl⟩)
  have hA0 : ∀ q, s.heap.size ≤ q → (uA 26 ad s.heap.size) q := fun q h => Or.inr h
  have hS : va_S (uA 26 ad s.heap.size) s.heap s.heap [] := va_S.rf
  unfold s1_steady
  refine x_aload_n hx hb dX1_steady_0 rfl (lv_at hl 0 rfl) ?_
  refine gX1_44 E hU dX1_steady_1 ?_
  refine x_aload_n hx hb dX1_steady_4 rfl (lv_at hl 0 rfl) ?_
  refine gX1_40 E hU dX1_steady_5 ?_
  refine kX1_3_be E hU hS hA0 (by decide) (by decide) ⟨by decide, by decide⟩ hl.1 (Nat.le_of_ble_eq_true rfl) dX1_steady_8 ⟨Nat.le_refl _, Nat.le_refl _⟩ (fun o1 H locs hU hS => ?_)
  refine x_pop hx hb dX1_steady_11 rfl ?_
  refine x_iconst (v := 1) hx hb dX1_steady_12 (by decide) ?_
  refine x_istore_n (lv' := [(1, .int (1 : Int32)), (0, .ref (ad (0)))]) hx hb dX1_steady_13 rfl hl (by decide) rfl (fun ls hl => ?_)
  refine X.loop (I := fun (x : (US × Int32)) g H locs => GH D ct ad P (uA 26 ad s.heap.size) x.1 h H ∧ va_S (uA 26 ad s.heap.size) s.heap H locs ∧ ∃ ls : Array Slot, g = F0 m 14 ls [] ∧ lv_has ls 2 [(0, .ref (ad (0))), (1, .int x.2)]) (fun rc4 ih4 => ?_) FUEL _ _ _ _ ⟨hU, hS, _, rfl, lv_sub hl [1, 0] rfl⟩
  rintro ⟨S2, v3⟩ _ H locs ⟨hU, hS, ls, rfl, hl⟩
  have hU : GH D ct ad P (uA 26 ad s.heap.size) S2 h H := hU
  have hl : lv_has ls 2 [(0, .ref (ad (0))), (1, .int v3)] := hl
  refine X.eqs (sp2 := s1_steady_L14 P h ct rc4 S2 v3) rfl ?_
  unfold s1_steady_L14
  refine x_iload_n hx hb dX1_steady_14 rfl (lv_at hl 1 rfl) ?_
  refine x_bipush (v := 60) hx hb dX1_steady_15 (by decide) ?_
  refine x_icmp_gt (tgt := 57) hx hb dX1_steady_17 (by decide) (fun hc => ?_) (fun hc => ?_)
  · refine x_iconst (v := -1) hx hb dX1_steady_57 (by decide) ?_
    exact x_iret hx hb hr hlk hS rfl (hU.1.to fun _ _ => trivial) dX1_steady_58
  · refine x_aload_n hx hb dX1_steady_20 rfl (lv_at hl 0 rfl) ?_
    refine gX1_47 E hU dX1_steady_21 ?_
    refine x_aload_n hx hb dX1_steady_24 rfl (lv_at hl 0 rfl) ?_
    refine gX1_44 E hU dX1_steady_25 ?_
    refine kX1_3_be E hU hS hA0 (by decide) (by decide) ⟨by decide, by decide⟩ hl.1 (Nat.le_of_ble_eq_true rfl) dX1_steady_28 ⟨Nat.le_refl _, Nat.le_refl _⟩ (fun o5 H locs hU hS => ?_)
    refine x_pop hx hb dX1_steady_31 rfl ?_
    refine x_aload_n hx hb dX1_steady_32 rfl (lv_at hl 0 rfl) ?_
    refine gX1_44 E hU dX1_steady_33 ?_
    refine kX1_3_pass E hU hS hA0 (by decide) ⟨by decide, by decide⟩ hl.1 (Nat.le_of_ble_eq_true rfl) dX1_steady_36 ⟨Nat.le_refl _, Nat.le_refl _⟩ (fun o6 H locs hU hS => ?_)
    refine x_aload_n hx hb dX1_steady_39 rfl (lv_at hl 0 rfl) ?_
    refine gX1_47 E hU dX1_steady_40 ?_
    refine kX1_3_isLike E hU hS hA0 (by decide) (by decide) ⟨by decide, by decide⟩ hl.1 (Nat.le_of_ble_eq_true rfl) dX1_steady_43 ⟨Nat.le_refl _, Nat.le_refl _⟩ (fun o7 H locs hU hS => ?_)
    refine x_if_eq (tgt := 51) hx hb dX1_steady_46 (by decide) (fun hc => ?_) (fun hc => ?_)
    · refine x_iinc (v := (v3 + (1 : Int32))) (lv' := [(1, .int (v3 + (1 : Int32))), (0, .ref (ad (0)))]) (k := 1) hx hb dX1_steady_51 hl rfl rfl (by decide) rfl (fun ls hl => ?_)
      refine x_goto (tgt := 14) hx hb dX1_steady_54 (by decide) ?_
      exact ih4 (o6, (v3 + (1 : Int32))) _ _ _ ⟨hU, hS, _, rfl, lv_sub hl [1, 0] rfl⟩
    · refine x_iload_n hx hb dX1_steady_49 rfl (lv_at hl 1 rfl) ?_
      exact x_iret hx hb hr hlk hS rfl (hU.1.to fun _ _ => trivial) dX1_steady_50

set_option maxHeartbeats 4000000 in
theorem mH1_gaps (l : Launch) (D : va_G) (ct : CT) (ad : Nat → Nat) (P : Nat → Nat → Option Nat) (S : US) (h : AH) (sz : Nat) (o : Int32) (ho : s1_gaps S = some o) : Met l yX1_gaps (ws_ yX1_gaps cX1_gaps 3 (some .int)) { frames := 2, cells := 0, slots := 0, locals := 61 } (mP D clW ct [.ref (ad (0))] sz (GH D ct ad P (fun _ => True) S h)) (mC (some (.int o)) (fun _ => True) (nA sz)) 0 0 (nA sz) := by
  refine X.start (val := fun (o : Int32) => some (.int o)) (Bt := fun _ _ => True) (A := nA sz) ho (by decide) (Nat.le_of_ble_eq_true rfl) (lv := [(0, .ref (ad (0)))]) rfl ?_
  intro p e s m args below meth c E hr hlk hnm hsz hU ls hl
  subst hsz
  obtain ⟨⟨hx, hb, hml, hown, hts⟩, hK, hJ⟩ := id E
  have hA0 : ∀ q, s.heap.size ≤ q → (nA s.heap.size) q := fun q h => h
  have hS : va_S (nA s.heap.size) s.heap s.heap [] := va_S.rf
  unfold s1_gaps
  refine x_iconst (v := 0) hx hb dX1_gaps_0 (by decide) ?_
  refine x_istore_n (lv' := [(1, .int (0 : Int32)), (0, .ref (ad (0)))]) hx hb dX1_gaps_1 rfl hl (by decide) rfl (fun ls hl => ?_)
  refine x_iconst (v := 0) hx hb dX1_gaps_2 (by decide) ?_
  refine x_istore_n (lv' := [(2, .int (0 : Int32)), (1, .int (0 : Int32)), (0, .ref (ad (0)))]) hx hb dX1_gaps_3 rfl hl (by decide) rfl (fun ls hl => ?_)
  refine X.loop (I := fun (x : (Int32 × Int32)) g H locs => GH D ct ad P (fun _ => True) S h H ∧ va_S (nA s.heap.size) s.heap H locs ∧ ∃ ls : Array Slot, g = F0 m 4 ls [] ∧ lv_has ls 3 [(0, .ref (ad (0))), (1, .int x.1), (2, .int x.2)]) (fun rc3 ih3 => ?_) FUEL _ _ _ _ ⟨hU, hS, _, rfl, lv_sub hl [2, 1, 0] rfl⟩
  rintro ⟨v1, v2⟩ _ H locs ⟨hU, hS, ls, rfl, hl⟩
  have hU : GH D ct ad P (fun _ => True) S h H := hU
  have hl : lv_has ls 3 [(0, .ref (ad (0))), (1, .int v1), (2, .int v2)] := hl
  refine X.eqs (sp2 := s1_gaps_L4 S rc3 v1 v2) rfl ?_
  unfold s1_gaps_L4
  refine x_iload_n hx hb dX1_gaps_4 rfl (lv_at hl 2 rfl) ?_
  refine x_aload_n hx hb dX1_gaps_5 rfl (lv_at hl 0 rfl) ?_
  refine gX1_31 E hU dX1_gaps_6 ?_
  refine gX1_115 E hU dX1_gaps_9 ?_
  refine x_icmp_ge (tgt := 53) hx hb dX1_gaps_12 (by decide) (fun hc => ?_) (fun hc => ?_)
  · refine x_iload_n hx hb dX1_gaps_53 rfl (lv_at hl 1 rfl) ?_
    refine x_if_ne (tgt := 72) hx hb dX1_gaps_54 (by decide) (fun hc => ?_) (fun hc => ?_)
    · refine x_iload_n hx hb dX1_gaps_72 rfl (lv_at hl 1 rfl) ?_
      exact x_iret hx hb hr hlk hS rfl trivial dX1_gaps_73
    · refine x_aload_n hx hb dX1_gaps_57 rfl (lv_at hl 0 rfl) ?_
      refine gX1_40 E hU dX1_gaps_58 ?_
      refine x_iconst (v := 0) hx hb dX1_gaps_61 (by decide) ?_
      refine kX1_3_isOpen E hU hS hA0 (by decide) ⟨by decide, by decide⟩ hl.1 (Nat.le_of_ble_eq_true rfl) dX1_gaps_62 ⟨Nat.le_refl _, Nat.le_refl _⟩ (fun o4 H locs hU hS => ?_)
      refine x_if_eq (tgt := 72) hx hb dX1_gaps_65 (by decide) (fun hc => ?_) (fun hc => ?_)
      · refine x_iload_n hx hb dX1_gaps_72 rfl (lv_at hl 1 rfl) ?_
        exact x_iret hx hb hr hlk hS rfl trivial dX1_gaps_73
      · refine x_iconst (v := 1) hx hb dX1_gaps_68 (by decide) ?_
        refine x_goto (tgt := 73) hx hb dX1_gaps_69 (by decide) ?_
        exact x_iret hx hb hr hlk hS rfl trivial dX1_gaps_73
  · refine x_aload_n hx hb dX1_gaps_15 rfl (lv_at hl 0 rfl) ?_
    refine gX1_40 E hU dX1_gaps_16 ?_
    refine x_iload_n hx hb dX1_gaps_19 rfl (lv_at hl 2 rfl) ?_
    refine kX1_3_isOpen E hU hS hA0 (by decide) ⟨by decide, by decide⟩ hl.1 (Nat.le_of_ble_eq_true rfl) dX1_gaps_20 ⟨Nat.le_refl _, Nat.le_refl _⟩ (fun o5 H locs hU hS => ?_)
    refine x_if_eq (tgt := 47) hx hb dX1_gaps_23 (by decide) (fun hc => ?_) (fun hc => ?_)
    · refine x_iinc (v := (v2 + (1 : Int32))) (lv' := [(2, .int (v2 + (1 : Int32))), (0, .ref (ad (0))), (1, .int v1)]) (k := 2) hx hb dX1_gaps_47 hl rfl rfl (by decide) rfl (fun ls hl => ?_)
      refine x_goto (tgt := 4) hx hb dX1_gaps_50 (by decide) ?_
      exact ih3 (v1, (v2 + (1 : Int32))) _ _ _ ⟨hU, hS, _, rfl, lv_sub hl [1, 2, 0] rfl⟩
    · refine x_aload_n hx hb dX1_gaps_26 rfl (lv_at hl 0 rfl) ?_
      refine gX1_40 E hU dX1_gaps_27 ?_
      refine x_aload_n hx hb dX1_gaps_30 rfl (lv_at hl 0 rfl) ?_
      refine gX1_31 E hU dX1_gaps_31 ?_
      refine x_iload_n hx hb dX1_gaps_34 rfl (lv_at hl 2 rfl) ?_
      refine kX1_2_before E hU hS hA0 ⟨by decide, by decide⟩ hl.1 (Nat.le_of_ble_eq_true rfl) dX1_gaps_35 ⟨Nat.le_refl _, Nat.le_refl _⟩ (fun o6 H locs hU hS => ?_)
      refine kX1_3_isOpen E hU hS hA0 (by decide) ⟨by decide, by decide⟩ hl.1 (Nat.le_of_ble_eq_true rfl) dX1_gaps_38 ⟨Nat.le_refl _, Nat.le_refl _⟩ (fun o7 H locs hU hS => ?_)
      refine x_if_ne (tgt := 47) hx hb dX1_gaps_41 (by decide) (fun hc => ?_) (fun hc => ?_)
      · refine x_iinc (v := (v2 + (1 : Int32))) (lv' := [(2, .int (v2 + (1 : Int32))), (0, .ref (ad (0))), (1, .int v1)]) (k := 2) hx hb dX1_gaps_47 hl rfl rfl (by decide) rfl (fun ls hl => ?_)
        refine x_goto (tgt := 4) hx hb dX1_gaps_50 (by decide) ?_
        exact ih3 (v1, (v2 + (1 : Int32))) _ _ _ ⟨hU, hS, _, rfl, lv_sub hl [1, 2, 0] rfl⟩
      · refine x_iinc (v := (v1 + (1 : Int32))) (lv' := [(1, .int (v1 + (1 : Int32))), (0, .ref (ad (0))), (2, .int v2)]) (k := 1) hx hb dX1_gaps_44 hl rfl rfl (by decide) rfl (fun ls hl => ?_)
        refine x_iinc (v := (v2 + (1 : Int32))) (lv' := [(2, .int (v2 + (1 : Int32))), (1, .int (v1 + (1 : Int32))), (0, .ref (ad (0)))]) (k := 2) hx hb dX1_gaps_47 hl rfl rfl (by decide) rfl (fun ls hl => ?_)
        refine x_goto (tgt := 4) hx hb dX1_gaps_50 (by decide) ?_
        exact ih3 ((v1 + (1 : Int32)), (v2 + (1 : Int32))) _ _ _ ⟨hU, hS, _, rfl, lv_sub hl [2, 1, 0] rfl⟩

set_option maxHeartbeats 4000000 in
theorem mH1_right (l : Launch) (D : va_G) (ct : CT) (p1 : Int32) (sz : Nat) (o : Unit) (ho : s1_right p1 = some o) : Met l yX1_right (ws_ yX1_right cX1_right 1 none) { frames := 1, cells := 0, slots := 0, locals := 40 } (mP D clW ct [.int p1] sz (fun _ => True)) (mC (none) (fun _ => True) (nA sz)) 0 0 (nA sz) := by
  refine X.start (val := fun (o : Unit) => none) (Bt := fun _ _ => True) (A := nA sz) ho (by decide) (Nat.le_of_ble_eq_true rfl) (lv := [(0, .int p1)]) rfl ?_
  intro p e s m args below meth c E hr hlk hnm hsz hU ls hl
  subst hsz
  obtain ⟨⟨hx, hb, hml, hown, hts⟩, hK, hJ⟩ := id E
  have hA0 : ∀ q, s.heap.size ≤ q → (nA s.heap.size) q := fun q h => h
  have hS : va_S (nA s.heap.size) s.heap s.heap [] := va_S.rf
  unfold s1_right
  refine x_iload_n hx hb dX1_right_0 rfl (lv_at hl 0 rfl) ?_
  refine x_if_ne (tgt := 12) hx hb dX1_right_1 (by decide) (fun hc => ?_) (fun hc => ?_)
  · exact x_vret hx hb hr hlk hS rfl trivial dX1_right_12
  · exact X.none
section HK
variable {ρ : Type} {p : Program} {l : Launch} {e : Env} {R : Room} {s : State} {m : MethodId} {args : Array Value} {below : List Frame} {meth : Method} {c : Code} {H : Heap} {locs : List Loc} {cells slots : Nat} {Qf : ρ → State → Prop}
variable {cc : ByteArray} {pc nL L M q0 : Nat} {ls : Array Slot} {rest : List Value}
variable {D : va_G} {ct : CT} {ck : Nat → UC} {N : Nat} {ad : Nat → Nat} {P : Nat → Nat → Option Nat} {A A0 : Nat → Prop} {S : US} {w : Int64} {h : AH} {H0 : Heap}
theorem kX1_1_right {p1 : Int32} (E : ME p m c cc nL s args RX1 D clW ct) (hS : va_S A0 H0 H locs) (hA0 : ∀ q, H0.size ≤ q → A0 q) (hR : 1 + 1 ≤ R.frames ∧ 8 + (1 + 11) + 40 ≤ R.locals) (hsize : ls.size = nL) (hW : (rest.map fun v => v.category).sum ≤ 8) (hdg : decode cc pc = .ok (.invokestatic 74, 3)) (hf : cells ≤ R.cells ∧ slots ≤ R.slots) {kp : Unit → Option ρ} (kk : ∀ (o : Unit) (H1 : Heap) (locs1 : List Loc), H.size ≤ H1.size → (∀ q : Nat, q < H.size → H1[q]? = H[q]?) → va_S A0 H0 H1 locs1 → X p l e R s m args below meth c H1 locs1 cells slots Qf (kp o) (F0 m (pc + 3) ls (rest))) : X p l e R s m args below meth c H locs cells slots Qf (callK (s1_right p1) kp) (F0 m pc ls (.int p1 :: rest)) := gc_pure (val' := fun (o : Unit) => none) (len := 3) hS hA0 (fun o ho => rnS (As := [.int p1]) (B := fun _ => True) E trivial (mH1_right l D ct p1 _ o ho) (va_cwS 1 E.1.2.2.2.2 (lw_S q699 q700 q113 q701) rfl rfl rfl (by decide +kernel) hR) rfl hsize rfl hW hdg hf) kk
end HK

set_option maxHeartbeats 4000000 in
theorem mH1_isOf (l : Launch) (D : va_G) (ct : CT) (p1 : Int32) (p2 : Int32) (sz : Nat) (o : Bool) (ho : s1_isOf p1 p2 = some o) : Met l yX1_isOf (ws_ yX1_isOf cX1_isOf 2 (some .boolean)) { frames := 1, cells := 0, slots := 0, locals := 40 } (mP D clW ct [.int p1, .int p2] sz (fun _ => True)) (mC (some (.int (bI o))) (fun _ => True) (nA sz)) 0 0 (nA sz) := by
  refine X.start (val := fun (o : Bool) => some (.int (bI o))) (Bt := fun _ _ => True) (A := nA sz) ho (by decide) (Nat.le_of_ble_eq_true rfl) (lv := [(0, .int p1), (1, .int p2)]) rfl ?_
  intro p e s m args below meth c E hr hlk hnm hsz hU ls hl
  subst hsz
  obtain ⟨⟨hx, hb, hml, hown, hts⟩, hK, hJ⟩ := id E
  have hA0 : ∀ q, s.heap.size ≤ q → (nA s.heap.size) q := fun q h => h
  have hS : va_S (nA s.heap.size) s.heap s.heap [] := va_S.rf
  unfold s1_isOf
  refine x_iload_n hx hb dX1_isOf_0 rfl (lv_at hl 0 rfl) ?_
  refine x_iload_n hx hb dX1_isOf_1 rfl (lv_at hl 1 rfl) ?_
  refine x_ishr hx hb dX1_isOf_2 ?_
  refine x_iconst (v := 1) hx hb dX1_isOf_3 (by decide) ?_
  refine x_iand hx hb dX1_isOf_4 ?_
  refine x_iconst (v := 1) hx hb dX1_isOf_5 (by decide) ?_
  refine x_icmp_ne (tgt := 13) hx hb dX1_isOf_6 (by decide) (fun hc => ?_) (fun hc => ?_)
  · refine x_iconst (v := 0) hx hb dX1_isOf_13 (by decide) ?_
    exact x_zret hx hb hr hlk hS rfl rfl trivial dX1_isOf_14
  · refine x_iconst (v := 1) hx hb dX1_isOf_9 (by decide) ?_
    refine x_goto (tgt := 14) hx hb dX1_isOf_10 (by decide) ?_
    exact x_zret hx hb hr hlk hS rfl rfl trivial dX1_isOf_14
section HK
variable {ρ : Type} {p : Program} {l : Launch} {e : Env} {R : Room} {s : State} {m : MethodId} {args : Array Value} {below : List Frame} {meth : Method} {c : Code} {H : Heap} {locs : List Loc} {cells slots : Nat} {Qf : ρ → State → Prop}
variable {cc : ByteArray} {pc nL L M q0 : Nat} {ls : Array Slot} {rest : List Value}
variable {D : va_G} {ct : CT} {ck : Nat → UC} {N : Nat} {ad : Nat → Nat} {P : Nat → Nat → Option Nat} {A A0 : Nat → Prop} {S : US} {w : Int64} {h : AH} {H0 : Heap}
theorem kX1_1_isOf {p1 : Int32} {p2 : Int32} (E : ME p m c cc nL s args RX1 D clW ct) (hS : va_S A0 H0 H locs) (hA0 : ∀ q, H0.size ≤ q → A0 q) (hR : 1 + 1 ≤ R.frames ∧ 8 + (2 + 11) + 40 ≤ R.locals) (hsize : ls.size = nL) (hW : (rest.map fun v => v.category).sum ≤ 8) (hdg : decode cc pc = .ok (.invokestatic 258, 3)) (hf : cells ≤ R.cells ∧ slots ≤ R.slots) {kp : Bool → Option ρ} (kk : ∀ (o : Bool) (H1 : Heap) (locs1 : List Loc), H.size ≤ H1.size → (∀ q : Nat, q < H.size → H1[q]? = H[q]?) → va_S A0 H0 H1 locs1 → X p l e R s m args below meth c H1 locs1 cells slots Qf (kp o) (F0 m (pc + 3) ls (.int (bI o) :: rest))) : X p l e R s m args below meth c H locs cells slots Qf (callK (s1_isOf p1 p2) kp) (F0 m pc ls (.int p2 :: .int p1 :: rest)) := gc_pure (val' := fun (o : Bool) => some (.int (bI o))) (len := 3) hS hA0 (fun o ho => rnS (As := [.int p1, .int p2]) (B := fun _ => True) E trivial (mH1_isOf l D ct p1 p2 _ o ho) (va_cwS 2 E.1.2.2.2.2 (lw_S q1549 q956 q113 q957) rfl rfl rfl (by decide +kernel) hR) rfl hsize rfl hW hdg hf) kk
end HK

set_option maxHeartbeats 4000000 in
theorem mH1_found (l : Launch) (D : va_G) (ct : CT) (p1 : Int32) (sz : Nat) (o : Unit) (ho : s1_found p1 = some o) : Met l yX1_found (ws_ yX1_found cX1_found 1 none) { frames := 1, cells := 0, slots := 0, locals := 40 } (mP D clW ct [.int p1] sz (fun _ => True)) (mC (none) (fun _ => True) (nA sz)) 0 0 (nA sz) := by
  refine X.start (val := fun (o : Unit) => none) (Bt := fun _ _ => True) (A := nA sz) ho (by decide) (Nat.le_of_ble_eq_true rfl) (lv := [(0, .int p1)]) rfl ?_
  intro p e s m args below meth c E hr hlk hnm hsz hU ls hl
  subst hsz
  obtain ⟨⟨hx, hb, hml, hown, hts⟩, hK, hJ⟩ := id E
  have hA0 : ∀ q, s.heap.size ≤ q → (nA s.heap.size) q := fun q h => h
  have hS : va_S (nA s.heap.size) s.heap s.heap [] := va_S.rf
  unfold s1_found
  refine x_iload_n hx hb dX1_found_0 rfl (lv_at hl 0 rfl) ?_
  refine x_if_ne (tgt := 12) hx hb dX1_found_1 (by decide) (fun hc => ?_) (fun hc => ?_)
  · exact x_vret hx hb hr hlk hS rfl trivial dX1_found_12
  · exact X.none
section HK
variable {ρ : Type} {p : Program} {l : Launch} {e : Env} {R : Room} {s : State} {m : MethodId} {args : Array Value} {below : List Frame} {meth : Method} {c : Code} {H : Heap} {locs : List Loc} {cells slots : Nat} {Qf : ρ → State → Prop}
variable {cc : ByteArray} {pc nL L M q0 : Nat} {ls : Array Slot} {rest : List Value}
variable {D : va_G} {ct : CT} {ck : Nat → UC} {N : Nat} {ad : Nat → Nat} {P : Nat → Nat → Option Nat} {A A0 : Nat → Prop} {S : US} {w : Int64} {h : AH} {H0 : Heap}
theorem kX1_1_found {p1 : Int32} (E : ME p m c cc nL s args RX1 D clW ct) (hS : va_S A0 H0 H locs) (hA0 : ∀ q, H0.size ≤ q → A0 q) (hR : 1 + 1 ≤ R.frames ∧ 8 + (1 + 11) + 40 ≤ R.locals) (hsize : ls.size = nL) (hW : (rest.map fun v => v.category).sum ≤ 8) (hdg : decode cc pc = .ok (.invokestatic 148, 3)) (hf : cells ≤ R.cells ∧ slots ≤ R.slots) {kp : Unit → Option ρ} (kk : ∀ (o : Unit) (H1 : Heap) (locs1 : List Loc), H.size ≤ H1.size → (∀ q : Nat, q < H.size → H1[q]? = H[q]?) → va_S A0 H0 H1 locs1 → X p l e R s m args below meth c H1 locs1 cells slots Qf (kp o) (F0 m (pc + 3) ls (rest))) : X p l e R s m args below meth c H locs cells slots Qf (callK (s1_found p1) kp) (F0 m pc ls (.int p1 :: rest)) := gc_pure (val' := fun (o : Unit) => none) (len := 3) hS hA0 (fun o ho => rnS (As := [.int p1]) (B := fun _ => True) E trivial (mH1_found l D ct p1 _ o ho) (va_cwS 1 E.1.2.2.2.2 (lw_S q1385 q1386 q113 q1387) rfl rfl rfl (by decide +kernel) hR) rfl hsize rfl hW hdg hf) kk
end HK

set_option maxHeartbeats 4000000 in
theorem mH1_idle (l : Launch) (D : va_G) (ct : CT) (ad : Nat → Nat) (P : Nat → Nat → Option Nat) (S : US) (h : AH) (sz : Nat) (o : Int32) (ho : s1_idle S P h = some o) : Met l yX1_idle (ws_ yX1_idle cX1_idle 3 (some .int)) { frames := 4, cells := 0, slots := 0, locals := 103 } (mP D clW ct [.ref (ad (0))] sz (GH D ct ad P (fun _ => True) S h)) (mC (some (.int o)) (fun _ => True) (nA sz)) 0 0 (nA sz) := by
  refine X.start (val := fun (o : Int32) => some (.int o)) (Bt := fun _ _ => True) (A := nA sz) ho (by decide) (Nat.le_of_ble_eq_true rfl) (lv := [(0, .ref (ad (0)))]) rfl ?_
  intro p e s m args below meth c E hr hlk hnm hsz hU ls hl
  subst hsz
  obtain ⟨⟨hx, hb, hml, hown, hts⟩, hK, hJ⟩ := id E
  have hA0 : ∀ q, s.heap.size ≤ q → (nA s.heap.size) q := fun q h => h
  have hS : va_S (nA s.heap.size) s.heap s.heap [] := va_S.rf
  unfold s1_idle
  refine x_iconst (v := 0) hx hb dX1_idle_0 (by decide) ?_
  refine x_istore_n (lv' := [(1, .int (0 : Int32)), (0, .ref (ad (0)))]) hx hb dX1_idle_1 rfl hl (by decide) rfl (fun ls hl => ?_)
  refine x_iconst (v := 0) hx hb dX1_idle_2 (by decide) ?_
  refine x_istore_n (lv' := [(2, .int (0 : Int32)), (1, .int (0 : Int32)), (0, .ref (ad (0)))]) hx hb dX1_idle_3 rfl hl (by decide) rfl (fun ls hl => ?_)
  refine X.loop (I := fun (x : (Int32 × Int32)) g H locs => GH D ct ad P (fun _ => True) S h H ∧ va_S (nA s.heap.size) s.heap H locs ∧ ∃ ls : Array Slot, g = F0 m 4 ls [] ∧ lv_has ls 3 [(0, .ref (ad (0))), (1, .int x.1), (2, .int x.2)]) (fun rc3 ih3 => ?_) FUEL _ _ _ _ ⟨hU, hS, _, rfl, lv_sub hl [2, 1, 0] rfl⟩
  rintro ⟨v1, v2⟩ _ H locs ⟨hU, hS, ls, rfl, hl⟩
  have hU : GH D ct ad P (fun _ => True) S h H := hU
  have hl : lv_has ls 3 [(0, .ref (ad (0))), (1, .int v1), (2, .int v2)] := hl
  refine X.eqs (sp2 := s1_idle_L4 S P h rc3 v1 v2) rfl ?_
  unfold s1_idle_L4
  refine x_iload_n hx hb dX1_idle_4 rfl (lv_at hl 2 rfl) ?_
  refine x_aload_n hx hb dX1_idle_5 rfl (lv_at hl 0 rfl) ?_
  refine gX1_31 E hU dX1_idle_6 ?_
  refine kX1_2_women E hU hS hA0 ⟨by decide, by decide⟩ hl.1 (Nat.le_of_ble_eq_true rfl) dX1_idle_9 ⟨Nat.le_refl _, Nat.le_refl _⟩ (fun o4 H locs hU hS => ?_)
  refine x_icmp_ge (tgt := 64) hx hb dX1_idle_12 (by decide) (fun hc => ?_) (fun hc => ?_)
  · refine x_iload_n hx hb dX1_idle_64 rfl (lv_at hl 1 rfl) ?_
    exact x_iret hx hb hr hlk hS rfl trivial dX1_idle_65
  · refine x_aload_n hx hb dX1_idle_15 rfl (lv_at hl 0 rfl) ?_
    refine gX1_40 E hU dX1_idle_16 ?_
    refine gX1_105 E hU (by decide) dX1_idle_19 ?_
    refine x_iload_n hx hb dX1_idle_22 rfl (lv_at hl 2 rfl) ?_
    refine ux_ald (i := lc 0 5) (n := 6) E hU.1 (lc_lt (by decide) (by decide)) (ck_lc (by decide)) dX1_idle_23 ?_
    refine x_if_eq (tgt := 52) hx hb dX1_idle_24 (by decide) (fun hc => ?_) (fun hc => ?_)
    · refine x_iload_n hx hb dX1_idle_52 rfl (lv_at hl 1 rfl) ?_
      refine x_iconst (v := 1) hx hb dX1_idle_53 (by decide) ?_
      refine x_iload_n hx hb dX1_idle_54 rfl (lv_at hl 2 rfl) ?_
      refine x_ishl hx hb dX1_idle_55 ?_
      refine x_ior hx hb dX1_idle_56 ?_
      refine x_istore_n (lv' := [(1, .int (v1 ||| ((1 : Int32) <<< (v2 &&& 31)))), (0, .ref (ad (0))), (2, .int v2)]) hx hb dX1_idle_57 rfl hl (by decide) rfl (fun ls hl => ?_)
      refine x_iinc (v := (v2 + (1 : Int32))) (lv' := [(2, .int (v2 + (1 : Int32))), (1, .int (v1 ||| ((1 : Int32) <<< (v2 &&& 31)))), (0, .ref (ad (0)))]) (k := 2) hx hb dX1_idle_58 hl rfl rfl (by decide) rfl (fun ls hl => ?_)
      refine x_goto (tgt := 4) hx hb dX1_idle_61 (by decide) ?_
      exact ih3 ((v1 ||| ((1 : Int32) <<< (v2 &&& 31))), (v2 + (1 : Int32))) _ _ _ ⟨hU, hS, _, rfl, lv_sub hl [2, 1, 0] rfl⟩
    · refine x_aload_n hx hb dX1_idle_27 rfl (lv_at hl 0 rfl) ?_
      refine gX1_40 E hU dX1_idle_28 ?_
      refine x_aload_n hx hb dX1_idle_31 rfl (lv_at hl 0 rfl) ?_
      refine gX1_40 E hU dX1_idle_32 ?_
      refine gX1_108 E hU (by decide) dX1_idle_35 ?_
      refine x_iload_n hx hb dX1_idle_38 rfl (lv_at hl 2 rfl) ?_
      refine ux_ald (i := lc 0 4) (n := 6) E hU.1 (lc_lt (by decide) (by decide)) (ck_lc (by decide)) dX1_idle_39 ?_
      refine kX1_3_womenAt E hU hS hA0 (by decide) ⟨by decide, by decide⟩ hl.1 (Nat.le_of_ble_eq_true rfl) dX1_idle_40 ⟨Nat.le_refl _, Nat.le_refl _⟩ (fun o5 H locs hU hS => ?_)
      refine x_iconst (v := 1) hx hb dX1_idle_43 (by decide) ?_
      refine x_iload_n hx hb dX1_idle_44 rfl (lv_at hl 2 rfl) ?_
      refine x_ishl hx hb dX1_idle_45 ?_
      refine x_iconst (v := 1) hx hb dX1_idle_46 (by decide) ?_
      refine x_isub hx hb dX1_idle_47 ?_
      refine x_iand hx hb dX1_idle_48 ?_
      refine x_if_eq (tgt := 58) hx hb dX1_idle_49 (by decide) (fun hc => ?_) (fun hc => ?_)
      · refine x_iinc (v := (v2 + (1 : Int32))) (lv' := [(2, .int (v2 + (1 : Int32))), (0, .ref (ad (0))), (1, .int v1)]) (k := 2) hx hb dX1_idle_58 hl rfl rfl (by decide) rfl (fun ls hl => ?_)
        refine x_goto (tgt := 4) hx hb dX1_idle_61 (by decide) ?_
        exact ih3 (v1, (v2 + (1 : Int32))) _ _ _ ⟨hU, hS, _, rfl, lv_sub hl [1, 2, 0] rfl⟩
      · refine x_iload_n hx hb dX1_idle_52 rfl (lv_at hl 1 rfl) ?_
        refine x_iconst (v := 1) hx hb dX1_idle_53 (by decide) ?_
        refine x_iload_n hx hb dX1_idle_54 rfl (lv_at hl 2 rfl) ?_
        refine x_ishl hx hb dX1_idle_55 ?_
        refine x_ior hx hb dX1_idle_56 ?_
        refine x_istore_n (lv' := [(1, .int (v1 ||| ((1 : Int32) <<< (v2 &&& 31)))), (0, .ref (ad (0))), (2, .int v2)]) hx hb dX1_idle_57 rfl hl (by decide) rfl (fun ls hl => ?_)
        refine x_iinc (v := (v2 + (1 : Int32))) (lv' := [(2, .int (v2 + (1 : Int32))), (1, .int (v1 ||| ((1 : Int32) <<< (v2 &&& 31)))), (0, .ref (ad (0)))]) (k := 2) hx hb dX1_idle_58 hl rfl rfl (by decide) rfl (fun ls hl => ?_)
        refine x_goto (tgt := 4) hx hb dX1_idle_61 (by decide) ?_
        exact ih3 ((v1 ||| ((1 : Int32) <<< (v2 &&& 31))), (v2 + (1 : Int32))) _ _ _ ⟨hU, hS, _, rfl, lv_sub hl [2, 1, 0] rfl⟩
section HK
variable {ρ : Type} {p : Program} {l : Launch} {e : Env} {R : Room} {s : State} {m : MethodId} {args : Array Value} {below : List Frame} {meth : Method} {c : Code} {H : Heap} {locs : List Loc} {cells slots : Nat} {Qf : ρ → State → Prop}
variable {cc : ByteArray} {pc nL L M q0 : Nat} {ls : Array Slot} {rest : List Value}
variable {D : va_G} {ct : CT} {ck : Nat → UC} {N : Nat} {ad : Nat → Nat} {P : Nat → Nat → Option Nat} {A A0 : Nat → Prop} {S : US} {w : Int64} {h : AH} {H0 : Heap}
theorem kX1_1_idle (E : ME p m c cc nL s args RX1 D clW ct) (hG : GH D ct ad P A S h H) (hS : va_S A0 H0 H locs) (hA0 : ∀ q, H0.size ≤ q → A0 q) (hR : 4 + 1 ≤ R.frames ∧ 8 + (3 + 11) + 103 ≤ R.locals) (hsize : ls.size = nL) (hW : (rest.map fun v => v.category).sum ≤ 8) (hdg : decode cc pc = .ok (.invokevirtual 141, 3)) (hf : cells ≤ R.cells ∧ slots ≤ R.slots) {kp : Int32 → Option ρ} (kk : ∀ (o : Int32) (H1 : Heap) (locs1 : List Loc), GH D ct ad P A S h H1 → va_S A0 H0 H1 locs1 → X p l e R s m args below meth c H1 locs1 cells slots Qf (kp o) (F0 m (pc + 3) ls (.int o :: rest))) : X p l e R s m args below meth c H locs cells slots Qf (callK (s1_idle S P h) kp) (F0 m pc ls (.ref (ad (0)) :: rest)) := gc_ro (val' := fun (o : Int32) => some (.int o)) (len := 3) hG hS hA0 (fun o ho => rnV (As := []) E (hG.to fun _ _ => trivial) (recvU (i := 0) E.2.1 hG.1 (by decide) rfl rfl) (mH1_idle l D ct ad P S h _ o ho) (cwV 0 E.1.2.2.2.2 (lw_V q1380 q1382 qs33 q113 q1383) rfl rfl rfl (by decide +kernel) hR) rfl hsize rfl hW hdg hf) kk
end HK

set_option maxHeartbeats 4000000 in
theorem mH3_allSeam (l : Launch) (D : va_G) (ct : CT) (ad : Nat → Nat) (P : Nat → Nat → Option Nat) (S : US) (h : AH) (L : Nat) (hL : L < 3) (sz : Nat) (o : Int32) (ho : s3_allSeam S L = some o) : Met l yX3_allSeam (ws_ yX3_allSeam cX3_allSeam 3 (some .int)) { frames := 1, cells := 0, slots := 0, locals := 40 } (mP D clW ct [.ref (ad (lc L 0))] sz (GH D ct ad P (fun _ => True) S h)) (mC (some (.int o)) (fun _ => True) (nA sz)) 0 0 (nA sz) := by
  refine X.start (val := fun (o : Int32) => some (.int o)) (Bt := fun _ _ => True) (A := nA sz) ho (by decide) (Nat.le_of_ble_eq_true rfl) (lv := [(0, .ref (ad (lc L 0)))]) rfl ?_
  intro p e s m args below meth c E hr hlk hnm hsz hU ls hl
  subst hsz
  obtain ⟨⟨hx, hb, hml, hown, hts⟩, hK, hJ⟩ := id E
  have hA0 : ∀ q, s.heap.size ≤ q → (nA s.heap.size) q := fun q h => h
  have hS : va_S (nA s.heap.size) s.heap s.heap [] := va_S.rf
  unfold s3_allSeam
  refine x_iconst (v := 0) hx hb dX3_allSeam_0 (by decide) ?_
  refine x_istore_n (lv' := [(1, .int (0 : Int32)), (0, .ref (ad (lc L 0)))]) hx hb dX3_allSeam_1 rfl hl (by decide) rfl (fun ls hl => ?_)
  refine x_iconst (v := 0) hx hb dX3_allSeam_2 (by decide) ?_
  refine x_istore_n (lv' := [(2, .int (0 : Int32)), (1, .int (0 : Int32)), (0, .ref (ad (lc L 0)))]) hx hb dX3_allSeam_3 rfl hl (by decide) rfl (fun ls hl => ?_)
  refine X.loop (I := fun (x : (Int32 × Int32)) g H locs => GH D ct ad P (fun _ => True) S h H ∧ va_S (nA s.heap.size) s.heap H locs ∧ ∃ ls : Array Slot, g = F0 m 4 ls [] ∧ lv_has ls 3 [(0, .ref (ad (lc L 0))), (1, .int x.1), (2, .int x.2)]) (fun rc3 ih3 => ?_) FUEL _ _ _ _ ⟨hU, hS, _, rfl, lv_sub hl [2, 1, 0] rfl⟩
  rintro ⟨v1, v2⟩ _ H locs ⟨hU, hS, ls, rfl, hl⟩
  have hU : GH D ct ad P (fun _ => True) S h H := hU
  have hl : lv_has ls 3 [(0, .ref (ad (lc L 0))), (1, .int v1), (2, .int v2)] := hl
  refine X.eqs (sp2 := s3_allSeam_L4 L S rc3 v1 v2) rfl ?_
  unfold s3_allSeam_L4
  refine x_iload_n hx hb dX3_allSeam_4 rfl (lv_at hl 2 rfl) ?_
  refine x_aload_n hx hb dX3_allSeam_5 rfl (lv_at hl 0 rfl) ?_
  refine gX3_3 E hU (hL) dX3_allSeam_6 ?_
  refine gX3_45 E hU dX3_allSeam_9 ?_
  refine gX3_127 E hU dX3_allSeam_12 ?_
  refine x_icmp_ge (tgt := 33) hx hb dX3_allSeam_15 (by decide) (fun hc => ?_) (fun hc => ?_)
  · refine x_iload_n hx hb dX3_allSeam_33 rfl (lv_at hl 1 rfl) ?_
    exact x_iret hx hb hr hlk hS rfl trivial dX3_allSeam_34
  · refine x_iload_n hx hb dX3_allSeam_18 rfl (lv_at hl 1 rfl) ?_
    refine x_aload_n hx hb dX3_allSeam_19 rfl (lv_at hl 0 rfl) ?_
    refine gX3_19 E hU (hL) dX3_allSeam_20 ?_
    refine x_iload_n hx hb dX3_allSeam_23 rfl (lv_at hl 2 rfl) ?_
    refine ux_ald (i := lc L 2) (n := 12) E hU.1 (lc_lt (hL) (by decide)) (ck_lc (by decide)) dX3_allSeam_24 ?_
    refine x_iadd hx hb dX3_allSeam_25 ?_
    refine x_istore_n (lv' := [(1, .int (v1 + (S (lc L 2) v2.toNatClampNeg))), (0, .ref (ad (lc L 0))), (2, .int v2)]) hx hb dX3_allSeam_26 rfl hl (by decide) rfl (fun ls hl => ?_)
    refine x_iinc (v := (v2 + (1 : Int32))) (lv' := [(2, .int (v2 + (1 : Int32))), (1, .int (v1 + (S (lc L 2) v2.toNatClampNeg))), (0, .ref (ad (lc L 0)))]) (k := 2) hx hb dX3_allSeam_27 hl rfl rfl (by decide) rfl (fun ls hl => ?_)
    refine x_goto (tgt := 4) hx hb dX3_allSeam_30 (by decide) ?_
    exact ih3 ((v1 + (S (lc L 2) v2.toNatClampNeg)), (v2 + (1 : Int32))) _ _ _ ⟨hU, hS, _, rfl, lv_sub hl [2, 1, 0] rfl⟩
section HK
variable {ρ : Type} {p : Program} {l : Launch} {e : Env} {R : Room} {s : State} {m : MethodId} {args : Array Value} {below : List Frame} {meth : Method} {c : Code} {H : Heap} {locs : List Loc} {cells slots : Nat} {Qf : ρ → State → Prop}
variable {cc : ByteArray} {pc nL L M q0 : Nat} {ls : Array Slot} {rest : List Value}
variable {D : va_G} {ct : CT} {ck : Nat → UC} {N : Nat} {ad : Nat → Nat} {P : Nat → Nat → Option Nat} {A A0 : Nat → Prop} {S : US} {w : Int64} {h : AH} {H0 : Heap}
theorem kX1_3_allSeam (E : ME p m c cc nL s args RX1 D clW ct) (hG : GH D ct ad P A S h H) (hS : va_S A0 H0 H locs) (hA0 : ∀ q, H0.size ≤ q → A0 q) (hL : L < 3) (hR : 1 + 1 ≤ R.frames ∧ 8 + (3 + 11) + 40 ≤ R.locals) (hsize : ls.size = nL) (hW : (rest.map fun v => v.category).sum ≤ 8) (hdg : decode cc pc = .ok (.invokevirtual 135, 3)) (hf : cells ≤ R.cells ∧ slots ≤ R.slots) {kp : Int32 → Option ρ} (kk : ∀ (o : Int32) (H1 : Heap) (locs1 : List Loc), GH D ct ad P A S h H1 → va_S A0 H0 H1 locs1 → X p l e R s m args below meth c H1 locs1 cells slots Qf (kp o) (F0 m (pc + 3) ls (.int o :: rest))) : X p l e R s m args below meth c H locs cells slots Qf (callK (s3_allSeam S L) kp) (F0 m pc ls (.ref (ad (lc L 0)) :: rest)) := gc_ro (val' := fun (o : Int32) => some (.int o)) (len := 3) hG hS hA0 (fun o ho => rnV (As := []) E (hG.to fun _ _ => trivial) (recvU (i := lc L 0) E.2.1 hG.1 (lc_lt hL (by decide)) (ck_lc (by decide)) rfl) (mH3_allSeam l D ct ad P S h L hL _ o ho) (cwV 0 E.1.2.2.2.2 (lw_V q1376 q1377 q1378 q118 q1379) rfl rfl rfl (by decide +kernel) hR) rfl hsize rfl hW hdg hf) kk
end HK

set_option maxHeartbeats 4000000 in
theorem mH3_open (l : Launch) (D : va_G) (ct : CT) (ad : Nat → Nat) (P : Nat → Nat → Option Nat) (S : US) (h : AH) (L : Nat) (hL : L < 3) (sz : Nat) (o : Int32) (ho : s3_open S L = some o) : Met l yX3_open (ws_ yX3_open cX3_open 3 (some .int)) { frames := 2, cells := 0, slots := 0, locals := 61 } (mP D clW ct [.ref (ad (lc L 0))] sz (GH D ct ad P (fun _ => True) S h)) (mC (some (.int o)) (fun _ => True) (nA sz)) 0 0 (nA sz) := by
  refine X.start (val := fun (o : Int32) => some (.int o)) (Bt := fun _ _ => True) (A := nA sz) ho (by decide) (Nat.le_of_ble_eq_true rfl) (lv := [(0, .ref (ad (lc L 0)))]) rfl ?_
  intro p e s m args below meth c E hr hlk hnm hsz hU ls hl
  subst hsz
  obtain ⟨⟨hx, hb, hml, hown, hts⟩, hK, hJ⟩ := id E
  have hA0 : ∀ q, s.heap.size ≤ q → (nA s.heap.size) q := fun q h => h
  have hS : va_S (nA s.heap.size) s.heap s.heap [] := va_S.rf
  unfold s3_open
  refine x_iconst (v := 0) hx hb dX3_open_0 (by decide) ?_
  refine x_istore_n (lv' := [(1, .int (0 : Int32)), (0, .ref (ad (lc L 0)))]) hx hb dX3_open_1 rfl hl (by decide) rfl (fun ls hl => ?_)
  refine x_iconst (v := 0) hx hb dX3_open_2 (by decide) ?_
  refine x_istore_n (lv' := [(2, .int (0 : Int32)), (1, .int (0 : Int32)), (0, .ref (ad (lc L 0)))]) hx hb dX3_open_3 rfl hl (by decide) rfl (fun ls hl => ?_)
  refine X.loop (I := fun (x : (Int32 × Int32)) g H locs => GH D ct ad P (fun _ => True) S h H ∧ va_S (nA s.heap.size) s.heap H locs ∧ ∃ ls : Array Slot, g = F0 m 4 ls [] ∧ lv_has ls 3 [(0, .ref (ad (lc L 0))), (1, .int x.1), (2, .int x.2)]) (fun rc3 ih3 => ?_) FUEL _ _ _ _ ⟨hU, hS, _, rfl, lv_sub hl [2, 1, 0] rfl⟩
  rintro ⟨v1, v2⟩ _ H locs ⟨hU, hS, ls, rfl, hl⟩
  have hU : GH D ct ad P (fun _ => True) S h H := hU
  have hl : lv_has ls 3 [(0, .ref (ad (lc L 0))), (1, .int v1), (2, .int v2)] := hl
  refine X.eqs (sp2 := s3_open_L4 L S rc3 v1 v2) rfl ?_
  unfold s3_open_L4
  refine x_iload_n hx hb dX3_open_4 rfl (lv_at hl 2 rfl) ?_
  refine x_aload_n hx hb dX3_open_5 rfl (lv_at hl 0 rfl) ?_
  refine gX3_3 E hU (hL) dX3_open_6 ?_
  refine gX3_45 E hU dX3_open_9 ?_
  refine gX3_127 E hU dX3_open_12 ?_
  refine x_icmp_ge (tgt := 38) hx hb dX3_open_15 (by decide) (fun hc => ?_) (fun hc => ?_)
  · refine x_iload_n hx hb dX3_open_38 rfl (lv_at hl 1 rfl) ?_
    exact x_iret hx hb hr hlk hS rfl trivial dX3_open_39
  · refine x_aload_n hx hb dX3_open_18 rfl (lv_at hl 0 rfl) ?_
    refine x_iload_n hx hb dX3_open_19 rfl (lv_at hl 2 rfl) ?_
    refine kX3_3_isOpen E hU hS hA0 (hL) ⟨by decide, by decide⟩ hl.1 (Nat.le_of_ble_eq_true rfl) dX3_open_20 ⟨Nat.le_refl _, Nat.le_refl _⟩ (fun o4 H locs hU hS => ?_)
    refine x_if_eq (tgt := 32) hx hb dX3_open_23 (by decide) (fun hc => ?_) (fun hc => ?_)
    · refine x_iinc (v := (v2 + (1 : Int32))) (lv' := [(2, .int (v2 + (1 : Int32))), (0, .ref (ad (lc L 0))), (1, .int v1)]) (k := 2) hx hb dX3_open_32 hl rfl rfl (by decide) rfl (fun ls hl => ?_)
      refine x_goto (tgt := 4) hx hb dX3_open_35 (by decide) ?_
      exact ih3 (v1, (v2 + (1 : Int32))) _ _ _ ⟨hU, hS, _, rfl, lv_sub hl [1, 2, 0] rfl⟩
    · refine x_iload_n hx hb dX3_open_26 rfl (lv_at hl 1 rfl) ?_
      refine x_iconst (v := 1) hx hb dX3_open_27 (by decide) ?_
      refine x_iload_n hx hb dX3_open_28 rfl (lv_at hl 2 rfl) ?_
      refine x_ishl hx hb dX3_open_29 ?_
      refine x_ior hx hb dX3_open_30 ?_
      refine x_istore_n (lv' := [(1, .int (v1 ||| ((1 : Int32) <<< (v2 &&& 31)))), (0, .ref (ad (lc L 0))), (2, .int v2)]) hx hb dX3_open_31 rfl hl (by decide) rfl (fun ls hl => ?_)
      refine x_iinc (v := (v2 + (1 : Int32))) (lv' := [(2, .int (v2 + (1 : Int32))), (1, .int (v1 ||| ((1 : Int32) <<< (v2 &&& 31)))), (0, .ref (ad (lc L 0)))]) (k := 2) hx hb dX3_open_32 hl rfl rfl (by decide) rfl (fun ls hl => ?_)
      refine x_goto (tgt := 4) hx hb dX3_open_35 (by decide) ?_
      exact ih3 ((v1 ||| ((1 : Int32) <<< (v2 &&& 31))), (v2 + (1 : Int32))) _ _ _ ⟨hU, hS, _, rfl, lv_sub hl [2, 1, 0] rfl⟩
section HK
variable {ρ : Type} {p : Program} {l : Launch} {e : Env} {R : Room} {s : State} {m : MethodId} {args : Array Value} {below : List Frame} {meth : Method} {c : Code} {H : Heap} {locs : List Loc} {cells slots : Nat} {Qf : ρ → State → Prop}
variable {cc : ByteArray} {pc nL L M q0 : Nat} {ls : Array Slot} {rest : List Value}
variable {D : va_G} {ct : CT} {ck : Nat → UC} {N : Nat} {ad : Nat → Nat} {P : Nat → Nat → Option Nat} {A A0 : Nat → Prop} {S : US} {w : Int64} {h : AH} {H0 : Heap}
theorem kX1_3_open (E : ME p m c cc nL s args RX1 D clW ct) (hG : GH D ct ad P A S h H) (hS : va_S A0 H0 H locs) (hA0 : ∀ q, H0.size ≤ q → A0 q) (hL : L < 3) (hR : 2 + 1 ≤ R.frames ∧ 8 + (3 + 11) + 61 ≤ R.locals) (hsize : ls.size = nL) (hW : (rest.map fun v => v.category).sum ≤ 8) (hdg : decode cc pc = .ok (.invokevirtual 132, 3)) (hf : cells ≤ R.cells ∧ slots ≤ R.slots) {kp : Int32 → Option ρ} (kk : ∀ (o : Int32) (H1 : Heap) (locs1 : List Loc), GH D ct ad P A S h H1 → va_S A0 H0 H1 locs1 → X p l e R s m args below meth c H1 locs1 cells slots Qf (kp o) (F0 m (pc + 3) ls (.int o :: rest))) : X p l e R s m args below meth c H locs cells slots Qf (callK (s3_open S L) kp) (F0 m pc ls (.ref (ad (lc L 0)) :: rest)) := gc_ro (val' := fun (o : Int32) => some (.int o)) (len := 3) hG hS hA0 (fun o ho => rnV (As := []) E (hG.to fun _ _ => trivial) (recvU (i := lc L 0) E.2.1 hG.1 (lc_lt hL (by decide)) (ck_lc (by decide)) rfl) (mH3_open l D ct ad P S h L hL _ o ho) (cwV 0 E.1.2.2.2.2 (lw_V q1372 q1373 q1374 q118 q1375) rfl rfl rfl (by decide +kernel) hR) rfl hsize rfl hW hdg hf) kk
theorem kX3_3_open (E : ME p m c cc nL s args RX3 D clW ct) (hG : GH D ct ad P A S h H) (hS : va_S A0 H0 H locs) (hA0 : ∀ q, H0.size ≤ q → A0 q) (hL : L < 3) (hR : 2 + 1 ≤ R.frames ∧ 8 + (3 + 11) + 61 ≤ R.locals) (hsize : ls.size = nL) (hW : (rest.map fun v => v.category).sum ≤ 8) (hdg : decode cc pc = .ok (.invokevirtual 151, 3)) (hf : cells ≤ R.cells ∧ slots ≤ R.slots) {kp : Int32 → Option ρ} (kk : ∀ (o : Int32) (H1 : Heap) (locs1 : List Loc), GH D ct ad P A S h H1 → va_S A0 H0 H1 locs1 → X p l e R s m args below meth c H1 locs1 cells slots Qf (kp o) (F0 m (pc + 3) ls (.int o :: rest))) : X p l e R s m args below meth c H locs cells slots Qf (callK (s3_open S L) kp) (F0 m pc ls (.ref (ad (lc L 0)) :: rest)) := gc_ro (val' := fun (o : Int32) => some (.int o)) (len := 3) hG hS hA0 (fun o ho => rnV (As := []) E (hG.to fun _ _ => trivial) (recvU (i := lc L 0) E.2.1 hG.1 (lc_lt hL (by decide)) (ck_lc (by decide)) rfl) (mH3_open l D ct ad P S h L hL _ o ho) (cwV 0 E.1.2.2.2.2 (lw_V q1533 q1373 q1374 q118 q1375) rfl rfl rfl (by decide +kernel) hR) rfl hsize rfl hW hdg hf) kk
end HK

set_option maxHeartbeats 4000000 in
theorem mH1_count (l : Launch) (D : va_G) (ct : CT) (ad : Nat → Nat) (P : Nat → Nat → Option Nat) (S : US) (h : AH) (p1 : Int32) (sz : Nat) (o : Int32) (ho : s1_count S P h p1 = some o) : Met l yX1_count (ws_ yX1_count cX1_count 2 (some .int)) { frames := 5, cells := 0, slots := 0, locals := 125 } (mP D clW ct [.ref (ad (0)), .int p1] sz (GH D ct ad P (fun _ => True) S h)) (mC (some (.int o)) (fun _ => True) (nA sz)) 0 0 (nA sz) := by
  refine X.start (val := fun (o : Int32) => some (.int o)) (Bt := fun _ _ => True) (A := nA sz) ho (by decide) (Nat.le_of_ble_eq_true rfl) (lv := [(0, .ref (ad (0))), (1, .int p1)]) rfl ?_
  intro p e s m args below meth c E hr hlk hnm hsz hU ls hl
  subst hsz
  obtain ⟨⟨hx, hb, hml, hown, hts⟩, hK, hJ⟩ := id E
  have hA0 : ∀ q, s.heap.size ≤ q → (nA s.heap.size) q := fun q h => h
  have hS : va_S (nA s.heap.size) s.heap s.heap [] := va_S.rf
  unfold s1_count
  refine x_iload_n hx hb dX1_count_0 rfl (lv_at hl 1 rfl) ?_
  refine X.ite (fun hc => ?_) (fun hc0 => ?_)
  · refine x_tabEq (tgt := 64) hx hb hc dX1_count_1 (by decide) (by decide) rfl (by decide) ?_
    refine x_aload_n hx hb dX1_count_64 rfl (lv_at hl 0 rfl) ?_
    refine gX1_31 E hU dX1_count_65 ?_
    refine gX1_115 E hU dX1_count_68 ?_
    exact x_iret hx hb hr hlk hS rfl trivial dX1_count_71
  refine X.ite (fun hc => ?_) (fun hc1 => ?_)
  · refine x_tabEq (tgt := 72) hx hb hc dX1_count_1 (by decide) (by decide) rfl (by decide) ?_
    refine x_aload_n hx hb dX1_count_72 rfl (lv_at hl 0 rfl) ?_
    refine gX1_31 E hU dX1_count_73 ?_
    refine kX1_2_women E hU hS hA0 ⟨by decide, by decide⟩ hl.1 (Nat.le_of_ble_eq_true rfl) dX1_count_76 ⟨Nat.le_refl _, Nat.le_refl _⟩ (fun o1 H locs hU hS => ?_)
    exact x_iret hx hb hr hlk hS rfl trivial dX1_count_79
  refine X.ite (fun hc => ?_) (fun hc2 => ?_)
  · refine x_tabEq (tgt := 80) hx hb hc dX1_count_1 (by decide) (by decide) rfl (by decide) ?_
    refine x_aload_n hx hb dX1_count_80 rfl (lv_at hl 0 rfl) ?_
    refine gX1_31 E hU dX1_count_81 ?_
    refine gX1_118 E hU dX1_count_84 (fun r2 => ?_)
    refine X.onR (fun b3 hb_ => ?_)
    subst hb_
    refine kX1_L_size E hU hS hA0 ⟨by decide, by decide⟩ hl.1 (Nat.le_of_ble_eq_true rfl) dX1_count_87 ⟨Nat.le_refl _, Nat.le_refl _⟩ (fun o4 H locs hU hS => ?_)
    exact x_iret hx hb hr hlk hS rfl trivial dX1_count_92
  refine X.ite (fun hc => ?_) (fun hc3 => ?_)
  · refine x_tabEq (tgt := 93) hx hb hc dX1_count_1 (by decide) (by decide) rfl (by decide) ?_
    refine x_aload_n hx hb dX1_count_93 rfl (lv_at hl 0 rfl) ?_
    refine gX1_31 E hU dX1_count_94 ?_
    refine gX1_126 E hU dX1_count_97 ?_
    exact x_iret hx hb hr hlk hS rfl trivial dX1_count_100
  refine X.ite (fun hc => ?_) (fun hc4 => ?_)
  · refine x_tabEq (tgt := 101) hx hb hc dX1_count_1 (by decide) (by decide) rfl (by decide) ?_
    refine x_aload_n hx hb dX1_count_101 rfl (lv_at hl 0 rfl) ?_
    refine gX1_40 E hU dX1_count_102 ?_
    refine gX1_129 E hU (by decide) dX1_count_105 ?_
    exact x_iret hx hb hr hlk hS rfl trivial dX1_count_108
  refine X.ite (fun hc => ?_) (fun hc5 => ?_)
  · refine x_tabEq (tgt := 109) hx hb hc dX1_count_1 (by decide) (by decide) rfl (by decide) ?_
    refine x_aload_n hx hb dX1_count_109 rfl (lv_at hl 0 rfl) ?_
    refine gX1_40 E hU dX1_count_110 ?_
    refine kX1_3_open E hU hS hA0 (by decide) ⟨by decide, by decide⟩ hl.1 (Nat.le_of_ble_eq_true rfl) dX1_count_113 ⟨Nat.le_refl _, Nat.le_refl _⟩ (fun o5 H locs hU hS => ?_)
    exact x_iret hx hb hr hlk hS rfl trivial dX1_count_116
  refine X.ite (fun hc => ?_) (fun hc6 => ?_)
  · refine x_tabEq (tgt := 117) hx hb hc dX1_count_1 (by decide) (by decide) rfl (by decide) ?_
    refine x_aload_n hx hb dX1_count_117 rfl (lv_at hl 0 rfl) ?_
    refine gX1_40 E hU dX1_count_118 ?_
    refine kX1_3_allSeam E hU hS hA0 (by decide) ⟨by decide, by decide⟩ hl.1 (Nat.le_of_ble_eq_true rfl) dX1_count_121 ⟨Nat.le_refl _, Nat.le_refl _⟩ (fun o6 H locs hU hS => ?_)
    exact x_iret hx hb hr hlk hS rfl trivial dX1_count_124
  refine X.ite (fun hc => ?_) (fun hc7 => ?_)
  · refine x_tabEq (tgt := 125) hx hb hc dX1_count_1 (by decide) (by decide) rfl (by decide) ?_
    refine x_aload_n hx hb dX1_count_125 rfl (lv_at hl 0 rfl) ?_
    refine gX1_40 E hU dX1_count_126 ?_
    refine kX1_3_allThread E hU hS hA0 (by decide) ⟨by decide, by decide⟩ hl.1 (Nat.le_of_ble_eq_true rfl) dX1_count_129 ⟨Nat.le_refl _, Nat.le_refl _⟩ (fun o7 H locs hU hS => ?_)
    exact x_iret hx hb hr hlk hS rfl trivial dX1_count_132
  refine X.ite (fun hc => ?_) (fun hc8 => ?_)
  · refine x_tabEq (tgt := 133) hx hb hc dX1_count_1 (by decide) (by decide) rfl (by decide) ?_
    refine x_aload_n hx hb dX1_count_133 rfl (lv_at hl 0 rfl) ?_
    refine kX1_1_idle E hU hS hA0 ⟨by decide, by decide⟩ hl.1 (Nat.le_of_ble_eq_true rfl) dX1_count_134 ⟨Nat.le_refl _, Nat.le_refl _⟩ (fun o8 H locs hU hS => ?_)
    exact x_iret hx hb hr hlk hS rfl trivial dX1_count_137
  refine X.ite (fun hc => ?_) (fun hc9 => ?_)
  · refine x_tabEq (tgt := 138) hx hb hc dX1_count_1 (by decide) (by decide) rfl (by decide) ?_
    refine x_aload_n hx hb dX1_count_138 rfl (lv_at hl 0 rfl) ?_
    refine gX1_64 E hU dX1_count_139 (fun r9 => ?_)
    refine X.onR (fun b10 hb_ => ?_)
    subst hb_
    refine kX1_L_size E hU hS hA0 ⟨by decide, by decide⟩ hl.1 (Nat.le_of_ble_eq_true rfl) dX1_count_142 ⟨Nat.le_refl _, Nat.le_refl _⟩ (fun o11 H locs hU hS => ?_)
    exact x_iret hx hb hr hlk hS rfl trivial dX1_count_147
  refine X.ite (fun hc => ?_) (fun hc10 => ?_)
  · refine x_tabEq (tgt := 148) hx hb hc dX1_count_1 (by decide) (by decide) rfl (by decide) ?_
    refine x_aload_n hx hb dX1_count_148 rfl (lv_at hl 0 rfl) ?_
    refine gX1_68 E hU dX1_count_149 (fun r12 => ?_)
    refine X.onR (fun b13 hb_ => ?_)
    subst hb_
    refine kX1_L_size E hU hS hA0 ⟨by decide, by decide⟩ hl.1 (Nat.le_of_ble_eq_true rfl) dX1_count_152 ⟨Nat.le_refl _, Nat.le_refl _⟩ (fun o14 H locs hU hS => ?_)
    exact x_iret hx hb hr hlk hS rfl trivial dX1_count_157
  refine X.ite (fun hc => ?_) (fun hc11 => ?_)
  · refine x_tabEq (tgt := 158) hx hb hc dX1_count_1 (by decide) (by decide) rfl (by decide) ?_
    refine x_aload_n hx hb dX1_count_158 rfl (lv_at hl 0 rfl) ?_
    refine gX1_71 E hU dX1_count_159 ?_
    exact x_iret hx hb hr hlk hS rfl trivial dX1_count_162
  refine x_tabElse2 (n := 12) (tgt := 163) hx hb dX1_count_1 [0, 1, 2, 3, 4, 5, 6, 7, 8, 9, 10, 11] (by decide) (by decide) (List.forall_mem_cons.mpr ⟨fun he => absurd (x_i32 he (0 : Int32) (by decide)) hc0, (List.forall_mem_cons.mpr ⟨fun he => absurd (x_i32 he (1 : Int32) (by decide)) hc1, (List.forall_mem_cons.mpr ⟨fun he => absurd (x_i32 he (2 : Int32) (by decide)) hc2, (List.forall_mem_cons.mpr ⟨fun he => absurd (x_i32 he (3 : Int32) (by decide)) hc3, (List.forall_mem_cons.mpr ⟨fun he => absurd (x_i32 he (4 : Int32) (by decide)) hc4, (List.forall_mem_cons.mpr ⟨fun he => absurd (x_i32 he (5 : Int32) (by decide)) hc5, (List.forall_mem_cons.mpr ⟨fun he => absurd (x_i32 he (6 : Int32) (by decide)) hc6, (List.forall_mem_cons.mpr ⟨fun he => absurd (x_i32 he (7 : Int32) (by decide)) hc7, (List.forall_mem_cons.mpr ⟨fun he => absurd (x_i32 he (8 : Int32) (by decide)) hc8, (List.forall_mem_cons.mpr ⟨fun he => absurd (x_i32 he (9 : Int32) (by decide)) hc9, (List.forall_mem_cons.mpr ⟨fun he => absurd (x_i32 he (10 : Int32) (by decide)) hc10, (List.forall_mem_cons.mpr ⟨fun he => absurd (x_i32 he (11 : Int32) (by decide)) hc11, (fun _ h => absurd h List.not_mem_nil)⟩)⟩)⟩)⟩)⟩)⟩)⟩)⟩)⟩)⟩)⟩)⟩) (by decide) ?_
  refine x_iload_n hx hb dX1_count_163 rfl (lv_at hl 1 rfl) ?_
  refine x_bipush (v := 12) hx hb dX1_count_164 (by decide) ?_
  refine x_bipush (v := 14) hx hb dX1_count_166 (by decide) ?_
  refine kX1_1_in E hS hA0 ⟨by decide, by decide⟩ hl.1 (Nat.le_of_ble_eq_true rfl) dX1_count_168 ⟨Nat.le_refl _, Nat.le_refl _⟩ (fun o15 H locs hz_ hk_ hS => ?_)
  replace hU := hU.kept hz_ hk_
  refine kX1_1_found E hS hA0 ⟨by decide, by decide⟩ hl.1 (Nat.le_of_ble_eq_true rfl) dX1_count_171 ⟨Nat.le_refl _, Nat.le_refl _⟩ (fun o16 H locs hz_ hk_ hS => ?_)
  replace hU := hU.kept hz_ hk_
  refine x_aload_n hx hb dX1_count_174 rfl (lv_at hl 0 rfl) ?_
  refine gX1_58 E hU dX1_count_175 ?_
  refine x_iload_n hx hb dX1_count_178 rfl (lv_at hl 1 rfl) ?_
  refine x_bipush (v := 12) hx hb dX1_count_179 (by decide) ?_
  refine x_isub hx hb dX1_count_181 ?_
  refine ux_ald (i := 4) (n := 3) E hU.1 (by decide) rfl dX1_count_182 ?_
  exact x_iret hx hb hr hlk hS rfl trivial dX1_count_183

set_option maxHeartbeats 4000000 in
theorem mH1_aStretch (l : Launch) (D : va_G) (ct : CT) (ad : Nat → Nat) (P : Nat → Nat → Option Nat) (S : US) (h : AH) (p1 : Int32) (sz : Nat) (o : Unit) (ho : s1_aStretch S p1 = some o) : Met l yX1_aStretch (ws_ yX1_aStretch cX1_aStretch 2 none) { frames := 2, cells := 0, slots := 0, locals := 62 } (mP D clW ct [.ref (ad (0)), .int p1] sz (GH D ct ad P (fun _ => True) S h)) (mC (none) (fun _ => True) (nA sz)) 0 0 (nA sz) := by
  refine X.start (val := fun (o : Unit) => none) (Bt := fun _ _ => True) (A := nA sz) ho (by decide) (Nat.le_of_ble_eq_true rfl) (lv := [(0, .ref (ad (0))), (1, .int p1)]) rfl ?_
  intro p e s m args below meth c E hr hlk hnm hsz hU ls hl
  subst hsz
  obtain ⟨⟨hx, hb, hml, hown, hts⟩, hK, hJ⟩ := id E
  have hA0 : ∀ q, s.heap.size ≤ q → (nA s.heap.size) q := fun q h => h
  have hS : va_S (nA s.heap.size) s.heap s.heap [] := va_S.rf
  unfold s1_aStretch
  refine x_iload_n hx hb dX1_aStretch_0 rfl (lv_at hl 1 rfl) ?_
  refine x_iconst (v := 0) hx hb dX1_aStretch_1 (by decide) ?_
  refine x_aload_n hx hb dX1_aStretch_2 rfl (lv_at hl 0 rfl) ?_
  refine gX1_31 E hU dX1_aStretch_3 ?_
  refine gX1_115 E hU dX1_aStretch_6 ?_
  refine x_iconst (v := 1) hx hb dX1_aStretch_9 (by decide) ?_
  refine x_isub hx hb dX1_aStretch_10 ?_
  refine kX1_1_in E hS hA0 ⟨by decide, by decide⟩ hl.1 (Nat.le_of_ble_eq_true rfl) dX1_aStretch_11 ⟨Nat.le_refl _, Nat.le_refl _⟩ (fun o1 H locs hz_ hk_ hS => ?_)
  replace hU := hU.kept hz_ hk_
  refine kX1_1_found E hS hA0 ⟨by decide, by decide⟩ hl.1 (Nat.le_of_ble_eq_true rfl) dX1_aStretch_14 ⟨Nat.le_refl _, Nat.le_refl _⟩ (fun o2 H locs hz_ hk_ hS => ?_)
  replace hU := hU.kept hz_ hk_
  exact x_vret hx hb hr hlk hS rfl trivial dX1_aStretch_17
section HK
variable {ρ : Type} {p : Program} {l : Launch} {e : Env} {R : Room} {s : State} {m : MethodId} {args : Array Value} {below : List Frame} {meth : Method} {c : Code} {H : Heap} {locs : List Loc} {cells slots : Nat} {Qf : ρ → State → Prop}
variable {cc : ByteArray} {pc nL L M q0 : Nat} {ls : Array Slot} {rest : List Value}
variable {D : va_G} {ct : CT} {ck : Nat → UC} {N : Nat} {ad : Nat → Nat} {P : Nat → Nat → Option Nat} {A A0 : Nat → Prop} {S : US} {w : Int64} {h : AH} {H0 : Heap}
theorem kX1_1_aStretch {p1 : Int32} (E : ME p m c cc nL s args RX1 D clW ct) (hG : GH D ct ad P A S h H) (hS : va_S A0 H0 H locs) (hA0 : ∀ q, H0.size ≤ q → A0 q) (hR : 2 + 1 ≤ R.frames ∧ 8 + (2 + 11) + 62 ≤ R.locals) (hsize : ls.size = nL) (hW : (rest.map fun v => v.category).sum ≤ 8) (hdg : decode cc pc = .ok (.invokevirtual 151, 3)) (hf : cells ≤ R.cells ∧ slots ≤ R.slots) {kp : Unit → Option ρ} (kk : ∀ (o : Unit) (H1 : Heap) (locs1 : List Loc), GH D ct ad P A S h H1 → va_S A0 H0 H1 locs1 → X p l e R s m args below meth c H1 locs1 cells slots Qf (kp o) (F0 m (pc + 3) ls (rest))) : X p l e R s m args below meth c H locs cells slots Qf (callK (s1_aStretch S p1) kp) (F0 m pc ls (.int p1 :: .ref (ad (0)) :: rest)) := gc_ro (val' := fun (o : Unit) => none) (len := 3) hG hS hA0 (fun o ho => rnV (As := [.int p1]) E (hG.to fun _ _ => trivial) (recvU (i := 0) E.2.1 hG.1 (by decide) rfl rfl) (mH1_aStretch l D ct ad P S h p1 _ o ho) (cwV 1 E.1.2.2.2.2 (lw_V q1410 q1412 qs34 q113 q1413) rfl rfl rfl (by decide +kernel) hR) rfl hsize rfl hW hdg hf) kk
end HK

set_option maxHeartbeats 4000000 in
theorem mH1_stretch (l : Launch) (D : va_G) (ct : CT) (ad : Nat → Nat) (P : Nat → Nat → Option Nat) (S : US) (h : AH) (p1 : Int32) (p2 : Int32) (sz : Nat) (o : (Int32 × US)) (ho : s1_stretch S ct P h p1 p2 = some o) : Met l yX1_stretch (ws_ yX1_stretch cX1_stretch 3 (some .int)) { frames := 502, cells := 0, slots := 0, locals := 20044 } (mP D clW ct [.ref (ad (0)), .int p1, .int p2] sz (GH D ct ad P (fun _ => True) S h)) (mC (some (.int o.1)) (UW D clW ckH ct 26 ad P (fun _ => True) o.2 0) (uA 26 ad sz)) 0 0 (uA 26 ad sz) := by
  refine X.start (val := fun (o : (Int32 × US)) => some (.int o.1)) (Bt := fun (o : (Int32 × US)) => UW D clW ckH ct 26 ad P (fun _ => True) o.2 0) (A := uA 26 ad sz) ho (by decide) (Nat.le_of_ble_eq_true rfl) (lv := [(0, .ref (ad (0))), (1, .int p1), (2, .int p2)]) rfl ?_
  intro p e s m args below meth c E hr hlk hnm hsz hU ls hl
  subst hsz
  obtain ⟨⟨hx, hb, hml, hown, hts⟩, hK, hJ⟩ := id E
  replace hU := hU.to (B := uA 26 ad s.heap.size) (fun i hi => Or.inl ⟨i, hi, rfl⟩)
  have hA0 : ∀ q, s.heap.size ≤ q → (uA 26 ad s.heap.size) q := fun q h => Or.inr h
  have hS : va_S (uA 26 ad s.heap.size) s.heap s.heap [] := va_S.rf
  unfold s1_stretch
  refine x_aload_n hx hb dX1_stretch_0 rfl (lv_at hl 0 rfl) ?_
  refine x_iload_n hx hb dX1_stretch_1 rfl (lv_at hl 1 rfl) ?_
  refine kX1_1_aStretch E hU hS hA0 ⟨by decide, by decide⟩ hl.1 (Nat.le_of_ble_eq_true rfl) dX1_stretch_2 ⟨Nat.le_refl _, Nat.le_refl _⟩ (fun o1 H locs hU hS => ?_)
  refine x_iload_n hx hb dX1_stretch_5 rfl (lv_at hl 2 rfl) ?_
  refine X.ite (fun hc => ?_) (fun hc0 => ?_)
  · refine x_tabEq (tgt := 40) hx hb hc dX1_stretch_6 (by decide) (by decide) rfl (by decide) ?_
    refine x_aload_n hx hb dX1_stretch_40 rfl (lv_at hl 0 rfl) ?_
    refine gX1_40 E hU dX1_stretch_41 ?_
    refine gX1_155 E hU (by decide) dX1_stretch_44 ?_
    refine x_iload_n hx hb dX1_stretch_47 rfl (lv_at hl 1 rfl) ?_
    refine ux_ald (i := lc 0 1) (n := 12) E hU.1 (lc_lt (by decide) (by decide)) (ck_lc (by decide)) dX1_stretch_48 ?_
    exact x_iret hx hb hr hlk hS rfl (hU.1.to fun _ _ => trivial) dX1_stretch_49
  refine X.ite (fun hc => ?_) (fun hc1 => ?_)
  · refine x_tabEq (tgt := 50) hx hb hc dX1_stretch_6 (by decide) (by decide) rfl (by decide) ?_
    refine x_aload_n hx hb dX1_stretch_50 rfl (lv_at hl 0 rfl) ?_
    refine gX1_40 E hU dX1_stretch_51 ?_
    refine gX1_158 E hU (by decide) dX1_stretch_54 ?_
    refine x_iload_n hx hb dX1_stretch_57 rfl (lv_at hl 1 rfl) ?_
    refine ux_ald (i := lc 0 2) (n := 12) E hU.1 (lc_lt (by decide) (by decide)) (ck_lc (by decide)) dX1_stretch_58 ?_
    exact x_iret hx hb hr hlk hS rfl (hU.1.to fun _ _ => trivial) dX1_stretch_59
  refine X.ite (fun hc => ?_) (fun hc2 => ?_)
  · refine x_tabEq (tgt := 60) hx hb hc dX1_stretch_6 (by decide) (by decide) rfl (by decide) ?_
    refine x_aload_n hx hb dX1_stretch_60 rfl (lv_at hl 0 rfl) ?_
    refine gX1_40 E hU dX1_stretch_61 ?_
    refine gX1_161 E hU (by decide) dX1_stretch_64 ?_
    refine x_iload_n hx hb dX1_stretch_67 rfl (lv_at hl 1 rfl) ?_
    refine ux_ald (i := lc 0 3) (n := 12) E hU.1 (lc_lt (by decide) (by decide)) (ck_lc (by decide)) dX1_stretch_68 ?_
    exact x_iret hx hb hr hlk hS rfl (hU.1.to fun _ _ => trivial) dX1_stretch_69
  refine X.ite (fun hc => ?_) (fun hc3 => ?_)
  · refine x_tabEq (tgt := 70) hx hb hc dX1_stretch_6 (by decide) (by decide) rfl (by decide) ?_
    refine x_aload_n hx hb dX1_stretch_70 rfl (lv_at hl 0 rfl) ?_
    refine gX1_40 E hU dX1_stretch_71 ?_
    refine x_iload_n hx hb dX1_stretch_74 rfl (lv_at hl 1 rfl) ?_
    refine kX1_3_womenAt E hU hS hA0 (by decide) ⟨by decide, by decide⟩ hl.1 (Nat.le_of_ble_eq_true rfl) dX1_stretch_75 ⟨Nat.le_refl _, Nat.le_refl _⟩ (fun o2 H locs hU hS => ?_)
    exact x_iret hx hb hr hlk hS rfl (hU.1.to fun _ _ => trivial) dX1_stretch_78
  refine X.ite (fun hc => ?_) (fun hc4 => ?_)
  · refine x_tabEq (tgt := 79) hx hb hc dX1_stretch_6 (by decide) (by decide) rfl (by decide) ?_
    refine x_aload_n hx hb dX1_stretch_79 rfl (lv_at hl 0 rfl) ?_
    refine gX1_40 E hU dX1_stretch_80 ?_
    refine x_iload_n hx hb dX1_stretch_83 rfl (lv_at hl 1 rfl) ?_
    refine kX1_3_frays E hU hS hA0 (by decide) ⟨by decide, by decide⟩ hl.1 (Nat.le_of_ble_eq_true rfl) dX1_stretch_84 ⟨Nat.le_refl _, Nat.le_refl _⟩ (fun o3 H locs hU hS => ?_)
    exact x_iret hx hb hr hlk hS rfl (hU.1.to fun _ _ => trivial) dX1_stretch_87
  refine x_tabElse2 (n := 5) (tgt := 88) hx hb dX1_stretch_6 [0, 1, 2, 3, 4] (by decide) (by decide) (List.forall_mem_cons.mpr ⟨fun he => absurd (x_i32 he (0 : Int32) (by decide)) hc0, (List.forall_mem_cons.mpr ⟨fun he => absurd (x_i32 he (1 : Int32) (by decide)) hc1, (List.forall_mem_cons.mpr ⟨fun he => absurd (x_i32 he (2 : Int32) (by decide)) hc2, (List.forall_mem_cons.mpr ⟨fun he => absurd (x_i32 he (3 : Int32) (by decide)) hc3, (List.forall_mem_cons.mpr ⟨fun he => absurd (x_i32 he (4 : Int32) (by decide)) hc4, (fun _ h => absurd h List.not_mem_nil)⟩)⟩)⟩)⟩)⟩) (by decide) ?_
  refine x_iload_n hx hb dX1_stretch_88 rfl (lv_at hl 2 rfl) ?_
  refine x_iconst (v := 5) hx hb dX1_stretch_89 (by decide) ?_
  refine x_icmp_ne (tgt := 97) hx hb dX1_stretch_90 (by decide) (fun hc => ?_) (fun hc => ?_)
  · refine x_iconst (v := 0) hx hb dX1_stretch_97 (by decide) ?_
    refine kX1_1_found E hS hA0 ⟨by decide, by decide⟩ hl.1 (Nat.le_of_ble_eq_true rfl) dX1_stretch_98 ⟨Nat.le_refl _, Nat.le_refl _⟩ (fun o4 H locs hz_ hk_ hS => ?_)
    replace hU := hU.kept hz_ hk_
    refine x_aload_n hx hb dX1_stretch_101 rfl (lv_at hl 0 rfl) ?_
    refine gX1_40 E hU dX1_stretch_102 ?_
    refine x_iload_n hx hb dX1_stretch_105 rfl (lv_at hl 1 rfl) ?_
    refine kX1_3_pulls E hU hS hA0 (by decide) ⟨by decide, by decide⟩ hl.1 (Nat.le_of_ble_eq_true rfl) dX1_stretch_106 ⟨Nat.le_refl _, Nat.le_refl _⟩ (fun o5 H locs hU hS => ?_)
    exact x_iret hx hb hr hlk hS rfl (hU.1.to fun _ _ => trivial) dX1_stretch_109
  · refine x_iconst (v := 1) hx hb dX1_stretch_93 (by decide) ?_
    refine x_goto (tgt := 98) hx hb dX1_stretch_94 (by decide) ?_
    refine kX1_1_found E hS hA0 ⟨by decide, by decide⟩ hl.1 (Nat.le_of_ble_eq_true rfl) dX1_stretch_98 ⟨Nat.le_refl _, Nat.le_refl _⟩ (fun o6 H locs hz_ hk_ hS => ?_)
    replace hU := hU.kept hz_ hk_
    refine x_aload_n hx hb dX1_stretch_101 rfl (lv_at hl 0 rfl) ?_
    refine gX1_40 E hU dX1_stretch_102 ?_
    refine x_iload_n hx hb dX1_stretch_105 rfl (lv_at hl 1 rfl) ?_
    refine kX1_3_pulls E hU hS hA0 (by decide) ⟨by decide, by decide⟩ hl.1 (Nat.le_of_ble_eq_true rfl) dX1_stretch_106 ⟨Nat.le_refl _, Nat.le_refl _⟩ (fun o7 H locs hU hS => ?_)
    exact x_iret hx hb hr hlk hS rfl (hU.1.to fun _ _ => trivial) dX1_stretch_109

set_option maxHeartbeats 4000000 in
theorem mH1_aWoman (l : Launch) (D : va_G) (ct : CT) (ad : Nat → Nat) (P : Nat → Nat → Option Nat) (S : US) (h : AH) (p1 : Int32) (sz : Nat) (o : Unit) (ho : s1_aWoman S P h p1 = some o) : Met l yX1_aWoman (ws_ yX1_aWoman cX1_aWoman 2 none) { frames := 3, cells := 0, slots := 0, locals := 80 } (mP D clW ct [.ref (ad (0)), .int p1] sz (GH D ct ad P (fun _ => True) S h)) (mC (none) (fun _ => True) (nA sz)) 0 0 (nA sz) := by
  refine X.start (val := fun (o : Unit) => none) (Bt := fun _ _ => True) (A := nA sz) ho (by decide) (Nat.le_of_ble_eq_true rfl) (lv := [(0, .ref (ad (0))), (1, .int p1)]) rfl ?_
  intro p e s m args below meth c E hr hlk hnm hsz hU ls hl
  subst hsz
  obtain ⟨⟨hx, hb, hml, hown, hts⟩, hK, hJ⟩ := id E
  have hA0 : ∀ q, s.heap.size ≤ q → (nA s.heap.size) q := fun q h => h
  have hS : va_S (nA s.heap.size) s.heap s.heap [] := va_S.rf
  unfold s1_aWoman
  refine x_iload_n hx hb dX1_aWoman_0 rfl (lv_at hl 1 rfl) ?_
  refine x_iconst (v := 0) hx hb dX1_aWoman_1 (by decide) ?_
  refine x_aload_n hx hb dX1_aWoman_2 rfl (lv_at hl 0 rfl) ?_
  refine gX1_31 E hU dX1_aWoman_3 ?_
  refine kX1_2_women E hU hS hA0 ⟨by decide, by decide⟩ hl.1 (Nat.le_of_ble_eq_true rfl) dX1_aWoman_6 ⟨Nat.le_refl _, Nat.le_refl _⟩ (fun o1 H locs hU hS => ?_)
  refine x_iconst (v := 1) hx hb dX1_aWoman_9 (by decide) ?_
  refine x_isub hx hb dX1_aWoman_10 ?_
  refine kX1_1_in E hS hA0 ⟨by decide, by decide⟩ hl.1 (Nat.le_of_ble_eq_true rfl) dX1_aWoman_11 ⟨Nat.le_refl _, Nat.le_refl _⟩ (fun o2 H locs hz_ hk_ hS => ?_)
  replace hU := hU.kept hz_ hk_
  refine kX1_1_found E hS hA0 ⟨by decide, by decide⟩ hl.1 (Nat.le_of_ble_eq_true rfl) dX1_aWoman_14 ⟨Nat.le_refl _, Nat.le_refl _⟩ (fun o3 H locs hz_ hk_ hS => ?_)
  replace hU := hU.kept hz_ hk_
  exact x_vret hx hb hr hlk hS rfl trivial dX1_aWoman_17
section HK
variable {ρ : Type} {p : Program} {l : Launch} {e : Env} {R : Room} {s : State} {m : MethodId} {args : Array Value} {below : List Frame} {meth : Method} {c : Code} {H : Heap} {locs : List Loc} {cells slots : Nat} {Qf : ρ → State → Prop}
variable {cc : ByteArray} {pc nL L M q0 : Nat} {ls : Array Slot} {rest : List Value}
variable {D : va_G} {ct : CT} {ck : Nat → UC} {N : Nat} {ad : Nat → Nat} {P : Nat → Nat → Option Nat} {A A0 : Nat → Prop} {S : US} {w : Int64} {h : AH} {H0 : Heap}
theorem kX1_1_aWoman {p1 : Int32} (E : ME p m c cc nL s args RX1 D clW ct) (hG : GH D ct ad P A S h H) (hS : va_S A0 H0 H locs) (hA0 : ∀ q, H0.size ≤ q → A0 q) (hR : 3 + 1 ≤ R.frames ∧ 8 + (2 + 11) + 80 ≤ R.locals) (hsize : ls.size = nL) (hW : (rest.map fun v => v.category).sum ≤ 8) (hdg : decode cc pc = .ok (.invokevirtual 170, 3)) (hf : cells ≤ R.cells ∧ slots ≤ R.slots) {kp : Unit → Option ρ} (kk : ∀ (o : Unit) (H1 : Heap) (locs1 : List Loc), GH D ct ad P A S h H1 → va_S A0 H0 H1 locs1 → X p l e R s m args below meth c H1 locs1 cells slots Qf (kp o) (F0 m (pc + 3) ls (rest))) : X p l e R s m args below meth c H locs cells slots Qf (callK (s1_aWoman S P h p1) kp) (F0 m pc ls (.int p1 :: .ref (ad (0)) :: rest)) := gc_ro (val' := fun (o : Unit) => none) (len := 3) hG hS hA0 (fun o ho => rnV (As := [.int p1]) E (hG.to fun _ _ => trivial) (recvU (i := 0) E.2.1 hG.1 (by decide) rfl rfl) (mH1_aWoman l D ct ad P S h p1 _ o ho) (cwV 1 E.1.2.2.2.2 (lw_V q1423 q1425 qs35 q113 q1426) rfl rfl rfl (by decide +kernel) hR) rfl hsize rfl hW hdg hf) kk
end HK

set_option maxHeartbeats 4000000 in
theorem mH1_oneOf (l : Launch) (D : va_G) (ct : CT) (p1 : Int32) (p2 : Int32) (sz : Nat) (o : Unit) (ho : s1_oneOf p1 p2 = some o) : Met l yX1_oneOf (ws_ yX1_oneOf cX1_oneOf 2 none) { frames := 2, cells := 0, slots := 0, locals := 62 } (mP D clW ct [.int p1, .int p2] sz (fun _ => True)) (mC (none) (fun _ => True) (nA sz)) 0 0 (nA sz) := by
  refine X.start (val := fun (o : Unit) => none) (Bt := fun _ _ => True) (A := nA sz) ho (by decide) (Nat.le_of_ble_eq_true rfl) (lv := [(0, .int p1), (1, .int p2)]) rfl ?_
  intro p e s m args below meth c E hr hlk hnm hsz hU ls hl
  subst hsz
  obtain ⟨⟨hx, hb, hml, hown, hts⟩, hK, hJ⟩ := id E
  have hA0 : ∀ q, s.heap.size ≤ q → (nA s.heap.size) q := fun q h => h
  have hS : va_S (nA s.heap.size) s.heap s.heap [] := va_S.rf
  unfold s1_oneOf
  refine x_iload_n hx hb dX1_oneOf_0 rfl (lv_at hl 0 rfl) ?_
  refine x_iconst (v := 0) hx hb dX1_oneOf_1 (by decide) ?_
  refine x_iload_n hx hb dX1_oneOf_2 rfl (lv_at hl 1 rfl) ?_
  refine kX1_1_in E hS hA0 ⟨by decide, by decide⟩ hl.1 (Nat.le_of_ble_eq_true rfl) dX1_oneOf_3 ⟨Nat.le_refl _, Nat.le_refl _⟩ (fun o1 H locs hz_ hk_ hS => ?_)
  refine kX1_1_found E hS hA0 ⟨by decide, by decide⟩ hl.1 (Nat.le_of_ble_eq_true rfl) dX1_oneOf_6 ⟨Nat.le_refl _, Nat.le_refl _⟩ (fun o2 H locs hz_ hk_ hS => ?_)
  exact x_vret hx hb hr hlk hS rfl trivial dX1_oneOf_9
section HK
variable {ρ : Type} {p : Program} {l : Launch} {e : Env} {R : Room} {s : State} {m : MethodId} {args : Array Value} {below : List Frame} {meth : Method} {c : Code} {H : Heap} {locs : List Loc} {cells slots : Nat} {Qf : ρ → State → Prop}
variable {cc : ByteArray} {pc nL L M q0 : Nat} {ls : Array Slot} {rest : List Value}
variable {D : va_G} {ct : CT} {ck : Nat → UC} {N : Nat} {ad : Nat → Nat} {P : Nat → Nat → Option Nat} {A A0 : Nat → Prop} {S : US} {w : Int64} {h : AH} {H0 : Heap}
theorem kX1_1_oneOf {p1 : Int32} {p2 : Int32} (E : ME p m c cc nL s args RX1 D clW ct) (hS : va_S A0 H0 H locs) (hA0 : ∀ q, H0.size ≤ q → A0 q) (hR : 2 + 1 ≤ R.frames ∧ 8 + (2 + 11) + 62 ≤ R.locals) (hsize : ls.size = nL) (hW : (rest.map fun v => v.category).sum ≤ 8) (hdg : decode cc pc = .ok (.invokestatic 173, 3)) (hf : cells ≤ R.cells ∧ slots ≤ R.slots) {kp : Unit → Option ρ} (kk : ∀ (o : Unit) (H1 : Heap) (locs1 : List Loc), H.size ≤ H1.size → (∀ q : Nat, q < H.size → H1[q]? = H[q]?) → va_S A0 H0 H1 locs1 → X p l e R s m args below meth c H1 locs1 cells slots Qf (kp o) (F0 m (pc + 3) ls (rest))) : X p l e R s m args below meth c H locs cells slots Qf (callK (s1_oneOf p1 p2) kp) (F0 m pc ls (.int p2 :: .int p1 :: rest)) := gc_pure (val' := fun (o : Unit) => none) (len := 3) hS hA0 (fun o ho => rnS (As := [.int p1, .int p2]) (B := fun _ => True) E trivial (mH1_oneOf l D ct p1 p2 _ o ho) (va_cwS 2 E.1.2.2.2.2 (lw_S q1427 q1428 q113 q1429) rfl rfl rfl (by decide +kernel) hR) rfl hsize rfl hW hdg hf) kk
end HK

set_option maxHeartbeats 4000000 in
theorem mH1_woman (l : Launch) (D : va_G) (ct : CT) (ad : Nat → Nat) (P : Nat → Nat → Option Nat) (S : US) (h : AH) (p1 : Int32) (p2 : Int32) (sz : Nat) (o : Int32) (ho : s1_woman S P h p1 p2 = some o) : Met l yX1_woman (ws_ yX1_woman cX1_woman 3 (some .int)) { frames := 4, cells := 0, slots := 0, locals := 104 } (mP D clW ct [.ref (ad (0)), .int p1, .int p2] sz (GH D ct ad P (fun _ => True) S h)) (mC (some (.int o)) (fun _ => True) (nA sz)) 0 0 (nA sz) := by
  refine X.start (val := fun (o : Int32) => some (.int o)) (Bt := fun _ _ => True) (A := nA sz) ho (by decide) (Nat.le_of_ble_eq_true rfl) (lv := [(0, .ref (ad (0))), (1, .int p1), (2, .int p2)]) rfl ?_
  intro p e s m args below meth c E hr hlk hnm hsz hU ls hl
  subst hsz
  obtain ⟨⟨hx, hb, hml, hown, hts⟩, hK, hJ⟩ := id E
  have hA0 : ∀ q, s.heap.size ≤ q → (nA s.heap.size) q := fun q h => h
  have hS : va_S (nA s.heap.size) s.heap s.heap [] := va_S.rf
  unfold s1_woman
  refine x_aload_n hx hb dX1_woman_0 rfl (lv_at hl 0 rfl) ?_
  refine x_iload_n hx hb dX1_woman_1 rfl (lv_at hl 1 rfl) ?_
  refine kX1_1_aWoman E hU hS hA0 ⟨by decide, by decide⟩ hl.1 (Nat.le_of_ble_eq_true rfl) dX1_woman_2 ⟨Nat.le_refl _, Nat.le_refl _⟩ (fun o1 H locs hU hS => ?_)
  refine x_iload_n hx hb dX1_woman_5 rfl (lv_at hl 2 rfl) ?_
  refine x_iconst (v := 2) hx hb dX1_woman_6 (by decide) ?_
  refine kX1_1_oneOf E hS hA0 ⟨by decide, by decide⟩ hl.1 (Nat.le_of_ble_eq_true rfl) dX1_woman_7 ⟨Nat.le_refl _, Nat.le_refl _⟩ (fun o2 H locs hz_ hk_ hS => ?_)
  replace hU := hU.kept hz_ hk_
  refine x_iload_n hx hb dX1_woman_10 rfl (lv_at hl 2 rfl) ?_
  refine x_if_ne (tgt := 36) hx hb dX1_woman_11 (by decide) (fun hc => ?_) (fun hc => ?_)
  · refine x_iload_n hx hb dX1_woman_36 rfl (lv_at hl 2 rfl) ?_
    refine x_iconst (v := 1) hx hb dX1_woman_37 (by decide) ?_
    refine x_icmp_ne (tgt := 53) hx hb dX1_woman_38 (by decide) (fun hc => ?_) (fun hc => ?_)
    · refine x_aload_n hx hb dX1_woman_53 rfl (lv_at hl 0 rfl) ?_
      refine gX1_40 E hU dX1_woman_54 ?_
      refine gX1_105 E hU (by decide) dX1_woman_57 ?_
      refine x_iload_n hx hb dX1_woman_60 rfl (lv_at hl 1 rfl) ?_
      refine ux_ald (i := lc 0 5) (n := 6) E hU.1 (lc_lt (by decide) (by decide)) (ck_lc (by decide)) dX1_woman_61 ?_
      exact x_iret hx hb hr hlk hS rfl trivial dX1_woman_62
    · refine x_aload_n hx hb dX1_woman_41 rfl (lv_at hl 0 rfl) ?_
      refine gX1_40 E hU dX1_woman_42 ?_
      refine gX1_108 E hU (by decide) dX1_woman_45 ?_
      refine x_iload_n hx hb dX1_woman_48 rfl (lv_at hl 1 rfl) ?_
      refine ux_ald (i := lc 0 4) (n := 6) E hU.1 (lc_lt (by decide) (by decide)) (ck_lc (by decide)) dX1_woman_49 ?_
      refine x_goto (tgt := 62) hx hb dX1_woman_50 (by decide) ?_
      exact x_iret hx hb hr hlk hS rfl trivial dX1_woman_62
  · refine x_aload_n hx hb dX1_woman_14 rfl (lv_at hl 0 rfl) ?_
    refine gX1_31 E hU dX1_woman_15 ?_
    refine gX1_177 E hU dX1_woman_18 (fun r3 => ?_)
    refine x_iload_n hx hb dX1_woman_21 rfl (lv_at hl 1 rfl) ?_
    refine X.onR (fun b4 hb_ => ?_)
    subst hb_
    refine kX1_L_get E hU hS hA0 ⟨by decide, by decide⟩ hl.1 (Nat.le_of_ble_eq_true rfl) dX1_woman_22 ⟨Nat.le_refl _, Nat.le_refl _⟩ (fun o5 H locs hU hS => ?_)
    refine X.onR (fun b6 hb_ => ?_)
    subst hb_
    refine fx_cast E hU.2.1 (ci := 12) rfl (hts _ q1432) dX1_woman_27 ?_
    refine kX1_N_intValue E hU hS hA0 ⟨by decide, by decide⟩ hl.1 (Nat.le_of_ble_eq_true rfl) dX1_woman_30 ⟨Nat.le_refl _, Nat.le_refl _⟩ (fun o7 H locs hU hS => ?_)
    refine x_goto (tgt := 62) hx hb dX1_woman_33 (by decide) ?_
    exact x_iret hx hb hr hlk hS rfl trivial dX1_woman_62

set_option maxHeartbeats 4000000 in
theorem mH3_after (l : Launch) (D : va_G) (ct : CT) (ad : Nat → Nat) (P : Nat → Nat → Option Nat) (S : US) (h : AH) (L : Nat) (p1 : Int32) (hL : L < 3) (sz : Nat) (o : US) (ho : s3_after S ct P h L p1 = some o) : Met l yX3_after (ws_ yX3_after cX3_after 3 (some (.object "HorizonSeam$Line"))) { frames := 503, cells := 0, slots := 0, locals := 20065 } (mP D clW ct [.ref (ad (lc L 0)), .int p1] sz (GH D ct ad P (fun _ => True) S h)) (mC (some (.ref (ad (lc L 0)))) (UW D clW ckH ct 26 ad P (fun _ => True) o 0) (uA 26 ad sz)) 0 0 (uA 26 ad sz) := by
  refine X.start (val := fun (o : US) => some (.ref (ad (lc L 0)))) (Bt := fun (o : US) => UW D clW ckH ct 26 ad P (fun _ => True) o 0) (A := uA 26 ad sz) ho (by decide) (Nat.le_of_ble_eq_true rfl) (lv := [(0, .ref (ad (lc L 0))), (1, .int p1)]) rfl ?_
  intro p e s m args below meth c E hr hlk hnm hsz hU ls hl
  subst hsz
  obtain ⟨⟨hx, hb, hml, hown, hts⟩, hK, hJ⟩ := id E
  replace hr : meth.sig.returnType = some (FieldType.object "HorizonSeam$Line") ∧ ((∃ n, (FieldType.object "HorizonSeam$Line") = .object n) ∨ ∃ t, (FieldType.object "HorizonSeam$Line") = .array t) := ⟨hr, Or.inl ⟨_, rfl⟩⟩
  replace hU := hU.to (B := uA 26 ad s.heap.size) (fun i hi => Or.inl ⟨i, hi, rfl⟩)
  have hA0 : ∀ q, s.heap.size ≤ q → (uA 26 ad s.heap.size) q := fun q h => Or.inr h
  have hS : va_S (uA 26 ad s.heap.size) s.heap s.heap [] := va_S.rf
  unfold s3_after
  refine x_iconst (v := 0) hx hb dX3_after_0 (by decide) ?_
  refine x_istore_n (lv' := [(2, .int (0 : Int32)), (0, .ref (ad (lc L 0))), (1, .int p1)]) hx hb dX3_after_1 rfl hl (by decide) rfl (fun ls hl => ?_)
  refine X.loop (I := fun (x : (US × Int32)) g H locs => GH D ct ad P (uA 26 ad s.heap.size) x.1 h H ∧ va_S (uA 26 ad s.heap.size) s.heap H locs ∧ ∃ ls : Array Slot, g = F0 m 2 ls [] ∧ lv_has ls 3 [(0, .ref (ad (lc L 0))), (1, .int p1), (2, .int x.2)]) (fun rc3 ih3 => ?_) FUEL _ _ _ _ ⟨hU, hS, _, rfl, lv_sub hl [1, 2, 0] rfl⟩
  rintro ⟨S1, v2⟩ _ H locs ⟨hU, hS, ls, rfl, hl⟩
  have hU : GH D ct ad P (uA 26 ad s.heap.size) S1 h H := hU
  have hl : lv_has ls 3 [(0, .ref (ad (lc L 0))), (1, .int p1), (2, .int v2)] := hl
  refine X.eqs (sp2 := s3_after_L2 L p1 P h ct rc3 S1 v2) rfl ?_
  unfold s3_after_L2
  refine x_iload_n hx hb dX3_after_2 rfl (lv_at hl 2 rfl) ?_
  refine x_iload_n hx hb dX3_after_3 rfl (lv_at hl 1 rfl) ?_
  refine x_icmp_ge (tgt := 18) hx hb dX3_after_4 (by decide) (fun hc => ?_) (fun hc => ?_)
  · refine x_aload_n hx hb dX3_after_18 rfl (lv_at hl 0 rfl) ?_
    exact x_aret hx hb hr hlk hS rfl (hU.1.to fun _ _ => trivial) dX3_after_19
  · refine x_aload_n hx hb dX3_after_7 rfl (lv_at hl 0 rfl) ?_
    refine kX3_3_pass E hU hS hA0 (hL) ⟨by decide, by decide⟩ hl.1 (Nat.le_of_ble_eq_true rfl) dX3_after_8 ⟨Nat.le_refl _, Nat.le_refl _⟩ (fun o4 H locs hU hS => ?_)
    refine x_pop hx hb dX3_after_11 rfl ?_
    refine x_iinc (v := (v2 + (1 : Int32))) (lv' := [(2, .int (v2 + (1 : Int32))), (0, .ref (ad (lc L 0))), (1, .int p1)]) (k := 2) hx hb dX3_after_12 hl rfl rfl (by decide) rfl (fun ls hl => ?_)
    refine x_goto (tgt := 2) hx hb dX3_after_15 (by decide) ?_
    exact ih3 (o4, (v2 + (1 : Int32))) _ _ _ ⟨hU, hS, _, rfl, lv_sub hl [1, 2, 0] rfl⟩
section HK
variable {ρ : Type} {p : Program} {l : Launch} {e : Env} {R : Room} {s : State} {m : MethodId} {args : Array Value} {below : List Frame} {meth : Method} {c : Code} {H : Heap} {locs : List Loc} {cells slots : Nat} {Qf : ρ → State → Prop}
variable {cc : ByteArray} {pc nL L M q0 : Nat} {ls : Array Slot} {rest : List Value}
variable {D : va_G} {ct : CT} {ck : Nat → UC} {N : Nat} {ad : Nat → Nat} {P : Nat → Nat → Option Nat} {A A0 : Nat → Prop} {S : US} {w : Int64} {h : AH} {H0 : Heap}
theorem kX1_3_after {p1 : Int32} (E : ME p m c cc nL s args RX1 D clW ct) (hG : GH D ct ad P A S h H) (hS : va_S A H0 H locs) (hA0 : ∀ q, H0.size ≤ q → A q) (hL : L < 3) (hR : 503 + 1 ≤ R.frames ∧ 8 + (3 + 11) + 20065 ≤ R.locals) (hsize : ls.size = nL) (hW : (rest.map fun v => v.category).sum ≤ 8) (hdg : decode cc pc = .ok (.invokevirtual 206, 3)) (hf : cells ≤ R.cells ∧ slots ≤ R.slots) {kp : US → Option ρ} (kk : ∀ (o : US) (H1 : Heap) (locs1 : List Loc), GH D ct ad P A o h H1 → va_S A H0 H1 locs1 → X p l e R s m args below meth c H1 locs1 cells slots Qf (kp o) (F0 m (pc + 3) ls (.ref (ad (lc L 0)) :: rest))) : X p l e R s m args below meth c H locs cells slots Qf (callK (s3_after S ct P h L p1) kp) (F0 m pc ls (.int p1 :: .ref (ad (lc L 0)) :: rest)) := gc_mod (val' := fun (o : US) => some (.ref (ad (lc L 0)))) (len := 3) (So := fun (o : US) => o) hG hS hA0 (fun o ho => rnV (As := [.int p1]) E (hG.to fun _ _ => trivial) (recvU (i := lc L 0) E.2.1 hG.1 (lc_lt hL (by decide)) (ck_lc (by decide)) rfl) (mH3_after l D ct ad P S h L p1 hL _ o ho) (cwV 1 E.1.2.2.2.2 (lw_V q448 q449 q450 q118 q451) rfl rfl rfl (by decide +kernel) hR) rfl hsize rfl hW hdg hf) kk
end HK

set_option maxHeartbeats 4000000 in
theorem mH1_tryOn (l : Launch) (D : va_G) (ct : CT) (ad : Nat → Nat) (P : Nat → Nat → Option Nat) (S : US) (h : AH) (p1 : Int32) (sz : Nat) (o : US) (ho : s1_tryOn S ct P h p1 = some o) : Met l yX1_tryOn (ws_ yX1_tryOn cX1_tryOn 2 (some (.object "HorizonSeam$Line"))) { frames := 504, cells := 0, slots := 0, locals := 20087 } (mP D clW ct [.ref (ad (0)), .int p1] sz (GH D ct ad P (fun _ => True) S h)) (mC (some (.ref (ad (lc 1 0)))) (UW D clW ckH ct 26 ad P (fun _ => True) o 0) (uA 26 ad sz)) 0 0 (uA 26 ad sz) := by
  refine X.start (val := fun (o : US) => some (.ref (ad (lc 1 0)))) (Bt := fun (o : US) => UW D clW ckH ct 26 ad P (fun _ => True) o 0) (A := uA 26 ad sz) ho (by decide) (Nat.le_of_ble_eq_true rfl) (lv := [(0, .ref (ad (0))), (1, .int p1)]) rfl ?_
  intro p e s m args below meth c E hr hlk hnm hsz hU ls hl
  subst hsz
  obtain ⟨⟨hx, hb, hml, hown, hts⟩, hK, hJ⟩ := id E
  replace hr : meth.sig.returnType = some (FieldType.object "HorizonSeam$Line") ∧ ((∃ n, (FieldType.object "HorizonSeam$Line") = .object n) ∨ ∃ t, (FieldType.object "HorizonSeam$Line") = .array t) := ⟨hr, Or.inl ⟨_, rfl⟩⟩
  replace hU := hU.to (B := uA 26 ad s.heap.size) (fun i hi => Or.inl ⟨i, hi, rfl⟩)
  have hA0 : ∀ q, s.heap.size ≤ q → (uA 26 ad s.heap.size) q := fun q h => Or.inr h
  have hS : va_S (uA 26 ad s.heap.size) s.heap s.heap [] := va_S.rf
  unfold s1_tryOn
  refine x_aload_n hx hb dX1_tryOn_0 rfl (lv_at hl 0 rfl) ?_
  refine gX1_44 E hU dX1_tryOn_1 ?_
  refine x_aload_n hx hb dX1_tryOn_4 rfl (lv_at hl 0 rfl) ?_
  refine gX1_40 E hU dX1_tryOn_5 ?_
  refine kX1_3_be E hU hS hA0 (by decide) (by decide) ⟨by decide, by decide⟩ hl.1 (Nat.le_of_ble_eq_true rfl) dX1_tryOn_8 ⟨Nat.le_refl _, Nat.le_refl _⟩ (fun o1 H locs hU hS => ?_)
  refine x_iload_n hx hb dX1_tryOn_11 rfl (lv_at hl 1 rfl) ?_
  refine kX1_3_after E hU hS hA0 (by decide) ⟨by decide, by decide⟩ hl.1 (Nat.le_of_ble_eq_true rfl) dX1_tryOn_12 ⟨Nat.le_refl _, Nat.le_refl _⟩ (fun o2 H locs hU hS => ?_)
  exact x_aret hx hb hr hlk hS rfl (hU.1.to fun _ _ => trivial) dX1_tryOn_15
section HK
variable {ρ : Type} {p : Program} {l : Launch} {e : Env} {R : Room} {s : State} {m : MethodId} {args : Array Value} {below : List Frame} {meth : Method} {c : Code} {H : Heap} {locs : List Loc} {cells slots : Nat} {Qf : ρ → State → Prop}
variable {cc : ByteArray} {pc nL L M q0 : Nat} {ls : Array Slot} {rest : List Value}
variable {D : va_G} {ct : CT} {ck : Nat → UC} {N : Nat} {ad : Nat → Nat} {P : Nat → Nat → Option Nat} {A A0 : Nat → Prop} {S : US} {w : Int64} {h : AH} {H0 : Heap}
theorem kX1_1_tryOn {p1 : Int32} (E : ME p m c cc nL s args RX1 D clW ct) (hG : GH D ct ad P A S h H) (hS : va_S A H0 H locs) (hA0 : ∀ q, H0.size ≤ q → A q) (hR : 504 + 1 ≤ R.frames ∧ 8 + (2 + 11) + 20087 ≤ R.locals) (hsize : ls.size = nL) (hW : (rest.map fun v => v.category).sum ≤ 8) (hdg : decode cc pc = .ok (.invokevirtual 228, 3)) (hf : cells ≤ R.cells ∧ slots ≤ R.slots) {kp : US → Option ρ} (kk : ∀ (o : US) (H1 : Heap) (locs1 : List Loc), GH D ct ad P A o h H1 → va_S A H0 H1 locs1 → X p l e R s m args below meth c H1 locs1 cells slots Qf (kp o) (F0 m (pc + 3) ls (.ref (ad (lc 1 0)) :: rest))) : X p l e R s m args below meth c H locs cells slots Qf (callK (s1_tryOn S ct P h p1) kp) (F0 m pc ls (.int p1 :: .ref (ad (0)) :: rest)) := gc_mod (val' := fun (o : US) => some (.ref (ad (lc 1 0)))) (len := 3) (So := fun (o : US) => o) hG hS hA0 (fun o ho => rnV (As := [.int p1]) E (hG.to fun _ _ => trivial) (recvU (i := 0) E.2.1 hG.1 (by decide) rfl rfl) (mH1_tryOn l D ct ad P S h p1 _ o ho) (cwV 1 E.1.2.2.2.2 (lw_V q1478 q1480 qs36 q113 q1481) rfl rfl rfl (by decide +kernel) hR) rfl hsize rfl hW hdg hf) kk
end HK

set_option maxHeartbeats 4000000 in
theorem mH1_then (l : Launch) (D : va_G) (ct : CT) (ad : Nat → Nat) (P : Nat → Nat → Option Nat) (S : US) (h : AH) (p1 : Int32) (p2 : Int32) (p3 : Int32) (sz : Nat) (o : (Int32 × US)) (ho : s1_then S ct P h p1 p2 p3 = some o) : Met l yX1_then (ws_ yX1_then cX1_then 4 (some .int)) { frames := 505, cells := 0, slots := 0, locals := 20108 } (mP D clW ct [.ref (ad (0)), .int p1, .int p2, .int p3] sz (GH D ct ad P (fun _ => True) S h)) (mC (some (.int o.1)) (UW D clW ckH ct 26 ad P (fun _ => True) o.2 0) (uA 26 ad sz)) 0 0 (uA 26 ad sz) := by
  refine X.start (val := fun (o : (Int32 × US)) => some (.int o.1)) (Bt := fun (o : (Int32 × US)) => UW D clW ckH ct 26 ad P (fun _ => True) o.2 0) (A := uA 26 ad sz) ho (by decide) (Nat.le_of_ble_eq_true rfl) (lv := [(0, .ref (ad (0))), (1, .int p1), (2, .int p2), (3, .int p3)]) rfl ?_
  intro p e s m args below meth c E hr hlk hnm hsz hU ls hl
  subst hsz
  obtain ⟨⟨hx, hb, hml, hown, hts⟩, hK, hJ⟩ := id E
  replace hU := hU.to (B := uA 26 ad s.heap.size) (fun i hi => Or.inl ⟨i, hi, rfl⟩)
  have hA0 : ∀ q, s.heap.size ≤ q → (uA 26 ad s.heap.size) q := fun q h => Or.inr h
  have hS : va_S (uA 26 ad s.heap.size) s.heap s.heap [] := va_S.rf
  unfold s1_then
  refine x_aload_n hx hb dX1_then_0 rfl (lv_at hl 0 rfl) ?_
  refine x_iload_n hx hb dX1_then_1 rfl (lv_at hl 1 rfl) ?_
  refine kX1_1_aStretch E hU hS hA0 ⟨by decide, by decide⟩ hl.1 (Nat.le_of_ble_eq_true rfl) dX1_then_2 ⟨Nat.le_refl _, Nat.le_refl _⟩ (fun o1 H locs hU hS => ?_)
  refine x_iload_n hx hb dX1_then_5 rfl (lv_at hl 3 rfl) ?_
  refine x_iconst (v := 1) hx hb dX1_then_6 (by decide) ?_
  refine kX1_1_oneOf E hS hA0 ⟨by decide, by decide⟩ hl.1 (Nat.le_of_ble_eq_true rfl) dX1_then_7 ⟨Nat.le_refl _, Nat.le_refl _⟩ (fun o2 H locs hz_ hk_ hS => ?_)
  replace hU := hU.kept hz_ hk_
  refine x_iload_n hx hb dX1_then_10 rfl (lv_at hl 2 rfl) ?_
  refine x_iconst (v := 0) hx hb dX1_then_11 (by decide) ?_
  refine x_bipush (v := 60) hx hb dX1_then_12 (by decide) ?_
  refine kX1_1_in E hS hA0 ⟨by decide, by decide⟩ hl.1 (Nat.le_of_ble_eq_true rfl) dX1_then_14 ⟨Nat.le_refl _, Nat.le_refl _⟩ (fun o3 H locs hz_ hk_ hS => ?_)
  replace hU := hU.kept hz_ hk_
  refine kX1_1_right E hS hA0 ⟨by decide, by decide⟩ hl.1 (Nat.le_of_ble_eq_true rfl) dX1_then_17 ⟨Nat.le_refl _, Nat.le_refl _⟩ (fun o4 H locs hz_ hk_ hS => ?_)
  replace hU := hU.kept hz_ hk_
  refine x_iload_n hx hb dX1_then_20 rfl (lv_at hl 3 rfl) ?_
  refine x_if_ne (tgt := 37) hx hb dX1_then_21 (by decide) (fun hc => ?_) (fun hc => ?_)
  · refine x_aload_n hx hb dX1_then_37 rfl (lv_at hl 0 rfl) ?_
    refine x_iload_n hx hb dX1_then_38 rfl (lv_at hl 2 rfl) ?_
    refine kX1_1_tryOn E hU hS hA0 ⟨by decide, by decide⟩ hl.1 (Nat.le_of_ble_eq_true rfl) dX1_then_39 ⟨Nat.le_refl _, Nat.le_refl _⟩ (fun o5 H locs hU hS => ?_)
    refine gX1_158 E hU (by decide) dX1_then_42 ?_
    refine x_iload_n hx hb dX1_then_45 rfl (lv_at hl 1 rfl) ?_
    refine ux_ald (i := lc 1 2) (n := 12) E hU.1 (lc_lt (by decide) (by decide)) (ck_lc (by decide)) dX1_then_46 ?_
    exact x_iret hx hb hr hlk hS rfl (hU.1.to fun _ _ => trivial) dX1_then_47
  · refine x_aload_n hx hb dX1_then_24 rfl (lv_at hl 0 rfl) ?_
    refine x_iload_n hx hb dX1_then_25 rfl (lv_at hl 2 rfl) ?_
    refine kX1_1_tryOn E hU hS hA0 ⟨by decide, by decide⟩ hl.1 (Nat.le_of_ble_eq_true rfl) dX1_then_26 ⟨Nat.le_refl _, Nat.le_refl _⟩ (fun o6 H locs hU hS => ?_)
    refine gX1_155 E hU (by decide) dX1_then_29 ?_
    refine x_iload_n hx hb dX1_then_32 rfl (lv_at hl 1 rfl) ?_
    refine ux_ald (i := lc 1 1) (n := 12) E hU.1 (lc_lt (by decide) (by decide)) (ck_lc (by decide)) dX1_then_33 ?_
    refine x_goto (tgt := 47) hx hb dX1_then_34 (by decide) ?_
    exact x_iret hx hb hr hlk hS rfl (hU.1.to fun _ _ => trivial) dX1_then_47

set_option maxHeartbeats 4000000 in
theorem mH3_loosest (l : Launch) (D : va_G) (ct : CT) (ad : Nat → Nat) (P : Nat → Nat → Option Nat) (S : US) (h : AH) (L : Nat) (hL : L < 3) (sz : Nat) (o : Int32) (ho : s3_loosest S L = some o) : Met l yX3_loosest (ws_ yX3_loosest cX3_loosest 3 (some .int)) { frames := 1, cells := 0, slots := 0, locals := 40 } (mP D clW ct [.ref (ad (lc L 0))] sz (GH D ct ad P (fun _ => True) S h)) (mC (some (.int o)) (fun _ => True) (nA sz)) 0 0 (nA sz) := by
  refine X.start (val := fun (o : Int32) => some (.int o)) (Bt := fun _ _ => True) (A := nA sz) ho (by decide) (Nat.le_of_ble_eq_true rfl) (lv := [(0, .ref (ad (lc L 0)))]) rfl ?_
  intro p e s m args below meth c E hr hlk hnm hsz hU ls hl
  subst hsz
  obtain ⟨⟨hx, hb, hml, hown, hts⟩, hK, hJ⟩ := id E
  have hA0 : ∀ q, s.heap.size ≤ q → (nA s.heap.size) q := fun q h => h
  have hS : va_S (nA s.heap.size) s.heap s.heap [] := va_S.rf
  unfold s3_loosest
  refine x_iconst (v := 0) hx hb dX3_loosest_0 (by decide) ?_
  refine x_istore_n (lv' := [(1, .int (0 : Int32)), (0, .ref (ad (lc L 0)))]) hx hb dX3_loosest_1 rfl hl (by decide) rfl (fun ls hl => ?_)
  refine x_iconst (v := 1) hx hb dX3_loosest_2 (by decide) ?_
  refine x_istore_n (lv' := [(2, .int (1 : Int32)), (1, .int (0 : Int32)), (0, .ref (ad (lc L 0)))]) hx hb dX3_loosest_3 rfl hl (by decide) rfl (fun ls hl => ?_)
  refine X.loop (I := fun (x : (Int32 × Int32)) g H locs => GH D ct ad P (fun _ => True) S h H ∧ va_S (nA s.heap.size) s.heap H locs ∧ ∃ ls : Array Slot, g = F0 m 4 ls [] ∧ lv_has ls 3 [(0, .ref (ad (lc L 0))), (1, .int x.1), (2, .int x.2)]) (fun rc3 ih3 => ?_) FUEL _ _ _ _ ⟨hU, hS, _, rfl, lv_sub hl [2, 1, 0] rfl⟩
  rintro ⟨v1, v2⟩ _ H locs ⟨hU, hS, ls, rfl, hl⟩
  have hU : GH D ct ad P (fun _ => True) S h H := hU
  have hl : lv_has ls 3 [(0, .ref (ad (lc L 0))), (1, .int v1), (2, .int v2)] := hl
  refine X.eqs (sp2 := s3_loosest_L4 L S rc3 v1 v2) rfl ?_
  unfold s3_loosest_L4
  refine x_iload_n hx hb dX3_loosest_4 rfl (lv_at hl 2 rfl) ?_
  refine x_aload_n hx hb dX3_loosest_5 rfl (lv_at hl 0 rfl) ?_
  refine gX3_3 E hU (hL) dX3_loosest_6 ?_
  refine gX3_45 E hU dX3_loosest_9 ?_
  refine gX3_127 E hU dX3_loosest_12 ?_
  refine x_icmp_ge (tgt := 41) hx hb dX3_loosest_15 (by decide) (fun hc => ?_) (fun hc => ?_)
  · refine x_iload_n hx hb dX3_loosest_41 rfl (lv_at hl 1 rfl) ?_
    exact x_iret hx hb hr hlk hS rfl trivial dX3_loosest_42
  · refine x_aload_n hx hb dX3_loosest_18 rfl (lv_at hl 0 rfl) ?_
    refine gX3_15 E hU (hL) dX3_loosest_19 ?_
    refine x_iload_n hx hb dX3_loosest_22 rfl (lv_at hl 2 rfl) ?_
    refine ux_ald (i := lc L 1) (n := 12) E hU.1 (lc_lt (hL) (by decide)) (ck_lc (by decide)) dX3_loosest_23 ?_
    refine x_aload_n hx hb dX3_loosest_24 rfl (lv_at hl 0 rfl) ?_
    refine gX3_15 E hU (hL) dX3_loosest_25 ?_
    refine x_iload_n hx hb dX3_loosest_28 rfl (lv_at hl 1 rfl) ?_
    refine ux_ald (i := lc L 1) (n := 12) E hU.1 (lc_lt (hL) (by decide)) (ck_lc (by decide)) dX3_loosest_29 ?_
    refine x_icmp_ge (tgt := 35) hx hb dX3_loosest_30 (by decide) (fun hc => ?_) (fun hc => ?_)
    · refine x_iinc (v := (v2 + (1 : Int32))) (lv' := [(2, .int (v2 + (1 : Int32))), (0, .ref (ad (lc L 0))), (1, .int v1)]) (k := 2) hx hb dX3_loosest_35 hl rfl rfl (by decide) rfl (fun ls hl => ?_)
      refine x_goto (tgt := 4) hx hb dX3_loosest_38 (by decide) ?_
      exact ih3 (v1, (v2 + (1 : Int32))) _ _ _ ⟨hU, hS, _, rfl, lv_sub hl [1, 2, 0] rfl⟩
    · refine x_iload_n hx hb dX3_loosest_33 rfl (lv_at hl 2 rfl) ?_
      refine x_istore_n (lv' := [(1, .int v2), (0, .ref (ad (lc L 0))), (2, .int v2)]) hx hb dX3_loosest_34 rfl hl (by decide) rfl (fun ls hl => ?_)
      refine x_iinc (v := (v2 + (1 : Int32))) (lv' := [(2, .int (v2 + (1 : Int32))), (1, .int v2), (0, .ref (ad (lc L 0)))]) (k := 2) hx hb dX3_loosest_35 hl rfl rfl (by decide) rfl (fun ls hl => ?_)
      refine x_goto (tgt := 4) hx hb dX3_loosest_38 (by decide) ?_
      exact ih3 (v2, (v2 + (1 : Int32))) _ _ _ ⟨hU, hS, _, rfl, lv_sub hl [2, 1, 0] rfl⟩
section HK
variable {ρ : Type} {p : Program} {l : Launch} {e : Env} {R : Room} {s : State} {m : MethodId} {args : Array Value} {below : List Frame} {meth : Method} {c : Code} {H : Heap} {locs : List Loc} {cells slots : Nat} {Qf : ρ → State → Prop}
variable {cc : ByteArray} {pc nL L M q0 : Nat} {ls : Array Slot} {rest : List Value}
variable {D : va_G} {ct : CT} {ck : Nat → UC} {N : Nat} {ad : Nat → Nat} {P : Nat → Nat → Option Nat} {A A0 : Nat → Prop} {S : US} {w : Int64} {h : AH} {H0 : Heap}
theorem kX1_3_loosest (E : ME p m c cc nL s args RX1 D clW ct) (hG : GH D ct ad P A S h H) (hS : va_S A0 H0 H locs) (hA0 : ∀ q, H0.size ≤ q → A0 q) (hL : L < 3) (hR : 1 + 1 ≤ R.frames ∧ 8 + (3 + 11) + 40 ≤ R.locals) (hsize : ls.size = nL) (hW : (rest.map fun v => v.category).sum ≤ 8) (hdg : decode cc pc = .ok (.invokevirtual 234, 3)) (hf : cells ≤ R.cells ∧ slots ≤ R.slots) {kp : Int32 → Option ρ} (kk : ∀ (o : Int32) (H1 : Heap) (locs1 : List Loc), GH D ct ad P A S h H1 → va_S A0 H0 H1 locs1 → X p l e R s m args below meth c H1 locs1 cells slots Qf (kp o) (F0 m (pc + 3) ls (.int o :: rest))) : X p l e R s m args below meth c H locs cells slots Qf (callK (s3_loosest S L) kp) (F0 m pc ls (.ref (ad (lc L 0)) :: rest)) := gc_ro (val' := fun (o : Int32) => some (.int o)) (len := 3) hG hS hA0 (fun o ho => rnV (As := []) E (hG.to fun _ _ => trivial) (recvU (i := lc L 0) E.2.1 hG.1 (lc_lt hL (by decide)) (ck_lc (by decide)) rfl) (mH3_loosest l D ct ad P S h L hL _ o ho) (cwV 0 E.1.2.2.2.2 (lw_V q1493 q1494 q1495 q118 q1496) rfl rfl rfl (by decide +kernel) hR) rfl hsize rfl hW hdg hf) kk
end HK

set_option maxHeartbeats 4000000 in
theorem mH3_tightest (l : Launch) (D : va_G) (ct : CT) (ad : Nat → Nat) (P : Nat → Nat → Option Nat) (S : US) (h : AH) (L : Nat) (hL : L < 3) (sz : Nat) (o : Int32) (ho : s3_tightest S L = some o) : Met l yX3_tightest (ws_ yX3_tightest cX3_tightest 3 (some .int)) { frames := 1, cells := 0, slots := 0, locals := 40 } (mP D clW ct [.ref (ad (lc L 0))] sz (GH D ct ad P (fun _ => True) S h)) (mC (some (.int o)) (fun _ => True) (nA sz)) 0 0 (nA sz) := by
  refine X.start (val := fun (o : Int32) => some (.int o)) (Bt := fun _ _ => True) (A := nA sz) ho (by decide) (Nat.le_of_ble_eq_true rfl) (lv := [(0, .ref (ad (lc L 0)))]) rfl ?_
  intro p e s m args below meth c E hr hlk hnm hsz hU ls hl
  subst hsz
  obtain ⟨⟨hx, hb, hml, hown, hts⟩, hK, hJ⟩ := id E
  have hA0 : ∀ q, s.heap.size ≤ q → (nA s.heap.size) q := fun q h => h
  have hS : va_S (nA s.heap.size) s.heap s.heap [] := va_S.rf
  unfold s3_tightest
  refine x_iconst (v := 0) hx hb dX3_tightest_0 (by decide) ?_
  refine x_istore_n (lv' := [(1, .int (0 : Int32)), (0, .ref (ad (lc L 0)))]) hx hb dX3_tightest_1 rfl hl (by decide) rfl (fun ls hl => ?_)
  refine x_iconst (v := 1) hx hb dX3_tightest_2 (by decide) ?_
  refine x_istore_n (lv' := [(2, .int (1 : Int32)), (1, .int (0 : Int32)), (0, .ref (ad (lc L 0)))]) hx hb dX3_tightest_3 rfl hl (by decide) rfl (fun ls hl => ?_)
  refine X.loop (I := fun (x : (Int32 × Int32)) g H locs => GH D ct ad P (fun _ => True) S h H ∧ va_S (nA s.heap.size) s.heap H locs ∧ ∃ ls : Array Slot, g = F0 m 4 ls [] ∧ lv_has ls 3 [(0, .ref (ad (lc L 0))), (1, .int x.1), (2, .int x.2)]) (fun rc3 ih3 => ?_) FUEL _ _ _ _ ⟨hU, hS, _, rfl, lv_sub hl [2, 1, 0] rfl⟩
  rintro ⟨v1, v2⟩ _ H locs ⟨hU, hS, ls, rfl, hl⟩
  have hU : GH D ct ad P (fun _ => True) S h H := hU
  have hl : lv_has ls 3 [(0, .ref (ad (lc L 0))), (1, .int v1), (2, .int v2)] := hl
  refine X.eqs (sp2 := s3_tightest_L4 L S rc3 v1 v2) rfl ?_
  unfold s3_tightest_L4
  refine x_iload_n hx hb dX3_tightest_4 rfl (lv_at hl 2 rfl) ?_
  refine x_aload_n hx hb dX3_tightest_5 rfl (lv_at hl 0 rfl) ?_
  refine gX3_3 E hU (hL) dX3_tightest_6 ?_
  refine gX3_45 E hU dX3_tightest_9 ?_
  refine gX3_127 E hU dX3_tightest_12 ?_
  refine x_icmp_ge (tgt := 41) hx hb dX3_tightest_15 (by decide) (fun hc => ?_) (fun hc => ?_)
  · refine x_iload_n hx hb dX3_tightest_41 rfl (lv_at hl 1 rfl) ?_
    exact x_iret hx hb hr hlk hS rfl trivial dX3_tightest_42
  · refine x_aload_n hx hb dX3_tightest_18 rfl (lv_at hl 0 rfl) ?_
    refine gX3_15 E hU (hL) dX3_tightest_19 ?_
    refine x_iload_n hx hb dX3_tightest_22 rfl (lv_at hl 2 rfl) ?_
    refine ux_ald (i := lc L 1) (n := 12) E hU.1 (lc_lt (hL) (by decide)) (ck_lc (by decide)) dX3_tightest_23 ?_
    refine x_aload_n hx hb dX3_tightest_24 rfl (lv_at hl 0 rfl) ?_
    refine gX3_15 E hU (hL) dX3_tightest_25 ?_
    refine x_iload_n hx hb dX3_tightest_28 rfl (lv_at hl 1 rfl) ?_
    refine ux_ald (i := lc L 1) (n := 12) E hU.1 (lc_lt (hL) (by decide)) (ck_lc (by decide)) dX3_tightest_29 ?_
    refine x_icmp_le (tgt := 35) hx hb dX3_tightest_30 (by decide) (fun hc => ?_) (fun hc => ?_)
    · refine x_iinc (v := (v2 + (1 : Int32))) (lv' := [(2, .int (v2 + (1 : Int32))), (0, .ref (ad (lc L 0))), (1, .int v1)]) (k := 2) hx hb dX3_tightest_35 hl rfl rfl (by decide) rfl (fun ls hl => ?_)
      refine x_goto (tgt := 4) hx hb dX3_tightest_38 (by decide) ?_
      exact ih3 (v1, (v2 + (1 : Int32))) _ _ _ ⟨hU, hS, _, rfl, lv_sub hl [1, 2, 0] rfl⟩
    · refine x_iload_n hx hb dX3_tightest_33 rfl (lv_at hl 2 rfl) ?_
      refine x_istore_n (lv' := [(1, .int v2), (0, .ref (ad (lc L 0))), (2, .int v2)]) hx hb dX3_tightest_34 rfl hl (by decide) rfl (fun ls hl => ?_)
      refine x_iinc (v := (v2 + (1 : Int32))) (lv' := [(2, .int (v2 + (1 : Int32))), (1, .int v2), (0, .ref (ad (lc L 0)))]) (k := 2) hx hb dX3_tightest_35 hl rfl rfl (by decide) rfl (fun ls hl => ?_)
      refine x_goto (tgt := 4) hx hb dX3_tightest_38 (by decide) ?_
      exact ih3 (v2, (v2 + (1 : Int32))) _ _ _ ⟨hU, hS, _, rfl, lv_sub hl [2, 1, 0] rfl⟩
section HK
variable {ρ : Type} {p : Program} {l : Launch} {e : Env} {R : Room} {s : State} {m : MethodId} {args : Array Value} {below : List Frame} {meth : Method} {c : Code} {H : Heap} {locs : List Loc} {cells slots : Nat} {Qf : ρ → State → Prop}
variable {cc : ByteArray} {pc nL L M q0 : Nat} {ls : Array Slot} {rest : List Value}
variable {D : va_G} {ct : CT} {ck : Nat → UC} {N : Nat} {ad : Nat → Nat} {P : Nat → Nat → Option Nat} {A A0 : Nat → Prop} {S : US} {w : Int64} {h : AH} {H0 : Heap}
theorem kX1_3_tightest (E : ME p m c cc nL s args RX1 D clW ct) (hG : GH D ct ad P A S h H) (hS : va_S A0 H0 H locs) (hA0 : ∀ q, H0.size ≤ q → A0 q) (hL : L < 3) (hR : 1 + 1 ≤ R.frames ∧ 8 + (3 + 11) + 40 ≤ R.locals) (hsize : ls.size = nL) (hW : (rest.map fun v => v.category).sum ≤ 8) (hdg : decode cc pc = .ok (.invokevirtual 231, 3)) (hf : cells ≤ R.cells ∧ slots ≤ R.slots) {kp : Int32 → Option ρ} (kk : ∀ (o : Int32) (H1 : Heap) (locs1 : List Loc), GH D ct ad P A S h H1 → va_S A0 H0 H1 locs1 → X p l e R s m args below meth c H1 locs1 cells slots Qf (kp o) (F0 m (pc + 3) ls (.int o :: rest))) : X p l e R s m args below meth c H locs cells slots Qf (callK (s3_tightest S L) kp) (F0 m pc ls (.ref (ad (lc L 0)) :: rest)) := gc_ro (val' := fun (o : Int32) => some (.int o)) (len := 3) hG hS hA0 (fun o ho => rnV (As := []) E (hG.to fun _ _ => trivial) (recvU (i := lc L 0) E.2.1 hG.1 (lc_lt hL (by decide)) (ck_lc (by decide)) rfl) (mH3_tightest l D ct ad P S h L hL _ o ho) (cwV 0 E.1.2.2.2.2 (lw_V q1489 q1490 q1491 q118 q1492) rfl rfl rfl (by decide +kernel) hR) rfl hsize rfl hW hdg hf) kk
end HK

set_option maxHeartbeats 4000000 in
theorem mH1_later (l : Launch) (D : va_G) (ct : CT) (ad : Nat → Nat) (P : Nat → Nat → Option Nat) (S : US) (h : AH) (p1 : Int32) (p2 : Int32) (sz : Nat) (o : (Int32 × US)) (ho : s1_later S ct P h p1 p2 = some o) : Met l yX1_later (ws_ yX1_later cX1_later 3 (some .int)) { frames := 505, cells := 0, slots := 0, locals := 20108 } (mP D clW ct [.ref (ad (0)), .int p1, .int p2] sz (GH D ct ad P (fun _ => True) S h)) (mC (some (.int o.1)) (UW D clW ckH ct 26 ad P (fun _ => True) o.2 0) (uA 26 ad sz)) 0 0 (uA 26 ad sz) := by
  refine X.start (val := fun (o : (Int32 × US)) => some (.int o.1)) (Bt := fun (o : (Int32 × US)) => UW D clW ckH ct 26 ad P (fun _ => True) o.2 0) (A := uA 26 ad sz) ho (by decide) (Nat.le_of_ble_eq_true rfl) (lv := [(0, .ref (ad (0))), (1, .int p1), (2, .int p2)]) rfl ?_
  intro p e s m args below meth c E hr hlk hnm hsz hU ls hl
  subst hsz
  obtain ⟨⟨hx, hb, hml, hown, hts⟩, hK, hJ⟩ := id E
  replace hU := hU.to (B := uA 26 ad s.heap.size) (fun i hi => Or.inl ⟨i, hi, rfl⟩)
  have hA0 : ∀ q, s.heap.size ≤ q → (uA 26 ad s.heap.size) q := fun q h => Or.inr h
  have hS : va_S (uA 26 ad s.heap.size) s.heap s.heap [] := va_S.rf
  unfold s1_later
  refine x_iload_n hx hb dX1_later_0 rfl (lv_at hl 2 rfl) ?_
  refine x_iconst (v := 3) hx hb dX1_later_1 (by decide) ?_
  refine kX1_1_oneOf E hS hA0 ⟨by decide, by decide⟩ hl.1 (Nat.le_of_ble_eq_true rfl) dX1_later_2 ⟨Nat.le_refl _, Nat.le_refl _⟩ (fun o1 H locs hz_ hk_ hS => ?_)
  replace hU := hU.kept hz_ hk_
  refine x_iload_n hx hb dX1_later_5 rfl (lv_at hl 1 rfl) ?_
  refine x_iconst (v := 0) hx hb dX1_later_6 (by decide) ?_
  refine x_bipush (v := 60) hx hb dX1_later_7 (by decide) ?_
  refine kX1_1_in E hS hA0 ⟨by decide, by decide⟩ hl.1 (Nat.le_of_ble_eq_true rfl) dX1_later_9 ⟨Nat.le_refl _, Nat.le_refl _⟩ (fun o2 H locs hz_ hk_ hS => ?_)
  replace hU := hU.kept hz_ hk_
  refine kX1_1_right E hS hA0 ⟨by decide, by decide⟩ hl.1 (Nat.le_of_ble_eq_true rfl) dX1_later_12 ⟨Nat.le_refl _, Nat.le_refl _⟩ (fun o3 H locs hz_ hk_ hS => ?_)
  replace hU := hU.kept hz_ hk_
  refine x_aload_n hx hb dX1_later_15 rfl (lv_at hl 0 rfl) ?_
  refine x_iload_n hx hb dX1_later_16 rfl (lv_at hl 1 rfl) ?_
  refine kX1_1_tryOn E hU hS hA0 ⟨by decide, by decide⟩ hl.1 (Nat.le_of_ble_eq_true rfl) dX1_later_17 ⟨Nat.le_refl _, Nat.le_refl _⟩ (fun o4 H locs hU hS => ?_)
  refine x_pop hx hb dX1_later_20 rfl ?_
  refine x_iload_n hx hb dX1_later_21 rfl (lv_at hl 2 rfl) ?_
  refine X.ite (fun hc => ?_) (fun hc0 => ?_)
  · refine x_tabEq (tgt := 48) hx hb hc dX1_later_22 (by decide) (by decide) rfl (by decide) ?_
    refine x_aload_n hx hb dX1_later_48 rfl (lv_at hl 0 rfl) ?_
    refine gX1_44 E hU dX1_later_49 ?_
    refine kX1_3_open E hU hS hA0 (by decide) ⟨by decide, by decide⟩ hl.1 (Nat.le_of_ble_eq_true rfl) dX1_later_52 ⟨Nat.le_refl _, Nat.le_refl _⟩ (fun o5 H locs hU hS => ?_)
    exact x_iret hx hb hr hlk hS rfl (hU.1.to fun _ _ => trivial) dX1_later_55
  refine X.ite (fun hc => ?_) (fun hc1 => ?_)
  · refine x_tabEq (tgt := 56) hx hb hc dX1_later_22 (by decide) (by decide) rfl (by decide) ?_
    refine x_aload_n hx hb dX1_later_56 rfl (lv_at hl 0 rfl) ?_
    refine gX1_44 E hU dX1_later_57 ?_
    refine kX1_3_tightest E hU hS hA0 (by decide) ⟨by decide, by decide⟩ hl.1 (Nat.le_of_ble_eq_true rfl) dX1_later_60 ⟨Nat.le_refl _, Nat.le_refl _⟩ (fun o6 H locs hU hS => ?_)
    exact x_iret hx hb hr hlk hS rfl (hU.1.to fun _ _ => trivial) dX1_later_63
  refine X.ite (fun hc => ?_) (fun hc2 => ?_)
  · refine x_tabEq (tgt := 64) hx hb hc dX1_later_22 (by decide) (by decide) rfl (by decide) ?_
    refine x_aload_n hx hb dX1_later_64 rfl (lv_at hl 0 rfl) ?_
    refine gX1_44 E hU dX1_later_65 ?_
    refine gX1_155 E hU (by decide) dX1_later_68 ?_
    refine x_aload_n hx hb dX1_later_71 rfl (lv_at hl 0 rfl) ?_
    refine gX1_44 E hU dX1_later_72 ?_
    refine kX1_3_tightest E hU hS hA0 (by decide) ⟨by decide, by decide⟩ hl.1 (Nat.le_of_ble_eq_true rfl) dX1_later_75 ⟨Nat.le_refl _, Nat.le_refl _⟩ (fun o7 H locs hU hS => ?_)
    refine ux_ald (i := lc 1 1) (n := 12) E hU.1 (lc_lt (by decide) (by decide)) (ck_lc (by decide)) dX1_later_78 ?_
    refine x_aload_n hx hb dX1_later_79 rfl (lv_at hl 0 rfl) ?_
    refine gX1_44 E hU dX1_later_80 ?_
    refine gX1_155 E hU (by decide) dX1_later_83 ?_
    refine x_aload_n hx hb dX1_later_86 rfl (lv_at hl 0 rfl) ?_
    refine gX1_44 E hU dX1_later_87 ?_
    refine kX1_3_loosest E hU hS hA0 (by decide) ⟨by decide, by decide⟩ hl.1 (Nat.le_of_ble_eq_true rfl) dX1_later_90 ⟨Nat.le_refl _, Nat.le_refl _⟩ (fun o8 H locs hU hS => ?_)
    refine ux_ald (i := lc 1 1) (n := 12) E hU.1 (lc_lt (by decide) (by decide)) (ck_lc (by decide)) dX1_later_93 ?_
    refine x_isub hx hb dX1_later_94 ?_
    exact x_iret hx hb hr hlk hS rfl (hU.1.to fun _ _ => trivial) dX1_later_95
  refine x_tabElse2 (n := 3) (tgt := 96) hx hb dX1_later_22 [0, 1, 2] (by decide) (by decide) (List.forall_mem_cons.mpr ⟨fun he => absurd (x_i32 he (0 : Int32) (by decide)) hc0, (List.forall_mem_cons.mpr ⟨fun he => absurd (x_i32 he (1 : Int32) (by decide)) hc1, (List.forall_mem_cons.mpr ⟨fun he => absurd (x_i32 he (2 : Int32) (by decide)) hc2, (fun _ h => absurd h List.not_mem_nil)⟩)⟩)⟩) (by decide) ?_
  refine x_aload_n hx hb dX1_later_96 rfl (lv_at hl 0 rfl) ?_
  refine gX1_40 E hU dX1_later_97 ?_
  refine kX1_3_allThread E hU hS hA0 (by decide) ⟨by decide, by decide⟩ hl.1 (Nat.le_of_ble_eq_true rfl) dX1_later_100 ⟨Nat.le_refl _, Nat.le_refl _⟩ (fun o9 H locs hU hS => ?_)
  refine x_aload_n hx hb dX1_later_103 rfl (lv_at hl 0 rfl) ?_
  refine gX1_44 E hU dX1_later_104 ?_
  refine kX1_3_allThread E hU hS hA0 (by decide) ⟨by decide, by decide⟩ hl.1 (Nat.le_of_ble_eq_true rfl) dX1_later_107 ⟨Nat.le_refl _, Nat.le_refl _⟩ (fun o10 H locs hU hS => ?_)
  refine x_isub hx hb dX1_later_110 ?_
  exact x_iret hx hb hr hlk hS rfl (hU.1.to fun _ _ => trivial) dX1_later_111

set_option maxHeartbeats 4000000 in
theorem mH1_opens (l : Launch) (D : va_G) (ct : CT) (ad : Nat → Nat) (P : Nat → Nat → Option Nat) (S : US) (h : AH) (p1 : Int32) (sz : Nat) (o : (Int32 × US)) (ho : s1_opens S ct P h p1 = some o) : Met l yX1_opens (ws_ yX1_opens cX1_opens 2 (some .int)) { frames := 504, cells := 0, slots := 0, locals := 20087 } (mP D clW ct [.ref (ad (0)), .int p1] sz (GH D ct ad P (fun _ => True) S h)) (mC (some (.int o.1)) (UW D clW ckH ct 26 ad P (fun _ => True) o.2 0) (uA 26 ad sz)) 0 0 (uA 26 ad sz) := by
  refine X.start (val := fun (o : (Int32 × US)) => some (.int o.1)) (Bt := fun (o : (Int32 × US)) => UW D clW ckH ct 26 ad P (fun _ => True) o.2 0) (A := uA 26 ad sz) ho (by decide) (Nat.le_of_ble_eq_true rfl) (lv := [(0, .ref (ad (0))), (1, .int p1)]) rfl ?_
  intro p e s m args below meth c E hr hlk hnm hsz hU ls hl
  subst hsz
  obtain ⟨⟨hx, hb, hml, hown, hts⟩, hK, hJ⟩ := id E
  replace hU := hU.to (B := uA 26 ad s.heap.size) (fun i hi => Or.inl ⟨i, hi, rfl⟩)
  have hA0 : ∀ q, s.heap.size ≤ q → (uA 26 ad s.heap.size) q := fun q h => Or.inr h
  have hS : va_S (uA 26 ad s.heap.size) s.heap s.heap [] := va_S.rf
  unfold s1_opens
  refine x_aload_n hx hb dX1_opens_0 rfl (lv_at hl 0 rfl) ?_
  refine x_iload_n hx hb dX1_opens_1 rfl (lv_at hl 1 rfl) ?_
  refine kX1_1_aStretch E hU hS hA0 ⟨by decide, by decide⟩ hl.1 (Nat.le_of_ble_eq_true rfl) dX1_opens_2 ⟨Nat.le_refl _, Nat.le_refl _⟩ (fun o1 H locs hU hS => ?_)
  refine x_aload_n hx hb dX1_opens_5 rfl (lv_at hl 0 rfl) ?_
  refine x_iload_n hx hb dX1_opens_6 rfl (lv_at hl 1 rfl) ?_
  refine kX1_1_opensIn E hU hS hA0 ⟨by decide, by decide⟩ hl.1 (Nat.le_of_ble_eq_true rfl) dX1_opens_7 ⟨Nat.le_refl _, Nat.le_refl _⟩ (fun o2 H locs hU hS => ?_)
  exact x_iret hx hb hr hlk hS rfl (hU.1.to fun _ _ => trivial) dX1_opens_10

set_option maxHeartbeats 4000000 in
theorem mH1_where (l : Launch) (D : va_G) (ct : CT) (ad : Nat → Nat) (P : Nat → Nat → Option Nat) (S : US) (h : AH) (p1 : Int32) (p2 : Int32) (p3 : Int32) (sz : Nat) (o : (Int32 × US)) (ho : s1_where S ct P h p1 p2 p3 = some o) : Met l yX1_where (ws_ yX1_where cX1_where 4 (some .int)) { frames := 505, cells := 0, slots := 0, locals := 20108 } (mP D clW ct [.ref (ad (0)), .int p1, .int p2, .int p3] sz (GH D ct ad P (fun _ => True) S h)) (mC (some (.int o.1)) (UW D clW ckH ct 26 ad P (fun _ => True) o.2 0) (uA 26 ad sz)) 0 0 (uA 26 ad sz) := by
  refine X.start (val := fun (o : (Int32 × US)) => some (.int o.1)) (Bt := fun (o : (Int32 × US)) => UW D clW ckH ct 26 ad P (fun _ => True) o.2 0) (A := uA 26 ad sz) ho (by decide) (Nat.le_of_ble_eq_true rfl) (lv := [(0, .ref (ad (0))), (1, .int p1), (2, .int p2), (3, .int p3)]) rfl ?_
  intro p e s m args below meth c E hr hlk hnm hsz hU ls hl
  subst hsz
  obtain ⟨⟨hx, hb, hml, hown, hts⟩, hK, hJ⟩ := id E
  replace hU := hU.to (B := uA 26 ad s.heap.size) (fun i hi => Or.inl ⟨i, hi, rfl⟩)
  have hA0 : ∀ q, s.heap.size ≤ q → (uA 26 ad s.heap.size) q := fun q h => Or.inr h
  have hS : va_S (uA 26 ad s.heap.size) s.heap s.heap [] := va_S.rf
  unfold s1_where
  refine x_aload_n hx hb dX1_where_0 rfl (lv_at hl 0 rfl) ?_
  refine x_iload_n hx hb dX1_where_1 rfl (lv_at hl 1 rfl) ?_
  refine kX1_1_aWoman E hU hS hA0 ⟨by decide, by decide⟩ hl.1 (Nat.le_of_ble_eq_true rfl) dX1_where_2 ⟨Nat.le_refl _, Nat.le_refl _⟩ (fun o1 H locs hU hS => ?_)
  refine x_iload_n hx hb dX1_where_5 rfl (lv_at hl 3 rfl) ?_
  refine x_iconst (v := 1) hx hb dX1_where_6 (by decide) ?_
  refine kX1_1_oneOf E hS hA0 ⟨by decide, by decide⟩ hl.1 (Nat.le_of_ble_eq_true rfl) dX1_where_7 ⟨Nat.le_refl _, Nat.le_refl _⟩ (fun o2 H locs hz_ hk_ hS => ?_)
  replace hU := hU.kept hz_ hk_
  refine x_iload_n hx hb dX1_where_10 rfl (lv_at hl 2 rfl) ?_
  refine x_iconst (v := 0) hx hb dX1_where_11 (by decide) ?_
  refine x_bipush (v := 60) hx hb dX1_where_12 (by decide) ?_
  refine kX1_1_in E hS hA0 ⟨by decide, by decide⟩ hl.1 (Nat.le_of_ble_eq_true rfl) dX1_where_14 ⟨Nat.le_refl _, Nat.le_refl _⟩ (fun o3 H locs hz_ hk_ hS => ?_)
  replace hU := hU.kept hz_ hk_
  refine kX1_1_right E hS hA0 ⟨by decide, by decide⟩ hl.1 (Nat.le_of_ble_eq_true rfl) dX1_where_17 ⟨Nat.le_refl _, Nat.le_refl _⟩ (fun o4 H locs hz_ hk_ hS => ?_)
  replace hU := hU.kept hz_ hk_
  refine x_iload_n hx hb dX1_where_20 rfl (lv_at hl 3 rfl) ?_
  refine x_if_ne (tgt := 37) hx hb dX1_where_21 (by decide) (fun hc => ?_) (fun hc => ?_)
  · refine x_aload_n hx hb dX1_where_37 rfl (lv_at hl 0 rfl) ?_
    refine x_iload_n hx hb dX1_where_38 rfl (lv_at hl 2 rfl) ?_
    refine kX1_1_tryOn E hU hS hA0 ⟨by decide, by decide⟩ hl.1 (Nat.le_of_ble_eq_true rfl) dX1_where_39 ⟨Nat.le_refl _, Nat.le_refl _⟩ (fun o5 H locs hU hS => ?_)
    refine gX1_105 E hU (by decide) dX1_where_42 ?_
    refine x_iload_n hx hb dX1_where_45 rfl (lv_at hl 1 rfl) ?_
    refine ux_ald (i := lc 1 5) (n := 6) E hU.1 (lc_lt (by decide) (by decide)) (ck_lc (by decide)) dX1_where_46 ?_
    exact x_iret hx hb hr hlk hS rfl (hU.1.to fun _ _ => trivial) dX1_where_47
  · refine x_aload_n hx hb dX1_where_24 rfl (lv_at hl 0 rfl) ?_
    refine x_iload_n hx hb dX1_where_25 rfl (lv_at hl 2 rfl) ?_
    refine kX1_1_tryOn E hU hS hA0 ⟨by decide, by decide⟩ hl.1 (Nat.le_of_ble_eq_true rfl) dX1_where_26 ⟨Nat.le_refl _, Nat.le_refl _⟩ (fun o6 H locs hU hS => ?_)
    refine gX1_108 E hU (by decide) dX1_where_29 ?_
    refine x_iload_n hx hb dX1_where_32 rfl (lv_at hl 1 rfl) ?_
    refine ux_ald (i := lc 1 4) (n := 6) E hU.1 (lc_lt (by decide) (by decide)) (ck_lc (by decide)) dX1_where_33 ?_
    refine x_goto (tgt := 47) hx hb dX1_where_34 (by decide) ?_
    exact x_iret hx hb hr hlk hS rfl (hU.1.to fun _ _ => trivial) dX1_where_47

set_option maxHeartbeats 4000000 in
theorem mH1_holds (l : Launch) (D : va_G) (ct : CT) (ad : Nat → Nat) (P : Nat → Nat → Option Nat) (S : US) (h : AH) (p1 : Int32) (p2 : Int32) (sz : Nat) (o : (Bool × US)) (ho : s1_holds S ct P h p1 p2 = some o) : Met l yX1_holds (ws_ yX1_holds cX1_holds 4 (some .boolean)) { frames := 503, cells := 0, slots := 0, locals := 20065 } (mP D clW ct [.ref (ad (0)), .int p1, .int p2] sz (GH D ct ad P (fun _ => True) S h)) (mC (some (.int (bI o.1))) (UW D clW ckH ct 26 ad P (fun _ => True) o.2 0) (uA 26 ad sz)) 0 0 (uA 26 ad sz) := by
  refine X.start (val := fun (o : (Bool × US)) => some (.int (bI o.1))) (Bt := fun (o : (Bool × US)) => UW D clW ckH ct 26 ad P (fun _ => True) o.2 0) (A := uA 26 ad sz) ho (by decide) (Nat.le_of_ble_eq_true rfl) (lv := [(0, .ref (ad (0))), (1, .int p1), (2, .int p2)]) rfl ?_
  intro p e s m args below meth c E hr hlk hnm hsz hU ls hl
  subst hsz
  obtain ⟨⟨hx, hb, hml, hown, hts⟩, hK, hJ⟩ := id E
  replace hU := hU.to (B := uA 26 ad s.heap.size) (fun i hi => Or.inl ⟨i, hi, rfl⟩)
  have hA0 : ∀ q, s.heap.size ≤ q → (uA 26 ad s.heap.size) q := fun q h => Or.inr h
  have hS : va_S (uA 26 ad s.heap.size) s.heap s.heap [] := va_S.rf
  unfold s1_holds
  refine x_iconst (v := 0) hx hb dX1_holds_0 (by decide) ?_
  refine x_istore_n (lv' := [(3, .int (0 : Int32)), (0, .ref (ad (0))), (1, .int p1), (2, .int p2)]) hx hb dX1_holds_1 rfl hl (by decide) rfl (fun ls hl => ?_)
  refine X.loop (I := fun (x : (US × Int32)) g H locs => GH D ct ad P (uA 26 ad s.heap.size) x.1 h H ∧ va_S (uA 26 ad s.heap.size) s.heap H locs ∧ ∃ ls : Array Slot, g = F0 m 2 ls [] ∧ lv_has ls 4 [(0, .ref (ad (0))), (1, .int p1), (2, .int p2), (3, .int x.2)]) (fun rc3 ih3 => ?_) FUEL _ _ _ _ ⟨hU, hS, _, rfl, lv_sub hl [1, 2, 3, 0] rfl⟩
  rintro ⟨S1, v2⟩ _ H locs ⟨hU, hS, ls, rfl, hl⟩
  have hU : GH D ct ad P (uA 26 ad s.heap.size) S1 h H := hU
  have hl : lv_has ls 4 [(0, .ref (ad (0))), (1, .int p1), (2, .int p2), (3, .int v2)] := hl
  refine X.eqs (sp2 := s1_holds_L2 p1 p2 P h ct rc3 S1 v2) rfl ?_
  unfold s1_holds_L2
  refine x_iload_n hx hb dX1_holds_2 rfl (lv_at hl 3 rfl) ?_
  refine x_iload_n hx hb dX1_holds_3 rfl (lv_at hl 2 rfl) ?_
  refine x_icmp_ge (tgt := 29) hx hb dX1_holds_4 (by decide) (fun hc => ?_) (fun hc => ?_)
  · refine x_iconst (v := 1) hx hb dX1_holds_29 (by decide) ?_
    exact x_zret hx hb hr hlk hS rfl rfl (hU.1.to fun _ _ => trivial) dX1_holds_30
  · refine x_aload_n hx hb dX1_holds_7 rfl (lv_at hl 0 rfl) ?_
    refine gX1_44 E hU dX1_holds_8 ?_
    refine kX1_3_pass E hU hS hA0 (by decide) ⟨by decide, by decide⟩ hl.1 (Nat.le_of_ble_eq_true rfl) dX1_holds_11 ⟨Nat.le_refl _, Nat.le_refl _⟩ (fun o4 H locs hU hS => ?_)
    refine x_iload_n hx hb dX1_holds_14 rfl (lv_at hl 1 rfl) ?_
    refine kX1_3_isOpen E hU hS hA0 (by decide) ⟨by decide, by decide⟩ hl.1 (Nat.le_of_ble_eq_true rfl) dX1_holds_15 ⟨Nat.le_refl _, Nat.le_refl _⟩ (fun o5 H locs hU hS => ?_)
    refine x_if_eq (tgt := 23) hx hb dX1_holds_18 (by decide) (fun hc => ?_) (fun hc => ?_)
    · refine x_iinc (v := (v2 + (1 : Int32))) (lv' := [(3, .int (v2 + (1 : Int32))), (0, .ref (ad (0))), (1, .int p1), (2, .int p2)]) (k := 3) hx hb dX1_holds_23 hl rfl rfl (by decide) rfl (fun ls hl => ?_)
      refine x_goto (tgt := 2) hx hb dX1_holds_26 (by decide) ?_
      exact ih3 (o4, (v2 + (1 : Int32))) _ _ _ ⟨hU, hS, _, rfl, lv_sub hl [1, 2, 3, 0] rfl⟩
    · refine x_iconst (v := 0) hx hb dX1_holds_21 (by decide) ?_
      exact x_zret hx hb hr hlk hS rfl rfl (hU.1.to fun _ _ => trivial) dX1_holds_22
section HK
variable {ρ : Type} {p : Program} {l : Launch} {e : Env} {R : Room} {s : State} {m : MethodId} {args : Array Value} {below : List Frame} {meth : Method} {c : Code} {H : Heap} {locs : List Loc} {cells slots : Nat} {Qf : ρ → State → Prop}
variable {cc : ByteArray} {pc nL L M q0 : Nat} {ls : Array Slot} {rest : List Value}
variable {D : va_G} {ct : CT} {ck : Nat → UC} {N : Nat} {ad : Nat → Nat} {P : Nat → Nat → Option Nat} {A A0 : Nat → Prop} {S : US} {w : Int64} {h : AH} {H0 : Heap}
theorem kX1_1_holds {p1 : Int32} {p2 : Int32} (E : ME p m c cc nL s args RX1 D clW ct) (hG : GH D ct ad P A S h H) (hS : va_S A H0 H locs) (hA0 : ∀ q, H0.size ≤ q → A q) (hR : 503 + 1 ≤ R.frames ∧ 8 + (4 + 11) + 20065 ≤ R.locals) (hsize : ls.size = nL) (hW : (rest.map fun v => v.category).sum ≤ 8) (hdg : decode cc pc = .ok (.invokevirtual 248, 3)) (hf : cells ≤ R.cells ∧ slots ≤ R.slots) {kp : (Bool × US) → Option ρ} (kk : ∀ (o : (Bool × US)) (H1 : Heap) (locs1 : List Loc), GH D ct ad P A o.2 h H1 → va_S A H0 H1 locs1 → X p l e R s m args below meth c H1 locs1 cells slots Qf (kp o) (F0 m (pc + 3) ls (.int (bI o.1) :: rest))) : X p l e R s m args below meth c H locs cells slots Qf (callK (s1_holds S ct P h p1 p2) kp) (F0 m pc ls (.int p2 :: .int p1 :: .ref (ad (0)) :: rest)) := gc_mod (val' := fun (o : (Bool × US)) => some (.int (bI o.1))) (len := 3) (So := fun (o : (Bool × US)) => o.2) hG hS hA0 (fun o ho => rnV (As := [.int p1, .int p2]) E (hG.to fun _ _ => trivial) (recvU (i := 0) E.2.1 hG.1 (by decide) rfl rfl) (mH1_holds l D ct ad P S h p1 p2 _ o ho) (cwV 2 E.1.2.2.2.2 (lw_V q1518 q1520 qs37 q113 q1521) rfl rfl rfl (by decide +kernel) hR) rfl hsize rfl hW hdg hf) kk
end HK

set_option maxHeartbeats 4000000 in
theorem mH1_toHold (l : Launch) (D : va_G) (ct : CT) (ad : Nat → Nat) (P : Nat → Nat → Option Nat) (S : US) (h : AH) (p1 : Int32) (p2 : Int32) (sz : Nat) (o : (Int32 × US)) (ho : s1_toHold S ct P h p1 p2 = some o) : Met l yX1_toHold (ws_ yX1_toHold cX1_toHold 4 (some .int)) { frames := 504, cells := 0, slots := 0, locals := 20088 } (mP D clW ct [.ref (ad (0)), .int p1, .int p2] sz (GH D ct ad P (fun _ => True) S h)) (mC (some (.int o.1)) (UW D clW ckH ct 26 ad P (fun _ => True) o.2 0) (uA 26 ad sz)) 0 0 (uA 26 ad sz) := by
  refine X.start (val := fun (o : (Int32 × US)) => some (.int o.1)) (Bt := fun (o : (Int32 × US)) => UW D clW ckH ct 26 ad P (fun _ => True) o.2 0) (A := uA 26 ad sz) ho (by decide) (Nat.le_of_ble_eq_true rfl) (lv := [(0, .ref (ad (0))), (1, .int p1), (2, .int p2)]) rfl ?_
  intro p e s m args below meth c E hr hlk hnm hsz hU ls hl
  subst hsz
  obtain ⟨⟨hx, hb, hml, hown, hts⟩, hK, hJ⟩ := id E
  replace hU := hU.to (B := uA 26 ad s.heap.size) (fun i hi => Or.inl ⟨i, hi, rfl⟩)
  have hA0 : ∀ q, s.heap.size ≤ q → (uA 26 ad s.heap.size) q := fun q h => Or.inr h
  have hS : va_S (uA 26 ad s.heap.size) s.heap s.heap [] := va_S.rf
  unfold s1_toHold
  refine x_aload_n hx hb dX1_toHold_0 rfl (lv_at hl 0 rfl) ?_
  refine x_iload_n hx hb dX1_toHold_1 rfl (lv_at hl 1 rfl) ?_
  refine kX1_1_aStretch E hU hS hA0 ⟨by decide, by decide⟩ hl.1 (Nat.le_of_ble_eq_true rfl) dX1_toHold_2 ⟨Nat.le_refl _, Nat.le_refl _⟩ (fun o1 H locs hU hS => ?_)
  refine x_iload_n hx hb dX1_toHold_5 rfl (lv_at hl 2 rfl) ?_
  refine x_iconst (v := 1) hx hb dX1_toHold_6 (by decide) ?_
  refine x_bipush (v := 60) hx hb dX1_toHold_7 (by decide) ?_
  refine kX1_1_in E hS hA0 ⟨by decide, by decide⟩ hl.1 (Nat.le_of_ble_eq_true rfl) dX1_toHold_9 ⟨Nat.le_refl _, Nat.le_refl _⟩ (fun o2 H locs hz_ hk_ hS => ?_)
  replace hU := hU.kept hz_ hk_
  refine kX1_1_right E hS hA0 ⟨by decide, by decide⟩ hl.1 (Nat.le_of_ble_eq_true rfl) dX1_toHold_12 ⟨Nat.le_refl _, Nat.le_refl _⟩ (fun o3 H locs hz_ hk_ hS => ?_)
  replace hU := hU.kept hz_ hk_
  refine x_iconst (v := 0) hx hb dX1_toHold_15 (by decide) ?_
  refine x_istore_n (lv' := [(3, .int (0 : Int32)), (0, .ref (ad (0))), (1, .int p1), (2, .int p2)]) hx hb dX1_toHold_16 rfl hl (by decide) rfl (fun ls hl => ?_)
  refine X.loop (I := fun (x : (US × Int32)) g H locs => GH D ct ad P (uA 26 ad s.heap.size) x.1 h H ∧ va_S (uA 26 ad s.heap.size) s.heap H locs ∧ ∃ ls : Array Slot, g = F0 m 17 ls [] ∧ lv_has ls 4 [(0, .ref (ad (0))), (1, .int p1), (2, .int p2), (3, .int x.2)]) (fun rc6 ih6 => ?_) FUEL _ _ _ _ ⟨hU, hS, _, rfl, lv_sub hl [1, 2, 3, 0] rfl⟩
  rintro ⟨S4, v5⟩ _ H locs ⟨hU, hS, ls, rfl, hl⟩
  have hU : GH D ct ad P (uA 26 ad s.heap.size) S4 h H := hU
  have hl : lv_has ls 4 [(0, .ref (ad (0))), (1, .int p1), (2, .int p2), (3, .int v5)] := hl
  refine X.eqs (sp2 := s1_toHold_L17 p1 p2 P h ct rc6 S4 v5) rfl ?_
  unfold s1_toHold_L17
  refine x_iload_n hx hb dX1_toHold_17 rfl (lv_at hl 3 rfl) ?_
  refine x_bipush (v := 99) hx hb dX1_toHold_18 (by decide) ?_
  refine x_icmp_gt (tgt := 77) hx hb dX1_toHold_20 (by decide) (fun hc => ?_) (fun hc => ?_)
  · refine x_iconst (v := -1) hx hb dX1_toHold_77 (by decide) ?_
    exact x_iret hx hb hr hlk hS rfl (hU.1.to fun _ _ => trivial) dX1_toHold_78
  · refine x_aload_n hx hb dX1_toHold_23 rfl (lv_at hl 0 rfl) ?_
    refine gX1_44 E hU dX1_toHold_24 ?_
    refine x_aload_n hx hb dX1_toHold_27 rfl (lv_at hl 0 rfl) ?_
    refine gX1_40 E hU dX1_toHold_28 ?_
    refine kX1_3_be E hU hS hA0 (by decide) (by decide) ⟨by decide, by decide⟩ hl.1 (Nat.le_of_ble_eq_true rfl) dX1_toHold_31 ⟨Nat.le_refl _, Nat.le_refl _⟩ (fun o7 H locs hU hS => ?_)
    refine x_pop hx hb dX1_toHold_34 rfl ?_
    refine x_aload_n hx hb dX1_toHold_35 rfl (lv_at hl 0 rfl) ?_
    refine gX1_44 E hU dX1_toHold_36 ?_
    refine gX1_158 E hU (by decide) dX1_toHold_39 ?_
    refine x_iload_n hx hb dX1_toHold_42 rfl (lv_at hl 1 rfl) ?_
    refine x_bipush (v := 99) hx hb dX1_toHold_43 (by decide) ?_
    refine x_aload_n hx hb dX1_toHold_45 rfl (lv_at hl 0 rfl) ?_
    refine gX1_44 E hU dX1_toHold_46 ?_
    refine gX1_158 E hU (by decide) dX1_toHold_49 ?_
    refine x_iload_n hx hb dX1_toHold_52 rfl (lv_at hl 1 rfl) ?_
    refine ux_ald (i := lc 1 2) (n := 12) E hU.1 (lc_lt (by decide) (by decide)) (ck_lc (by decide)) dX1_toHold_53 ?_
    refine x_iload_n hx hb dX1_toHold_54 rfl (lv_at hl 3 rfl) ?_
    refine x_iadd hx hb dX1_toHold_55 ?_
    refine kX1_min E ⟨by decide, by decide⟩ hl.1 (Nat.le_of_ble_eq_true rfl) dX1_toHold_56 ⟨Nat.le_refl _, Nat.le_refl _⟩ ?_
    refine gx_ast (i := lc 1 2) (n := 12) E hU hS (lc_lt (by decide) (by decide)) (ck_lc (by decide)) dX1_toHold_59 (fun S8 H locs hU hS _ => ?_)
    refine x_aload_n hx hb dX1_toHold_60 rfl (lv_at hl 0 rfl) ?_
    refine x_iload_n hx hb dX1_toHold_61 rfl (lv_at hl 1 rfl) ?_
    refine x_iload_n hx hb dX1_toHold_62 rfl (lv_at hl 2 rfl) ?_
    refine kX1_1_holds E hU hS hA0 ⟨by decide, by decide⟩ hl.1 (Nat.le_of_ble_eq_true rfl) dX1_toHold_63 ⟨Nat.le_refl _, Nat.le_refl _⟩ (fun o9 H locs hU hS => ?_)
    refine x_if_eq (tgt := 71) hx hb dX1_toHold_66 (by decide) (fun hc => ?_) (fun hc => ?_)
    · refine x_iinc (v := (v5 + (1 : Int32))) (lv' := [(3, .int (v5 + (1 : Int32))), (0, .ref (ad (0))), (1, .int p1), (2, .int p2)]) (k := 3) hx hb dX1_toHold_71 hl rfl rfl (by decide) rfl (fun ls hl => ?_)
      refine x_goto (tgt := 17) hx hb dX1_toHold_74 (by decide) ?_
      exact ih6 (o9.2, (v5 + (1 : Int32))) _ _ _ ⟨hU, hS, _, rfl, lv_sub hl [1, 2, 3, 0] rfl⟩
    · refine x_iload_n hx hb dX1_toHold_69 rfl (lv_at hl 3 rfl) ?_
      exact x_iret hx hb hr hlk hS rfl (hU.1.to fun _ _ => trivial) dX1_toHold_70

set_option maxHeartbeats 4000000 in
theorem mH3_openMany (l : Launch) (D : va_G) (ct : CT) (ad : Nat → Nat) (P : Nat → Nat → Option Nat) (S : US) (h : AH) (L : Nat) (hL : L < 3) (sz : Nat) (o : Int32) (ho : s3_openMany S L = some o) : Met l yX3_openMany (ws_ yX3_openMany cX3_openMany 1 (some .int)) { frames := 3, cells := 0, slots := 0, locals := 83 } (mP D clW ct [.ref (ad (lc L 0))] sz (GH D ct ad P (fun _ => True) S h)) (mC (some (.int o)) (fun _ => True) (nA sz)) 0 0 (nA sz) := by
  refine X.start (val := fun (o : Int32) => some (.int o)) (Bt := fun _ _ => True) (A := nA sz) ho (by decide) (Nat.le_of_ble_eq_true rfl) (lv := [(0, .ref (ad (lc L 0)))]) rfl ?_
  intro p e s m args below meth c E hr hlk hnm hsz hU ls hl
  subst hsz
  obtain ⟨⟨hx, hb, hml, hown, hts⟩, hK, hJ⟩ := id E
  have hA0 : ∀ q, s.heap.size ≤ q → (nA s.heap.size) q := fun q h => h
  have hS : va_S (nA s.heap.size) s.heap s.heap [] := va_S.rf
  unfold s3_openMany
  refine x_aload_n hx hb dX3_openMany_0 rfl (lv_at hl 0 rfl) ?_
  refine kX3_3_open E hU hS hA0 (hL) ⟨by decide, by decide⟩ hl.1 (Nat.le_of_ble_eq_true rfl) dX3_openMany_1 ⟨Nat.le_refl _, Nat.le_refl _⟩ (fun o1 H locs hU hS => ?_)
  refine kX3_N_bitCount E hS hA0 ⟨by decide, by decide⟩ hl.1 (Nat.le_of_ble_eq_true rfl) dX3_openMany_4 ⟨Nat.le_refl _, Nat.le_refl _⟩ (fun o2 H locs hz_ hk_ hS => ?_)
  replace hU := hU.kept hz_ hk_
  exact x_iret hx hb hr hlk hS rfl trivial dX3_openMany_7
section HK
variable {ρ : Type} {p : Program} {l : Launch} {e : Env} {R : Room} {s : State} {m : MethodId} {args : Array Value} {below : List Frame} {meth : Method} {c : Code} {H : Heap} {locs : List Loc} {cells slots : Nat} {Qf : ρ → State → Prop}
variable {cc : ByteArray} {pc nL L M q0 : Nat} {ls : Array Slot} {rest : List Value}
variable {D : va_G} {ct : CT} {ck : Nat → UC} {N : Nat} {ad : Nat → Nat} {P : Nat → Nat → Option Nat} {A A0 : Nat → Prop} {S : US} {w : Int64} {h : AH} {H0 : Heap}
theorem kX1_3_openMany (E : ME p m c cc nL s args RX1 D clW ct) (hG : GH D ct ad P A S h H) (hS : va_S A0 H0 H locs) (hA0 : ∀ q, H0.size ≤ q → A0 q) (hL : L < 3) (hR : 3 + 1 ≤ R.frames ∧ 8 + (1 + 11) + 83 ≤ R.locals) (hsize : ls.size = nL) (hW : (rest.map fun v => v.category).sum ≤ 8) (hdg : decode cc pc = .ok (.invokevirtual 252, 3)) (hf : cells ≤ R.cells ∧ slots ≤ R.slots) {kp : Int32 → Option ρ} (kk : ∀ (o : Int32) (H1 : Heap) (locs1 : List Loc), GH D ct ad P A S h H1 → va_S A0 H0 H1 locs1 → X p l e R s m args below meth c H1 locs1 cells slots Qf (kp o) (F0 m (pc + 3) ls (.int o :: rest))) : X p l e R s m args below meth c H locs cells slots Qf (callK (s3_openMany S L) kp) (F0 m pc ls (.ref (ad (lc L 0)) :: rest)) := gc_ro (val' := fun (o : Int32) => some (.int o)) (len := 3) hG hS hA0 (fun o ho => rnV (As := []) E (hG.to fun _ _ => trivial) (recvU (i := lc L 0) E.2.1 hG.1 (lc_lt hL (by decide)) (ck_lc (by decide)) rfl) (mH3_openMany l D ct ad P S h L hL _ o ho) (cwV 0 E.1.2.2.2.2 (lw_V q1529 q1530 q1531 q118 q1532) rfl rfl rfl (by decide +kernel) hR) rfl hsize rfl hW hdg hf) kk
end HK

set_option maxHeartbeats 4000000 in
theorem mH1_toSend (l : Launch) (D : va_G) (ct : CT) (ad : Nat → Nat) (P : Nat → Nat → Option Nat) (S : US) (h : AH) (p1 : Int32) (p2 : Int32) (p3 : Int32) (sz : Nat) (o : (Int32 × US)) (ho : s1_toSend S ct P h p1 p2 p3 = some o) : Met l yX1_toSend (ws_ yX1_toSend cX1_toSend 8 (some .int)) { frames := 504, cells := 0, slots := 0, locals := 20087 } (mP D clW ct [.ref (ad (0)), .int p1, .int p2, .int p3] sz (GH D ct ad P (fun _ => True) S h)) (mC (some (.int o.1)) (UW D clW ckH ct 26 ad P (fun _ => True) o.2 0) (uA 26 ad sz)) 0 0 (uA 26 ad sz) := by
  refine X.start (val := fun (o : (Int32 × US)) => some (.int o.1)) (Bt := fun (o : (Int32 × US)) => UW D clW ckH ct 26 ad P (fun _ => True) o.2 0) (A := uA 26 ad sz) ho (by decide) (Nat.le_of_ble_eq_true rfl) (lv := [(0, .ref (ad (0))), (1, .int p1), (2, .int p2), (3, .int p3)]) rfl ?_
  intro p e s m args below meth c E hr hlk hnm hsz hU ls hl
  subst hsz
  obtain ⟨⟨hx, hb, hml, hown, hts⟩, hK, hJ⟩ := id E
  replace hU := hU.to (B := uA 26 ad s.heap.size) (fun i hi => Or.inl ⟨i, hi, rfl⟩)
  have hA0 : ∀ q, s.heap.size ≤ q → (uA 26 ad s.heap.size) q := fun q h => Or.inr h
  have hS : va_S (uA 26 ad s.heap.size) s.heap s.heap [] := va_S.rf
  unfold s1_toSend
  refine x_aload_n hx hb dX1_toSend_0 rfl (lv_at hl 0 rfl) ?_
  refine x_iload_n hx hb dX1_toSend_1 rfl (lv_at hl 1 rfl) ?_
  refine kX1_1_aWoman E hU hS hA0 ⟨by decide, by decide⟩ hl.1 (Nat.le_of_ble_eq_true rfl) dX1_toSend_2 ⟨Nat.le_refl _, Nat.le_refl _⟩ (fun o1 H locs hU hS => ?_)
  refine x_iload_n hx hb dX1_toSend_5 rfl (lv_at hl 3 rfl) ?_
  refine x_iconst (v := 1) hx hb dX1_toSend_6 (by decide) ?_
  refine kX1_1_oneOf E hS hA0 ⟨by decide, by decide⟩ hl.1 (Nat.le_of_ble_eq_true rfl) dX1_toSend_7 ⟨Nat.le_refl _, Nat.le_refl _⟩ (fun o2 H locs hz_ hk_ hS => ?_)
  replace hU := hU.kept hz_ hk_
  refine x_iload_n hx hb dX1_toSend_10 rfl (lv_at hl 2 rfl) ?_
  refine x_iconst (v := 1) hx hb dX1_toSend_11 (by decide) ?_
  refine x_bipush (v := 60) hx hb dX1_toSend_12 (by decide) ?_
  refine kX1_1_in E hS hA0 ⟨by decide, by decide⟩ hl.1 (Nat.le_of_ble_eq_true rfl) dX1_toSend_14 ⟨Nat.le_refl _, Nat.le_refl _⟩ (fun o3 H locs hz_ hk_ hS => ?_)
  replace hU := hU.kept hz_ hk_
  refine kX1_1_right E hS hA0 ⟨by decide, by decide⟩ hl.1 (Nat.le_of_ble_eq_true rfl) dX1_toSend_17 ⟨Nat.le_refl _, Nat.le_refl _⟩ (fun o4 H locs hz_ hk_ hS => ?_)
  replace hU := hU.kept hz_ hk_
  refine x_iconst (v := -1) hx hb dX1_toSend_20 (by decide) ?_
  refine x_istore (lv' := [(4, .int (-1 : Int32)), (0, .ref (ad (0))), (1, .int p1), (2, .int p2), (3, .int p3)]) hx hb dX1_toSend_21 hl (by decide) rfl (fun ls hl => ?_)
  refine x_ldc hx hb hown (hts _ q625) dX1_toSend_23 ?_
  refine x_istore (lv' := [(5, .int (100000 : Int32)), (4, .int (-1 : Int32)), (0, .ref (ad (0))), (1, .int p1), (2, .int p2), (3, .int p3)]) hx hb dX1_toSend_25 hl (by decide) rfl (fun ls hl => ?_)
  refine x_iconst (v := 0) hx hb dX1_toSend_27 (by decide) ?_
  refine x_istore (lv' := [(6, .int (0 : Int32)), (5, .int (100000 : Int32)), (4, .int (-1 : Int32)), (0, .ref (ad (0))), (1, .int p1), (2, .int p2), (3, .int p3)]) hx hb dX1_toSend_28 hl (by decide) rfl (fun ls hl => ?_)
  refine X.loop (I := fun (x : (US × Int32 × Int32 × Int32)) g H locs => GH D ct ad P (uA 26 ad s.heap.size) x.1 h H ∧ va_S (uA 26 ad s.heap.size) s.heap H locs ∧ ∃ ls : Array Slot, g = F0 m 30 ls [] ∧ lv_has ls 8 [(0, .ref (ad (0))), (1, .int p1), (2, .int p2), (3, .int p3), (4, .int x.2.1), (5, .int x.2.2.1), (6, .int x.2.2.2)]) (fun rc9 ih9 => ?_) FUEL _ _ _ _ ⟨hU, hS, _, rfl, lv_sub hl [3, 4, 5, 6, 2, 1, 0] rfl⟩
  rintro ⟨S5, v6, v7, v8⟩ _ H locs ⟨hU, hS, ls, rfl, hl⟩
  have hU : GH D ct ad P (uA 26 ad s.heap.size) S5 h H := hU
  have hl : lv_has ls 8 [(0, .ref (ad (0))), (1, .int p1), (2, .int p2), (3, .int p3), (4, .int v6), (5, .int v7), (6, .int v8)] := hl
  refine X.eqs (sp2 := s1_toSend_L30 p1 p2 p3 P h ct rc9 S5 v6 v7 v8) rfl ?_
  unfold s1_toSend_L30
  refine x_iload hx hb dX1_toSend_30 (lv_at hl 6 rfl) ?_
  refine x_aload_n hx hb dX1_toSend_32 rfl (lv_at hl 0 rfl) ?_
  refine gX1_31 E hU dX1_toSend_33 ?_
  refine gX1_115 E hU dX1_toSend_36 ?_
  refine x_icmp_ge (tgt := 97) hx hb dX1_toSend_39 (by decide) (fun hc => ?_) (fun hc => ?_)
  · refine x_iload_n hx hb dX1_toSend_97 rfl (lv_at hl 3 rfl) ?_
    refine x_if_ne (tgt := 106) hx hb dX1_toSend_98 (by decide) (fun hc => ?_) (fun hc => ?_)
    · refine x_iload hx hb dX1_toSend_106 (lv_at hl 5 rfl) ?_
      exact x_iret hx hb hr hlk hS rfl (hU.1.to fun _ _ => trivial) dX1_toSend_108
    · refine x_iload hx hb dX1_toSend_101 (lv_at hl 4 rfl) ?_
      refine x_goto (tgt := 108) hx hb dX1_toSend_103 (by decide) ?_
      exact x_iret hx hb hr hlk hS rfl (hU.1.to fun _ _ => trivial) dX1_toSend_108
  · refine x_aload_n hx hb dX1_toSend_42 rfl (lv_at hl 0 rfl) ?_
    refine gX1_44 E hU dX1_toSend_43 ?_
    refine x_aload_n hx hb dX1_toSend_46 rfl (lv_at hl 0 rfl) ?_
    refine gX1_40 E hU dX1_toSend_47 ?_
    refine kX1_3_be E hU hS hA0 (by decide) (by decide) ⟨by decide, by decide⟩ hl.1 (Nat.le_of_ble_eq_true rfl) dX1_toSend_50 ⟨Nat.le_refl _, Nat.le_refl _⟩ (fun o10 H locs hU hS => ?_)
    refine gX1_108 E hU (by decide) dX1_toSend_53 ?_
    refine x_iload_n hx hb dX1_toSend_56 rfl (lv_at hl 1 rfl) ?_
    refine x_iload hx hb dX1_toSend_57 (lv_at hl 6 rfl) ?_
    refine gx_ast (i := lc 1 4) (n := 6) E hU hS (lc_lt (by decide) (by decide)) (ck_lc (by decide)) dX1_toSend_59 (fun S11 H locs hU hS _ => ?_)
    refine x_aload_n hx hb dX1_toSend_60 rfl (lv_at hl 0 rfl) ?_
    refine gX1_44 E hU dX1_toSend_61 ?_
    refine x_iload_n hx hb dX1_toSend_64 rfl (lv_at hl 2 rfl) ?_
    refine kX1_3_after E hU hS hA0 (by decide) ⟨by decide, by decide⟩ hl.1 (Nat.le_of_ble_eq_true rfl) dX1_toSend_65 ⟨Nat.le_refl _, Nat.le_refl _⟩ (fun o12 H locs hU hS => ?_)
    refine kX1_3_openMany E hU hS hA0 (by decide) ⟨by decide, by decide⟩ hl.1 (Nat.le_of_ble_eq_true rfl) dX1_toSend_68 ⟨Nat.le_refl _, Nat.le_refl _⟩ (fun o13 H locs hU hS => ?_)
    refine x_istore (lv' := [(7, .int o13), (0, .ref (ad (0))), (1, .int p1), (2, .int p2), (3, .int p3), (4, .int v6), (5, .int v7), (6, .int v8)]) hx hb dX1_toSend_71 hl (by decide) rfl (fun ls hl => ?_)
    refine x_iload hx hb dX1_toSend_73 (lv_at hl 0 rfl) ?_
    refine x_iload hx hb dX1_toSend_75 (lv_at hl 6 rfl) ?_
    refine x_icmp_lt (tgt := 83) hx hb dX1_toSend_77 (by decide) (fun hc => ?_) (fun hc => ?_)
    · refine x_iload hx hb dX1_toSend_83 (lv_at hl 7 rfl) ?_
      refine x_istore (lv' := [(4, .int v8), (7, .int o13), (0, .ref (ad (0))), (1, .int p1), (2, .int p2), (3, .int p3), (5, .int v7), (6, .int v8)]) hx hb dX1_toSend_85 hl (by decide) rfl (fun ls hl => ?_)
      refine x_iload hx hb dX1_toSend_87 (lv_at hl 1 rfl) ?_
      refine x_istore (lv' := [(5, .int o13), (4, .int v8), (7, .int o13), (0, .ref (ad (0))), (1, .int p1), (2, .int p2), (3, .int p3), (6, .int v8)]) hx hb dX1_toSend_89 hl (by decide) rfl (fun ls hl => ?_)
      refine x_iinc (v := (v8 + (1 : Int32))) (lv' := [(6, .int (v8 + (1 : Int32))), (5, .int o13), (4, .int v8), (7, .int o13), (0, .ref (ad (0))), (1, .int p1), (2, .int p2), (3, .int p3)]) (k := 7) hx hb dX1_toSend_91 hl rfl rfl (by decide) rfl (fun ls hl => ?_)
      refine x_goto (tgt := 30) hx hb dX1_toSend_94 (by decide) ?_
      exact ih9 (o12, v8, o13, (v8 + (1 : Int32))) _ _ _ ⟨hU, hS, _, rfl, lv_sub hl [4, 5, 6, 7, 2, 1, 0] rfl⟩
    · refine x_goto (tgt := 91) hx hb dX1_toSend_80 (by decide) ?_
      refine x_iinc (v := (v8 + (1 : Int32))) (lv' := [(6, .int (v8 + (1 : Int32))), (7, .int o13), (0, .ref (ad (0))), (1, .int p1), (2, .int p2), (3, .int p3), (4, .int v6), (5, .int v7)]) (k := 7) hx hb dX1_toSend_91 hl rfl rfl (by decide) rfl (fun ls hl => ?_)
      refine x_goto (tgt := 30) hx hb dX1_toSend_94 (by decide) ?_
      exact ih9 (o12, v6, v7, (v8 + (1 : Int32))) _ _ _ ⟨hU, hS, _, rfl, lv_sub hl [2, 3, 4, 5, 6, 7, 0] rfl⟩

set_option maxHeartbeats 4000000 in
theorem mH1_bestStitch (l : Launch) (D : va_G) (ct : CT) (ad : Nat → Nat) (P : Nat → Nat → Option Nat) (S : US) (h : AH) (p1 : Int32) (p2 : Int32) (sz : Nat) (o : (Int32 × US)) (ho : s1_bestStitch S ct P h p1 p2 = some o) : Met l yX1_bestStitch (ws_ yX1_bestStitch cX1_bestStitch 7 (some .int)) { frames := 504, cells := 0, slots := 0, locals := 20087 } (mP D clW ct [.ref (ad (0)), .int p1, .int p2] sz (GH D ct ad P (fun _ => True) S h)) (mC (some (.int o.1)) (UW D clW ckH ct 26 ad P (fun _ => True) o.2 0) (uA 26 ad sz)) 0 0 (uA 26 ad sz) := by
  refine X.start (val := fun (o : (Int32 × US)) => some (.int o.1)) (Bt := fun (o : (Int32 × US)) => UW D clW ckH ct 26 ad P (fun _ => True) o.2 0) (A := uA 26 ad sz) ho (by decide) (Nat.le_of_ble_eq_true rfl) (lv := [(0, .ref (ad (0))), (1, .int p1), (2, .int p2)]) rfl ?_
  intro p e s m args below meth c E hr hlk hnm hsz hU ls hl
  subst hsz
  obtain ⟨⟨hx, hb, hml, hown, hts⟩, hK, hJ⟩ := id E
  replace hU := hU.to (B := uA 26 ad s.heap.size) (fun i hi => Or.inl ⟨i, hi, rfl⟩)
  have hA0 : ∀ q, s.heap.size ≤ q → (uA 26 ad s.heap.size) q := fun q h => Or.inr h
  have hS : va_S (uA 26 ad s.heap.size) s.heap s.heap [] := va_S.rf
  unfold s1_bestStitch
  refine x_aload_n hx hb dX1_bestStitch_0 rfl (lv_at hl 0 rfl) ?_
  refine x_iload_n hx hb dX1_bestStitch_1 rfl (lv_at hl 1 rfl) ?_
  refine kX1_1_aStretch E hU hS hA0 ⟨by decide, by decide⟩ hl.1 (Nat.le_of_ble_eq_true rfl) dX1_bestStitch_2 ⟨Nat.le_refl _, Nat.le_refl _⟩ (fun o1 H locs hU hS => ?_)
  refine x_iload_n hx hb dX1_bestStitch_5 rfl (lv_at hl 2 rfl) ?_
  refine x_iconst (v := 1) hx hb dX1_bestStitch_6 (by decide) ?_
  refine x_bipush (v := 60) hx hb dX1_bestStitch_7 (by decide) ?_
  refine kX1_1_in E hS hA0 ⟨by decide, by decide⟩ hl.1 (Nat.le_of_ble_eq_true rfl) dX1_bestStitch_9 ⟨Nat.le_refl _, Nat.le_refl _⟩ (fun o2 H locs hz_ hk_ hS => ?_)
  replace hU := hU.kept hz_ hk_
  refine kX1_1_right E hS hA0 ⟨by decide, by decide⟩ hl.1 (Nat.le_of_ble_eq_true rfl) dX1_bestStitch_12 ⟨Nat.le_refl _, Nat.le_refl _⟩ (fun o3 H locs hz_ hk_ hS => ?_)
  replace hU := hU.kept hz_ hk_
  refine x_iconst (v := -1) hx hb dX1_bestStitch_15 (by decide) ?_
  refine x_istore_n (lv' := [(3, .int (-1 : Int32)), (0, .ref (ad (0))), (1, .int p1), (2, .int p2)]) hx hb dX1_bestStitch_16 rfl hl (by decide) rfl (fun ls hl => ?_)
  refine x_iconst (v := -1) hx hb dX1_bestStitch_17 (by decide) ?_
  refine x_istore (lv' := [(4, .int (-1 : Int32)), (3, .int (-1 : Int32)), (0, .ref (ad (0))), (1, .int p1), (2, .int p2)]) hx hb dX1_bestStitch_18 hl (by decide) rfl (fun ls hl => ?_)
  refine x_iconst (v := 0) hx hb dX1_bestStitch_20 (by decide) ?_
  refine x_istore (lv' := [(5, .int (0 : Int32)), (4, .int (-1 : Int32)), (3, .int (-1 : Int32)), (0, .ref (ad (0))), (1, .int p1), (2, .int p2)]) hx hb dX1_bestStitch_21 hl (by decide) rfl (fun ls hl => ?_)
  refine X.loop (I := fun (x : (US × Int32 × Int32 × Int32)) g H locs => GH D ct ad P (uA 26 ad s.heap.size) x.1 h H ∧ va_S (uA 26 ad s.heap.size) s.heap H locs ∧ ∃ ls : Array Slot, g = F0 m 23 ls [] ∧ lv_has ls 7 [(0, .ref (ad (0))), (1, .int p1), (2, .int p2), (3, .int x.2.1), (4, .int x.2.2.1), (5, .int x.2.2.2)]) (fun rc8 ih8 => ?_) FUEL _ _ _ _ ⟨hU, hS, _, rfl, lv_sub hl [3, 4, 5, 2, 1, 0] rfl⟩
  rintro ⟨S4, v5, v6, v7⟩ _ H locs ⟨hU, hS, ls, rfl, hl⟩
  have hU : GH D ct ad P (uA 26 ad s.heap.size) S4 h H := hU
  have hl : lv_has ls 7 [(0, .ref (ad (0))), (1, .int p1), (2, .int p2), (3, .int v5), (4, .int v6), (5, .int v7)] := hl
  refine X.eqs (sp2 := s1_bestStitch_L23 p1 p2 P h ct rc8 S4 v5 v6 v7) rfl ?_
  unfold s1_bestStitch_L23
  refine x_iload hx hb dX1_bestStitch_23 (lv_at hl 5 rfl) ?_
  refine x_iconst (v := 3) hx hb dX1_bestStitch_25 (by decide) ?_
  refine x_icmp_ge (tgt := 85) hx hb dX1_bestStitch_26 (by decide) (fun hc => ?_) (fun hc => ?_)
  · refine x_iload_n hx hb dX1_bestStitch_85 rfl (lv_at hl 3 rfl) ?_
    exact x_iret hx hb hr hlk hS rfl (hU.1.to fun _ _ => trivial) dX1_bestStitch_86
  · refine x_aload_n hx hb dX1_bestStitch_29 rfl (lv_at hl 0 rfl) ?_
    refine gX1_44 E hU dX1_bestStitch_30 ?_
    refine x_aload_n hx hb dX1_bestStitch_33 rfl (lv_at hl 0 rfl) ?_
    refine gX1_40 E hU dX1_bestStitch_34 ?_
    refine kX1_3_be E hU hS hA0 (by decide) (by decide) ⟨by decide, by decide⟩ hl.1 (Nat.le_of_ble_eq_true rfl) dX1_bestStitch_37 ⟨Nat.le_refl _, Nat.le_refl _⟩ (fun o9 H locs hU hS => ?_)
    refine gX1_161 E hU (by decide) dX1_bestStitch_40 ?_
    refine x_iload_n hx hb dX1_bestStitch_43 rfl (lv_at hl 1 rfl) ?_
    refine x_iload hx hb dX1_bestStitch_44 (lv_at hl 5 rfl) ?_
    refine gx_ast (i := lc 1 3) (n := 12) E hU hS (lc_lt (by decide) (by decide)) (ck_lc (by decide)) dX1_bestStitch_46 (fun S10 H locs hU hS _ => ?_)
    refine x_aload_n hx hb dX1_bestStitch_47 rfl (lv_at hl 0 rfl) ?_
    refine gX1_44 E hU dX1_bestStitch_48 ?_
    refine x_iload_n hx hb dX1_bestStitch_51 rfl (lv_at hl 2 rfl) ?_
    refine kX1_3_after E hU hS hA0 (by decide) ⟨by decide, by decide⟩ hl.1 (Nat.le_of_ble_eq_true rfl) dX1_bestStitch_52 ⟨Nat.le_refl _, Nat.le_refl _⟩ (fun o11 H locs hU hS => ?_)
    refine gX1_158 E hU (by decide) dX1_bestStitch_55 ?_
    refine x_iload_n hx hb dX1_bestStitch_58 rfl (lv_at hl 1 rfl) ?_
    refine ux_ald (i := lc 1 2) (n := 12) E hU.1 (lc_lt (by decide) (by decide)) (ck_lc (by decide)) dX1_bestStitch_59 ?_
    refine x_istore (lv' := [(6, .int (o11 (lc 1 2) p1.toNatClampNeg)), (0, .ref (ad (0))), (1, .int p1), (2, .int p2), (3, .int v5), (4, .int v6), (5, .int v7)]) hx hb dX1_bestStitch_60 hl (by decide) rfl (fun ls hl => ?_)
    refine x_iload hx hb dX1_bestStitch_62 (lv_at hl 0 rfl) ?_
    refine x_iload hx hb dX1_bestStitch_64 (lv_at hl 5 rfl) ?_
    refine x_icmp_gt (tgt := 72) hx hb dX1_bestStitch_66 (by decide) (fun hc => ?_) (fun hc => ?_)
    · refine x_iload hx hb dX1_bestStitch_72 (lv_at hl 6 rfl) ?_
      refine x_istore_n (lv' := [(3, .int v7), (6, .int (o11 (lc 1 2) p1.toNatClampNeg)), (0, .ref (ad (0))), (1, .int p1), (2, .int p2), (4, .int v6), (5, .int v7)]) hx hb dX1_bestStitch_74 rfl hl (by decide) rfl (fun ls hl => ?_)
      refine x_iload hx hb dX1_bestStitch_75 (lv_at hl 1 rfl) ?_
      refine x_istore (lv' := [(4, .int (o11 (lc 1 2) p1.toNatClampNeg)), (3, .int v7), (6, .int (o11 (lc 1 2) p1.toNatClampNeg)), (0, .ref (ad (0))), (1, .int p1), (2, .int p2), (5, .int v7)]) hx hb dX1_bestStitch_77 hl (by decide) rfl (fun ls hl => ?_)
      refine x_iinc (v := (v7 + (1 : Int32))) (lv' := [(5, .int (v7 + (1 : Int32))), (4, .int (o11 (lc 1 2) p1.toNatClampNeg)), (3, .int v7), (6, .int (o11 (lc 1 2) p1.toNatClampNeg)), (0, .ref (ad (0))), (1, .int p1), (2, .int p2)]) (k := 6) hx hb dX1_bestStitch_79 hl rfl rfl (by decide) rfl (fun ls hl => ?_)
      refine x_goto (tgt := 23) hx hb dX1_bestStitch_82 (by decide) ?_
      exact ih8 (o11, v7, (o11 (lc 1 2) p1.toNatClampNeg), (v7 + (1 : Int32))) _ _ _ ⟨hU, hS, _, rfl, lv_sub hl [4, 5, 6, 2, 1, 0] rfl⟩
    · refine x_goto (tgt := 79) hx hb dX1_bestStitch_69 (by decide) ?_
      refine x_iinc (v := (v7 + (1 : Int32))) (lv' := [(5, .int (v7 + (1 : Int32))), (6, .int (o11 (lc 1 2) p1.toNatClampNeg)), (0, .ref (ad (0))), (1, .int p1), (2, .int p2), (3, .int v5), (4, .int v6)]) (k := 6) hx hb dX1_bestStitch_79 hl rfl rfl (by decide) rfl (fun ls hl => ?_)
      refine x_goto (tgt := 23) hx hb dX1_bestStitch_82 (by decide) ?_
      exact ih8 (o11, v5, v6, (v7 + (1 : Int32))) _ _ _ ⟨hU, hS, _, rfl, lv_sub hl [2, 3, 4, 5, 6, 0] rfl⟩

set_option maxHeartbeats 4000000 in
theorem mH2_far (l : Launch) (D : va_G) (ct : CT) (ad : Nat → Nat) (P : Nat → Nat → Option Nat) (S : US) (h : AH) (p1 : Int32) (p2 : Int32) (sz : Nat) (o : Int32) (ho : s2_far S p1 p2 = some o) : Met l yX2_far (ws_ yX2_far cX2_far 4 (some .int)) { frames := 1, cells := 0, slots := 0, locals := 40 } (mP D clW ct [.ref (ad (1)), .int p1, .int p2] sz (GH D ct ad P (fun _ => True) S h)) (mC (some (.int o)) (fun _ => True) (nA sz)) 0 0 (nA sz) := by
  refine X.start (val := fun (o : Int32) => some (.int o)) (Bt := fun _ _ => True) (A := nA sz) ho (by decide) (Nat.le_of_ble_eq_true rfl) (lv := [(0, .ref (ad (1))), (1, .int p1), (2, .int p2)]) rfl ?_
  intro p e s m args below meth c E hr hlk hnm hsz hU ls hl
  subst hsz
  obtain ⟨⟨hx, hb, hml, hown, hts⟩, hK, hJ⟩ := id E
  have hA0 : ∀ q, s.heap.size ≤ q → (nA s.heap.size) q := fun q h => h
  have hS : va_S (nA s.heap.size) s.heap s.heap [] := va_S.rf
  unfold s2_far
  refine x_iload_n hx hb dX2_far_0 rfl (lv_at hl 1 rfl) ?_
  refine x_iload_n hx hb dX2_far_1 rfl (lv_at hl 2 rfl) ?_
  refine x_isub hx hb dX2_far_2 ?_
  refine kX2_abs E ⟨by decide, by decide⟩ hl.1 (Nat.le_of_ble_eq_true rfl) dX2_far_3 ⟨Nat.le_refl _, Nat.le_refl _⟩ ?_
  refine x_istore_n (lv' := [(3, .int (if 0 ≤ (p1 - p2) then (p1 - p2) else 0 - (p1 - p2))), (0, .ref (ad (1))), (1, .int p1), (2, .int p2)]) hx hb dX2_far_6 rfl hl (by decide) rfl (fun ls hl => ?_)
  refine x_iload_n hx hb dX2_far_7 rfl (lv_at hl 0 rfl) ?_
  refine x_aload_n hx hb dX2_far_8 rfl (lv_at hl 1 rfl) ?_
  refine gX2_21 E hU dX2_far_9 ?_
  refine x_iload_n hx hb dX2_far_12 rfl (lv_at hl 0 rfl) ?_
  refine x_isub hx hb dX2_far_13 ?_
  refine kX2_min E ⟨by decide, by decide⟩ hl.1 (Nat.le_of_ble_eq_true rfl) dX2_far_14 ⟨Nat.le_refl _, Nat.le_refl _⟩ ?_
  exact x_iret hx hb hr hlk hS rfl trivial dX2_far_17
section HK
variable {ρ : Type} {p : Program} {l : Launch} {e : Env} {R : Room} {s : State} {m : MethodId} {args : Array Value} {below : List Frame} {meth : Method} {c : Code} {H : Heap} {locs : List Loc} {cells slots : Nat} {Qf : ρ → State → Prop}
variable {cc : ByteArray} {pc nL L M q0 : Nat} {ls : Array Slot} {rest : List Value}
variable {D : va_G} {ct : CT} {ck : Nat → UC} {N : Nat} {ad : Nat → Nat} {P : Nat → Nat → Option Nat} {A A0 : Nat → Prop} {S : US} {w : Int64} {h : AH} {H0 : Heap}
theorem kX1_2_far {p1 : Int32} {p2 : Int32} (E : ME p m c cc nL s args RX1 D clW ct) (hG : GH D ct ad P A S h H) (hS : va_S A0 H0 H locs) (hA0 : ∀ q, H0.size ≤ q → A0 q) (hR : 1 + 1 ≤ R.frames ∧ 8 + (4 + 11) + 40 ≤ R.locals) (hsize : ls.size = nL) (hW : (rest.map fun v => v.category).sum ≤ 8) (hdg : decode cc pc = .ok (.invokevirtual 261, 3)) (hf : cells ≤ R.cells ∧ slots ≤ R.slots) {kp : Int32 → Option ρ} (kk : ∀ (o : Int32) (H1 : Heap) (locs1 : List Loc), GH D ct ad P A S h H1 → va_S A0 H0 H1 locs1 → X p l e R s m args below meth c H1 locs1 cells slots Qf (kp o) (F0 m (pc + 3) ls (.int o :: rest))) : X p l e R s m args below meth c H locs cells slots Qf (callK (s2_far S p1 p2) kp) (F0 m pc ls (.int p2 :: .int p1 :: .ref (ad (1)) :: rest)) := gc_ro (val' := fun (o : Int32) => some (.int o)) (len := 3) hG hS hA0 (fun o ho => rnV (As := [.int p1, .int p2]) E (hG.to fun _ _ => trivial) (recvU (i := 1) E.2.1 hG.1 (by decide) rfl rfl) (mH2_far l D ct ad P S h p1 p2 _ o ho) (cwV 2 E.1.2.2.2.2 (lw_V q1564 q1565 q1566 q114 q1567) rfl rfl rfl (by decide +kernel) hR) rfl hsize rfl hW hdg hf) kk
end HK

set_option maxHeartbeats 4000000 in
theorem mH1_steps (l : Launch) (D : va_G) (ct : CT) (ad : Nat → Nat) (P : Nat → Nat → Option Nat) (S : US) (h : AH) (p1 : Int32) (p2 : Int32) (sz : Nat) (o : Int32) (ho : s1_steps S p1 p2 = some o) : Met l yX1_steps (ws_ yX1_steps cX1_steps 3 (some .int)) { frames := 2, cells := 0, slots := 0, locals := 63 } (mP D clW ct [.ref (ad (0)), .int p1, .int p2] sz (GH D ct ad P (fun _ => True) S h)) (mC (some (.int o)) (fun _ => True) (nA sz)) 0 0 (nA sz) := by
  refine X.start (val := fun (o : Int32) => some (.int o)) (Bt := fun _ _ => True) (A := nA sz) ho (by decide) (Nat.le_of_ble_eq_true rfl) (lv := [(0, .ref (ad (0))), (1, .int p1), (2, .int p2)]) rfl ?_
  intro p e s m args below meth c E hr hlk hnm hsz hU ls hl
  subst hsz
  obtain ⟨⟨hx, hb, hml, hown, hts⟩, hK, hJ⟩ := id E
  have hA0 : ∀ q, s.heap.size ≤ q → (nA s.heap.size) q := fun q h => h
  have hS : va_S (nA s.heap.size) s.heap s.heap [] := va_S.rf
  unfold s1_steps
  refine x_aload_n hx hb dX1_steps_0 rfl (lv_at hl 0 rfl) ?_
  refine gX1_31 E hU dX1_steps_1 ?_
  refine x_aload_n hx hb dX1_steps_4 rfl (lv_at hl 0 rfl) ?_
  refine gX1_40 E hU dX1_steps_5 ?_
  refine gX1_108 E hU (by decide) dX1_steps_8 ?_
  refine x_iload_n hx hb dX1_steps_11 rfl (lv_at hl 1 rfl) ?_
  refine ux_ald (i := lc 0 4) (n := 6) E hU.1 (lc_lt (by decide) (by decide)) (ck_lc (by decide)) dX1_steps_12 ?_
  refine x_iload_n hx hb dX1_steps_13 rfl (lv_at hl 2 rfl) ?_
  refine kX1_2_far E hU hS hA0 ⟨by decide, by decide⟩ hl.1 (Nat.le_of_ble_eq_true rfl) dX1_steps_14 ⟨Nat.le_refl _, Nat.le_refl _⟩ (fun o1 H locs hU hS => ?_)
  exact x_iret hx hb hr hlk hS rfl trivial dX1_steps_17
section HK
variable {ρ : Type} {p : Program} {l : Launch} {e : Env} {R : Room} {s : State} {m : MethodId} {args : Array Value} {below : List Frame} {meth : Method} {c : Code} {H : Heap} {locs : List Loc} {cells slots : Nat} {Qf : ρ → State → Prop}
variable {cc : ByteArray} {pc nL L M q0 : Nat} {ls : Array Slot} {rest : List Value}
variable {D : va_G} {ct : CT} {ck : Nat → UC} {N : Nat} {ad : Nat → Nat} {P : Nat → Nat → Option Nat} {A A0 : Nat → Prop} {S : US} {w : Int64} {h : AH} {H0 : Heap}
theorem kX1_1_steps {p1 : Int32} {p2 : Int32} (E : ME p m c cc nL s args RX1 D clW ct) (hG : GH D ct ad P A S h H) (hS : va_S A0 H0 H locs) (hA0 : ∀ q, H0.size ≤ q → A0 q) (hR : 2 + 1 ≤ R.frames ∧ 8 + (3 + 11) + 63 ≤ R.locals) (hsize : ls.size = nL) (hW : (rest.map fun v => v.category).sum ≤ 8) (hdg : decode cc pc = .ok (.invokevirtual 266, 3)) (hf : cells ≤ R.cells ∧ slots ≤ R.slots) {kp : Int32 → Option ρ} (kk : ∀ (o : Int32) (H1 : Heap) (locs1 : List Loc), GH D ct ad P A S h H1 → va_S A0 H0 H1 locs1 → X p l e R s m args below meth c H1 locs1 cells slots Qf (kp o) (F0 m (pc + 3) ls (.int o :: rest))) : X p l e R s m args below meth c H locs cells slots Qf (callK (s1_steps S p1 p2) kp) (F0 m pc ls (.int p2 :: .int p1 :: .ref (ad (0)) :: rest)) := gc_ro (val' := fun (o : Int32) => some (.int o)) (len := 3) hG hS hA0 (fun o ho => rnV (As := [.int p1, .int p2]) E (hG.to fun _ _ => trivial) (recvU (i := 0) E.2.1 hG.1 (by decide) rfl rfl) (mH1_steps l D ct ad P S h p1 p2 _ o ho) (cwV 2 E.1.2.2.2.2 (lw_V q1560 q1562 qs40 q113 q1563) rfl rfl rfl (by decide +kernel) hR) rfl hsize rfl hW hdg hf) kk
end HK

set_option maxHeartbeats 4000000 in
theorem mH1_closedFrom (l : Launch) (D : va_G) (ct : CT) (ad : Nat → Nat) (P : Nat → Nat → Option Nat) (S : US) (h : AH) (p1 : Int32) (sz : Nat) (o : Int32) (ho : s1_closedFrom S p1 = some o) : Met l yX1_closedFrom (ws_ yX1_closedFrom cX1_closedFrom 3 (some .int)) { frames := 2, cells := 0, slots := 0, locals := 61 } (mP D clW ct [.ref (ad (0)), .int p1] sz (GH D ct ad P (fun _ => True) S h)) (mC (some (.int o)) (fun _ => True) (nA sz)) 0 0 (nA sz) := by
  refine X.start (val := fun (o : Int32) => some (.int o)) (Bt := fun _ _ => True) (A := nA sz) ho (by decide) (Nat.le_of_ble_eq_true rfl) (lv := [(0, .ref (ad (0))), (1, .int p1)]) rfl ?_
  intro p e s m args below meth c E hr hlk hnm hsz hU ls hl
  subst hsz
  obtain ⟨⟨hx, hb, hml, hown, hts⟩, hK, hJ⟩ := id E
  have hA0 : ∀ q, s.heap.size ≤ q → (nA s.heap.size) q := fun q h => h
  have hS : va_S (nA s.heap.size) s.heap s.heap [] := va_S.rf
  unfold s1_closedFrom
  refine x_iconst (v := 0) hx hb dX1_closedFrom_0 (by decide) ?_
  refine x_istore_n (lv' := [(2, .int (0 : Int32)), (0, .ref (ad (0))), (1, .int p1)]) hx hb dX1_closedFrom_1 rfl hl (by decide) rfl (fun ls hl => ?_)
  refine X.loop (I := fun (x : Int32) g H locs => GH D ct ad P (fun _ => True) S h H ∧ va_S (nA s.heap.size) s.heap H locs ∧ ∃ ls : Array Slot, g = F0 m 2 ls [] ∧ lv_has ls 3 [(0, .ref (ad (0))), (1, .int p1), (2, .int x)]) (fun rc2 ih2 => ?_) FUEL _ _ _ _ ⟨hU, hS, _, rfl, lv_sub hl [1, 2, 0] rfl⟩
  rintro v1 _ H locs ⟨hU, hS, ls, rfl, hl⟩
  refine X.eqs (sp2 := s1_closedFrom_L2 p1 S rc2 v1) rfl ?_
  unfold s1_closedFrom_L2
  refine x_iload_n hx hb dX1_closedFrom_2 rfl (lv_at hl 2 rfl) ?_
  refine x_aload_n hx hb dX1_closedFrom_3 rfl (lv_at hl 0 rfl) ?_
  refine gX1_31 E hU dX1_closedFrom_4 ?_
  refine gX1_115 E hU dX1_closedFrom_7 ?_
  refine x_icmp_ge (tgt := 40) hx hb dX1_closedFrom_10 (by decide) (fun hc => ?_) (fun hc => ?_)
  · refine x_iload_n hx hb dX1_closedFrom_40 rfl (lv_at hl 2 rfl) ?_
    exact x_iret hx hb hr hlk hS rfl trivial dX1_closedFrom_41
  · refine x_aload_n hx hb dX1_closedFrom_13 rfl (lv_at hl 0 rfl) ?_
    refine gX1_40 E hU dX1_closedFrom_14 ?_
    refine x_iload_n hx hb dX1_closedFrom_17 rfl (lv_at hl 1 rfl) ?_
    refine x_iload_n hx hb dX1_closedFrom_18 rfl (lv_at hl 2 rfl) ?_
    refine x_iadd hx hb dX1_closedFrom_19 ?_
    refine x_aload_n hx hb dX1_closedFrom_20 rfl (lv_at hl 0 rfl) ?_
    refine gX1_31 E hU dX1_closedFrom_21 ?_
    refine gX1_115 E hU dX1_closedFrom_24 ?_
    refine x_iremG hx hb dX1_closedFrom_27 ?_
    refine kX1_3_isOpen E hU hS hA0 (by decide) ⟨by decide, by decide⟩ hl.1 (Nat.le_of_ble_eq_true rfl) dX1_closedFrom_28 ⟨Nat.le_refl _, Nat.le_refl _⟩ (fun o3 H locs hU hS => ?_)
    refine x_if_ne (tgt := 40) hx hb dX1_closedFrom_31 (by decide) (fun hc => ?_) (fun hc => ?_)
    · refine x_iload_n hx hb dX1_closedFrom_40 rfl (lv_at hl 2 rfl) ?_
      exact x_iret hx hb hr hlk hS rfl trivial dX1_closedFrom_41
    · refine x_iinc (v := (v1 + (1 : Int32))) (lv' := [(2, .int (v1 + (1 : Int32))), (0, .ref (ad (0))), (1, .int p1)]) (k := 2) hx hb dX1_closedFrom_34 hl rfl rfl (by decide) rfl (fun ls hl => ?_)
      refine x_goto (tgt := 2) hx hb dX1_closedFrom_37 (by decide) ?_
      exact ih2 (v1 + (1 : Int32)) _ _ _ ⟨hU, hS, _, rfl, lv_sub hl [1, 2, 0] rfl⟩
section HK
variable {ρ : Type} {p : Program} {l : Launch} {e : Env} {R : Room} {s : State} {m : MethodId} {args : Array Value} {below : List Frame} {meth : Method} {c : Code} {H : Heap} {locs : List Loc} {cells slots : Nat} {Qf : ρ → State → Prop}
variable {cc : ByteArray} {pc nL L M q0 : Nat} {ls : Array Slot} {rest : List Value}
variable {D : va_G} {ct : CT} {ck : Nat → UC} {N : Nat} {ad : Nat → Nat} {P : Nat → Nat → Option Nat} {A A0 : Nat → Prop} {S : US} {w : Int64} {h : AH} {H0 : Heap}
theorem kX1_1_closedFrom {p1 : Int32} (E : ME p m c cc nL s args RX1 D clW ct) (hG : GH D ct ad P A S h H) (hS : va_S A0 H0 H locs) (hA0 : ∀ q, H0.size ≤ q → A0 q) (hR : 2 + 1 ≤ R.frames ∧ 8 + (3 + 11) + 61 ≤ R.locals) (hsize : ls.size = nL) (hW : (rest.map fun v => v.category).sum ≤ 8) (hdg : decode cc pc = .ok (.invokevirtual 277, 3)) (hf : cells ≤ R.cells ∧ slots ≤ R.slots) {kp : Int32 → Option ρ} (kk : ∀ (o : Int32) (H1 : Heap) (locs1 : List Loc), GH D ct ad P A S h H1 → va_S A0 H0 H1 locs1 → X p l e R s m args below meth c H1 locs1 cells slots Qf (kp o) (F0 m (pc + 3) ls (.int o :: rest))) : X p l e R s m args below meth c H locs cells slots Qf (callK (s1_closedFrom S p1) kp) (F0 m pc ls (.int p1 :: .ref (ad (0)) :: rest)) := gc_ro (val' := fun (o : Int32) => some (.int o)) (len := 3) hG hS hA0 (fun o ho => rnV (As := [.int p1]) E (hG.to fun _ _ => trivial) (recvU (i := 0) E.2.1 hG.1 (by decide) rfl rfl) (mH1_closedFrom l D ct ad P S h p1 _ o ho) (cwV 1 E.1.2.2.2.2 (lw_V q1579 q1581 qs41 q113 q1582) rfl rfl rfl (by decide +kernel) hR) rfl hsize rfl hW hdg hf) kk
end HK

set_option maxHeartbeats 4000000 in
theorem mH1_closed (l : Launch) (D : va_G) (ct : CT) (ad : Nat → Nat) (P : Nat → Nat → Option Nat) (S : US) (h : AH) (p1 : Int32) (sz : Nat) (o : Int32) (ho : s1_closed S p1 = some o) : Met l yX1_closed (ws_ yX1_closed cX1_closed 4 (some .int)) { frames := 3, cells := 0, slots := 0, locals := 83 } (mP D clW ct [.ref (ad (0)), .int p1] sz (GH D ct ad P (fun _ => True) S h)) (mC (some (.int o)) (fun _ => True) (nA sz)) 0 0 (nA sz) := by
  refine X.start (val := fun (o : Int32) => some (.int o)) (Bt := fun _ _ => True) (A := nA sz) ho (by decide) (Nat.le_of_ble_eq_true rfl) (lv := [(0, .ref (ad (0))), (1, .int p1)]) rfl ?_
  intro p e s m args below meth c E hr hlk hnm hsz hU ls hl
  subst hsz
  obtain ⟨⟨hx, hb, hml, hown, hts⟩, hK, hJ⟩ := id E
  have hA0 : ∀ q, s.heap.size ≤ q → (nA s.heap.size) q := fun q h => h
  have hS : va_S (nA s.heap.size) s.heap s.heap [] := va_S.rf
  unfold s1_closed
  refine x_iload_n hx hb dX1_closed_0 rfl (lv_at hl 1 rfl) ?_
  refine x_iconst (v := 1) hx hb dX1_closed_1 (by decide) ?_
  refine kX1_1_oneOf E hS hA0 ⟨by decide, by decide⟩ hl.1 (Nat.le_of_ble_eq_true rfl) dX1_closed_2 ⟨Nat.le_refl _, Nat.le_refl _⟩ (fun o1 H locs hz_ hk_ hS => ?_)
  replace hU := hU.kept hz_ hk_
  refine x_iconst (v := 0) hx hb dX1_closed_5 (by decide) ?_
  refine x_istore_n (lv' := [(2, .int (0 : Int32)), (0, .ref (ad (0))), (1, .int p1)]) hx hb dX1_closed_6 rfl hl (by decide) rfl (fun ls hl => ?_)
  refine x_iconst (v := 1) hx hb dX1_closed_7 (by decide) ?_
  refine x_istore_n (lv' := [(3, .int (1 : Int32)), (2, .int (0 : Int32)), (0, .ref (ad (0))), (1, .int p1)]) hx hb dX1_closed_8 rfl hl (by decide) rfl (fun ls hl => ?_)
  refine X.loop (I := fun (x : (Int32 × Int32)) g H locs => GH D ct ad P (fun _ => True) S h H ∧ va_S (nA s.heap.size) s.heap H locs ∧ ∃ ls : Array Slot, g = F0 m 9 ls [] ∧ lv_has ls 4 [(0, .ref (ad (0))), (1, .int p1), (2, .int x.1), (3, .int x.2)]) (fun rc4 ih4 => ?_) FUEL _ _ _ _ ⟨hU, hS, _, rfl, lv_sub hl [2, 3, 1, 0] rfl⟩
  rintro ⟨v2, v3⟩ _ H locs ⟨hU, hS, ls, rfl, hl⟩
  have hU : GH D ct ad P (fun _ => True) S h H := hU
  have hl : lv_has ls 4 [(0, .ref (ad (0))), (1, .int p1), (2, .int v2), (3, .int v3)] := hl
  refine X.eqs (sp2 := s1_closed_L9 p1 S rc4 v2 v3) rfl ?_
  unfold s1_closed_L9
  refine x_iload_n hx hb dX1_closed_9 rfl (lv_at hl 3 rfl) ?_
  refine x_aload_n hx hb dX1_closed_10 rfl (lv_at hl 0 rfl) ?_
  refine gX1_31 E hU dX1_closed_11 ?_
  refine gX1_115 E hU dX1_closed_14 ?_
  refine x_icmp_ge (tgt := 41) hx hb dX1_closed_17 (by decide) (fun hc => ?_) (fun hc => ?_)
  · refine x_iload_n hx hb dX1_closed_41 rfl (lv_at hl 1 rfl) ?_
    refine x_if_ne (tgt := 53) hx hb dX1_closed_42 (by decide) (fun hc => ?_) (fun hc => ?_)
    · refine x_aload_n hx hb dX1_closed_53 rfl (lv_at hl 0 rfl) ?_
      refine x_iload_n hx hb dX1_closed_54 rfl (lv_at hl 2 rfl) ?_
      refine kX1_1_closedFrom E hU hS hA0 ⟨by decide, by decide⟩ hl.1 (Nat.le_of_ble_eq_true rfl) dX1_closed_55 ⟨Nat.le_refl _, Nat.le_refl _⟩ (fun o5 H locs hU hS => ?_)
      refine x_if_ne (tgt := 65) hx hb dX1_closed_58 (by decide) (fun hc => ?_) (fun hc => ?_)
      · refine x_iload_n hx hb dX1_closed_65 rfl (lv_at hl 2 rfl) ?_
        exact x_iret hx hb hr hlk hS rfl trivial dX1_closed_66
      · refine x_iconst (v := -1) hx hb dX1_closed_61 (by decide) ?_
        refine x_goto (tgt := 66) hx hb dX1_closed_62 (by decide) ?_
        exact x_iret hx hb hr hlk hS rfl trivial dX1_closed_66
    · refine x_aload_n hx hb dX1_closed_45 rfl (lv_at hl 0 rfl) ?_
      refine x_iload_n hx hb dX1_closed_46 rfl (lv_at hl 2 rfl) ?_
      refine kX1_1_closedFrom E hU hS hA0 ⟨by decide, by decide⟩ hl.1 (Nat.le_of_ble_eq_true rfl) dX1_closed_47 ⟨Nat.le_refl _, Nat.le_refl _⟩ (fun o6 H locs hU hS => ?_)
      refine x_goto (tgt := 66) hx hb dX1_closed_50 (by decide) ?_
      exact x_iret hx hb hr hlk hS rfl trivial dX1_closed_66
  · refine x_aload_n hx hb dX1_closed_20 rfl (lv_at hl 0 rfl) ?_
    refine x_iload_n hx hb dX1_closed_21 rfl (lv_at hl 3 rfl) ?_
    refine kX1_1_closedFrom E hU hS hA0 ⟨by decide, by decide⟩ hl.1 (Nat.le_of_ble_eq_true rfl) dX1_closed_22 ⟨Nat.le_refl _, Nat.le_refl _⟩ (fun o7 H locs hU hS => ?_)
    refine x_aload_n hx hb dX1_closed_25 rfl (lv_at hl 0 rfl) ?_
    refine x_iload_n hx hb dX1_closed_26 rfl (lv_at hl 2 rfl) ?_
    refine kX1_1_closedFrom E hU hS hA0 ⟨by decide, by decide⟩ hl.1 (Nat.le_of_ble_eq_true rfl) dX1_closed_27 ⟨Nat.le_refl _, Nat.le_refl _⟩ (fun o8 H locs hU hS => ?_)
    refine x_icmp_le (tgt := 35) hx hb dX1_closed_30 (by decide) (fun hc => ?_) (fun hc => ?_)
    · refine x_iinc (v := (v3 + (1 : Int32))) (lv' := [(3, .int (v3 + (1 : Int32))), (0, .ref (ad (0))), (1, .int p1), (2, .int v2)]) (k := 3) hx hb dX1_closed_35 hl rfl rfl (by decide) rfl (fun ls hl => ?_)
      refine x_goto (tgt := 9) hx hb dX1_closed_38 (by decide) ?_
      exact ih4 (v2, (v3 + (1 : Int32))) _ _ _ ⟨hU, hS, _, rfl, lv_sub hl [1, 2, 3, 0] rfl⟩
    · refine x_iload_n hx hb dX1_closed_33 rfl (lv_at hl 3 rfl) ?_
      refine x_istore_n (lv' := [(2, .int v3), (0, .ref (ad (0))), (1, .int p1), (3, .int v3)]) hx hb dX1_closed_34 rfl hl (by decide) rfl (fun ls hl => ?_)
      refine x_iinc (v := (v3 + (1 : Int32))) (lv' := [(3, .int (v3 + (1 : Int32))), (2, .int v3), (0, .ref (ad (0))), (1, .int p1)]) (k := 3) hx hb dX1_closed_35 hl rfl rfl (by decide) rfl (fun ls hl => ?_)
      refine x_goto (tgt := 9) hx hb dX1_closed_38 (by decide) ?_
      exact ih4 (v3, (v3 + (1 : Int32))) _ _ _ ⟨hU, hS, _, rfl, lv_sub hl [2, 3, 1, 0] rfl⟩

set_option maxHeartbeats 4000000 in
theorem mH1_strainFrom (l : Launch) (D : va_G) (ct : CT) (ad : Nat → Nat) (P : Nat → Nat → Option Nat) (S : US) (h : AH) (p1 : Int32) (p2 : Int32) (sz : Nat) (o : Int32) (ho : s1_strainFrom S p1 p2 = some o) : Met l yX1_strainFrom (ws_ yX1_strainFrom cX1_strainFrom 5 (some .int)) { frames := 1, cells := 0, slots := 0, locals := 40 } (mP D clW ct [.ref (ad (0)), .int p1, .int p2] sz (GH D ct ad P (fun _ => True) S h)) (mC (some (.int o)) (fun _ => True) (nA sz)) 0 0 (nA sz) := by
  refine X.start (val := fun (o : Int32) => some (.int o)) (Bt := fun _ _ => True) (A := nA sz) ho (by decide) (Nat.le_of_ble_eq_true rfl) (lv := [(0, .ref (ad (0))), (1, .int p1), (2, .int p2)]) rfl ?_
  intro p e s m args below meth c E hr hlk hnm hsz hU ls hl
  subst hsz
  obtain ⟨⟨hx, hb, hml, hown, hts⟩, hK, hJ⟩ := id E
  have hA0 : ∀ q, s.heap.size ≤ q → (nA s.heap.size) q := fun q h => h
  have hS : va_S (nA s.heap.size) s.heap s.heap [] := va_S.rf
  unfold s1_strainFrom
  refine x_iconst (v := 0) hx hb dX1_strainFrom_0 (by decide) ?_
  refine x_istore_n (lv' := [(3, .int (0 : Int32)), (0, .ref (ad (0))), (1, .int p1), (2, .int p2)]) hx hb dX1_strainFrom_1 rfl hl (by decide) rfl (fun ls hl => ?_)
  refine x_iconst (v := 0) hx hb dX1_strainFrom_2 (by decide) ?_
  refine x_istore (lv' := [(4, .int (0 : Int32)), (3, .int (0 : Int32)), (0, .ref (ad (0))), (1, .int p1), (2, .int p2)]) hx hb dX1_strainFrom_3 hl (by decide) rfl (fun ls hl => ?_)
  refine X.loop (I := fun (x : (Int32 × Int32)) g H locs => GH D ct ad P (fun _ => True) S h H ∧ va_S (nA s.heap.size) s.heap H locs ∧ ∃ ls : Array Slot, g = F0 m 5 ls [] ∧ lv_has ls 5 [(0, .ref (ad (0))), (1, .int p1), (2, .int p2), (3, .int x.1), (4, .int x.2)]) (fun rc3 ih3 => ?_) FUEL _ _ _ _ ⟨hU, hS, _, rfl, lv_sub hl [2, 3, 4, 1, 0] rfl⟩
  rintro ⟨v1, v2⟩ _ H locs ⟨hU, hS, ls, rfl, hl⟩
  have hU : GH D ct ad P (fun _ => True) S h H := hU
  have hl : lv_has ls 5 [(0, .ref (ad (0))), (1, .int p1), (2, .int p2), (3, .int v1), (4, .int v2)] := hl
  refine X.eqs (sp2 := s1_strainFrom_L5 p1 p2 S rc3 v1 v2) rfl ?_
  unfold s1_strainFrom_L5
  refine x_iload hx hb dX1_strainFrom_5 (lv_at hl 4 rfl) ?_
  refine x_iload_n hx hb dX1_strainFrom_7 rfl (lv_at hl 2 rfl) ?_
  refine x_icmp_ge (tgt := 40) hx hb dX1_strainFrom_8 (by decide) (fun hc => ?_) (fun hc => ?_)
  · refine x_iload_n hx hb dX1_strainFrom_40 rfl (lv_at hl 3 rfl) ?_
    exact x_iret hx hb hr hlk hS rfl trivial dX1_strainFrom_41
  · refine x_iload_n hx hb dX1_strainFrom_11 rfl (lv_at hl 3 rfl) ?_
    refine x_aload_n hx hb dX1_strainFrom_12 rfl (lv_at hl 0 rfl) ?_
    refine gX1_40 E hU dX1_strainFrom_13 ?_
    refine gX1_155 E hU (by decide) dX1_strainFrom_16 ?_
    refine x_iload_n hx hb dX1_strainFrom_19 rfl (lv_at hl 1 rfl) ?_
    refine x_iload hx hb dX1_strainFrom_20 (lv_at hl 4 rfl) ?_
    refine x_iadd hx hb dX1_strainFrom_22 ?_
    refine x_aload_n hx hb dX1_strainFrom_23 rfl (lv_at hl 0 rfl) ?_
    refine gX1_31 E hU dX1_strainFrom_24 ?_
    refine gX1_115 E hU dX1_strainFrom_27 ?_
    refine x_iremG hx hb dX1_strainFrom_30 ?_
    refine ux_ald (i := lc 0 1) (n := 12) E hU.1 (lc_lt (by decide) (by decide)) (ck_lc (by decide)) dX1_strainFrom_31 ?_
    refine x_iadd hx hb dX1_strainFrom_32 ?_
    refine x_topi (fun e4 => ?_)
    refine x_istore_n (lv' := [(3, .int e4), (0, .ref (ad (0))), (1, .int p1), (2, .int p2), (4, .int v2)]) hx hb dX1_strainFrom_33 rfl hl (by decide) rfl (fun ls hl => ?_)
    refine x_iinc (v := (v2 + (1 : Int32))) (lv' := [(4, .int (v2 + (1 : Int32))), (3, .int e4), (0, .ref (ad (0))), (1, .int p1), (2, .int p2)]) (k := 4) hx hb dX1_strainFrom_34 hl rfl rfl (by decide) rfl (fun ls hl => ?_)
    refine x_goto (tgt := 5) hx hb dX1_strainFrom_37 (by decide) ?_
    exact ih3 (e4, (v2 + (1 : Int32))) _ _ _ ⟨hU, hS, _, rfl, lv_sub hl [2, 3, 4, 1, 0] rfl⟩
section HK
variable {ρ : Type} {p : Program} {l : Launch} {e : Env} {R : Room} {s : State} {m : MethodId} {args : Array Value} {below : List Frame} {meth : Method} {c : Code} {H : Heap} {locs : List Loc} {cells slots : Nat} {Qf : ρ → State → Prop}
variable {cc : ByteArray} {pc nL L M q0 : Nat} {ls : Array Slot} {rest : List Value}
variable {D : va_G} {ct : CT} {ck : Nat → UC} {N : Nat} {ad : Nat → Nat} {P : Nat → Nat → Option Nat} {A A0 : Nat → Prop} {S : US} {w : Int64} {h : AH} {H0 : Heap}
theorem kX1_1_strainFrom {p1 : Int32} {p2 : Int32} (E : ME p m c cc nL s args RX1 D clW ct) (hG : GH D ct ad P A S h H) (hS : va_S A0 H0 H locs) (hA0 : ∀ q, H0.size ≤ q → A0 q) (hR : 1 + 1 ≤ R.frames ∧ 8 + (5 + 11) + 40 ≤ R.locals) (hsize : ls.size = nL) (hW : (rest.map fun v => v.category).sum ≤ 8) (hdg : decode cc pc = .ok (.invokevirtual 283, 3)) (hf : cells ≤ R.cells ∧ slots ≤ R.slots) {kp : Int32 → Option ρ} (kk : ∀ (o : Int32) (H1 : Heap) (locs1 : List Loc), GH D ct ad P A S h H1 → va_S A0 H0 H1 locs1 → X p l e R s m args below meth c H1 locs1 cells slots Qf (kp o) (F0 m (pc + 3) ls (.int o :: rest))) : X p l e R s m args below meth c H locs cells slots Qf (callK (s1_strainFrom S p1 p2) kp) (F0 m pc ls (.int p2 :: .int p1 :: .ref (ad (0)) :: rest)) := gc_ro (val' := fun (o : Int32) => some (.int o)) (len := 3) hG hS hA0 (fun o ho => rnV (As := [.int p1, .int p2]) E (hG.to fun _ _ => trivial) (recvU (i := 0) E.2.1 hG.1 (by decide) rfl rfl) (mH1_strainFrom l D ct ad P S h p1 p2 _ o ho) (cwV 2 E.1.2.2.2.2 (lw_V q1590 q1592 qs42 q113 q1593) rfl rfl rfl (by decide +kernel) hR) rfl hsize rfl hW hdg hf) kk
end HK

set_option maxHeartbeats 4000000 in
theorem mH1_tight (l : Launch) (D : va_G) (ct : CT) (ad : Nat → Nat) (P : Nat → Nat → Option Nat) (S : US) (h : AH) (p1 : Int32) (p2 : Int32) (sz : Nat) (o : Int32) (ho : s1_tight S p1 p2 = some o) : Met l yX1_tight (ws_ yX1_tight cX1_tight 5 (some .int)) { frames := 3, cells := 0, slots := 0, locals := 83 } (mP D clW ct [.ref (ad (0)), .int p1, .int p2] sz (GH D ct ad P (fun _ => True) S h)) (mC (some (.int o)) (fun _ => True) (nA sz)) 0 0 (nA sz) := by
  refine X.start (val := fun (o : Int32) => some (.int o)) (Bt := fun _ _ => True) (A := nA sz) ho (by decide) (Nat.le_of_ble_eq_true rfl) (lv := [(0, .ref (ad (0))), (1, .int p1), (2, .int p2)]) rfl ?_
  intro p e s m args below meth c E hr hlk hnm hsz hU ls hl
  subst hsz
  obtain ⟨⟨hx, hb, hml, hown, hts⟩, hK, hJ⟩ := id E
  have hA0 : ∀ q, s.heap.size ≤ q → (nA s.heap.size) q := fun q h => h
  have hS : va_S (nA s.heap.size) s.heap s.heap [] := va_S.rf
  unfold s1_tight
  refine x_iload_n hx hb dX1_tight_0 rfl (lv_at hl 2 rfl) ?_
  refine x_iconst (v := 1) hx hb dX1_tight_1 (by decide) ?_
  refine kX1_1_oneOf E hS hA0 ⟨by decide, by decide⟩ hl.1 (Nat.le_of_ble_eq_true rfl) dX1_tight_2 ⟨Nat.le_refl _, Nat.le_refl _⟩ (fun o1 H locs hz_ hk_ hS => ?_)
  replace hU := hU.kept hz_ hk_
  refine x_iload_n hx hb dX1_tight_5 rfl (lv_at hl 1 rfl) ?_
  refine x_iconst (v := 1) hx hb dX1_tight_6 (by decide) ?_
  refine x_bipush (v := 12) hx hb dX1_tight_7 (by decide) ?_
  refine kX1_1_in E hS hA0 ⟨by decide, by decide⟩ hl.1 (Nat.le_of_ble_eq_true rfl) dX1_tight_9 ⟨Nat.le_refl _, Nat.le_refl _⟩ (fun o2 H locs hz_ hk_ hS => ?_)
  replace hU := hU.kept hz_ hk_
  refine kX1_1_right E hS hA0 ⟨by decide, by decide⟩ hl.1 (Nat.le_of_ble_eq_true rfl) dX1_tight_12 ⟨Nat.le_refl _, Nat.le_refl _⟩ (fun o3 H locs hz_ hk_ hS => ?_)
  replace hU := hU.kept hz_ hk_
  refine x_iload_n hx hb dX1_tight_15 rfl (lv_at hl 1 rfl) ?_
  refine x_aload_n hx hb dX1_tight_16 rfl (lv_at hl 0 rfl) ?_
  refine gX1_31 E hU dX1_tight_17 ?_
  refine gX1_115 E hU dX1_tight_20 ?_
  refine x_icmp_le (tgt := 28) hx hb dX1_tight_23 (by decide) (fun hc => ?_) (fun hc => ?_)
  · refine x_iconst (v := 0) hx hb dX1_tight_28 (by decide) ?_
    refine x_istore_n (lv' := [(3, .int (0 : Int32)), (0, .ref (ad (0))), (1, .int p1), (2, .int p2)]) hx hb dX1_tight_29 rfl hl (by decide) rfl (fun ls hl => ?_)
    refine x_iconst (v := 1) hx hb dX1_tight_30 (by decide) ?_
    refine x_istore (lv' := [(4, .int (1 : Int32)), (3, .int (0 : Int32)), (0, .ref (ad (0))), (1, .int p1), (2, .int p2)]) hx hb dX1_tight_31 hl (by decide) rfl (fun ls hl => ?_)
    refine X.loop (I := fun (x : (Int32 × Int32)) g H locs => GH D ct ad P (fun _ => True) S h H ∧ va_S (nA s.heap.size) s.heap H locs ∧ ∃ ls : Array Slot, g = F0 m 33 ls [] ∧ lv_has ls 5 [(0, .ref (ad (0))), (1, .int p1), (2, .int p2), (3, .int x.1), (4, .int x.2)]) (fun rc6 ih6 => ?_) FUEL _ _ _ _ ⟨hU, hS, _, rfl, lv_sub hl [2, 3, 4, 1, 0] rfl⟩
    rintro ⟨v4, v5⟩ _ H locs ⟨hU, hS, ls, rfl, hl⟩
    have hU : GH D ct ad P (fun _ => True) S h H := hU
    have hl : lv_has ls 5 [(0, .ref (ad (0))), (1, .int p1), (2, .int p2), (3, .int v4), (4, .int v5)] := hl
    refine X.eqs (sp2 := s1_tight_L33 p1 p2 S rc6 v4 v5) rfl ?_
    unfold s1_tight_L33
    refine x_iload hx hb dX1_tight_33 (lv_at hl 4 rfl) ?_
    refine x_aload_n hx hb dX1_tight_35 rfl (lv_at hl 0 rfl) ?_
    refine gX1_31 E hU dX1_tight_36 ?_
    refine gX1_115 E hU dX1_tight_39 ?_
    refine x_icmp_ge (tgt := 70) hx hb dX1_tight_42 (by decide) (fun hc => ?_) (fun hc => ?_)
    · refine x_iload_n hx hb dX1_tight_70 rfl (lv_at hl 2 rfl) ?_
      refine x_if_ne (tgt := 83) hx hb dX1_tight_71 (by decide) (fun hc => ?_) (fun hc => ?_)
      · refine x_iload_n hx hb dX1_tight_83 rfl (lv_at hl 3 rfl) ?_
        exact x_iret hx hb hr hlk hS rfl trivial dX1_tight_84
      · refine x_aload_n hx hb dX1_tight_74 rfl (lv_at hl 0 rfl) ?_
        refine x_iload_n hx hb dX1_tight_75 rfl (lv_at hl 3 rfl) ?_
        refine x_iload_n hx hb dX1_tight_76 rfl (lv_at hl 1 rfl) ?_
        refine kX1_1_strainFrom E hU hS hA0 ⟨by decide, by decide⟩ hl.1 (Nat.le_of_ble_eq_true rfl) dX1_tight_77 ⟨Nat.le_refl _, Nat.le_refl _⟩ (fun o7 H locs hU hS => ?_)
        refine x_goto (tgt := 84) hx hb dX1_tight_80 (by decide) ?_
        exact x_iret hx hb hr hlk hS rfl trivial dX1_tight_84
    · refine x_aload_n hx hb dX1_tight_45 rfl (lv_at hl 0 rfl) ?_
      refine x_iload hx hb dX1_tight_46 (lv_at hl 4 rfl) ?_
      refine x_iload_n hx hb dX1_tight_48 rfl (lv_at hl 1 rfl) ?_
      refine kX1_1_strainFrom E hU hS hA0 ⟨by decide, by decide⟩ hl.1 (Nat.le_of_ble_eq_true rfl) dX1_tight_49 ⟨Nat.le_refl _, Nat.le_refl _⟩ (fun o8 H locs hU hS => ?_)
      refine x_aload_n hx hb dX1_tight_52 rfl (lv_at hl 0 rfl) ?_
      refine x_iload_n hx hb dX1_tight_53 rfl (lv_at hl 3 rfl) ?_
      refine x_iload_n hx hb dX1_tight_54 rfl (lv_at hl 1 rfl) ?_
      refine kX1_1_strainFrom E hU hS hA0 ⟨by decide, by decide⟩ hl.1 (Nat.le_of_ble_eq_true rfl) dX1_tight_55 ⟨Nat.le_refl _, Nat.le_refl _⟩ (fun o9 H locs hU hS => ?_)
      refine x_icmp_le (tgt := 64) hx hb dX1_tight_58 (by decide) (fun hc => ?_) (fun hc => ?_)
      · refine x_iinc (v := (v5 + (1 : Int32))) (lv' := [(4, .int (v5 + (1 : Int32))), (0, .ref (ad (0))), (1, .int p1), (2, .int p2), (3, .int v4)]) (k := 4) hx hb dX1_tight_64 hl rfl rfl (by decide) rfl (fun ls hl => ?_)
        refine x_goto (tgt := 33) hx hb dX1_tight_67 (by decide) ?_
        exact ih6 (v4, (v5 + (1 : Int32))) _ _ _ ⟨hU, hS, _, rfl, lv_sub hl [1, 2, 3, 4, 0] rfl⟩
      · refine x_iload hx hb dX1_tight_61 (lv_at hl 4 rfl) ?_
        refine x_istore_n (lv' := [(3, .int v5), (0, .ref (ad (0))), (1, .int p1), (2, .int p2), (4, .int v5)]) hx hb dX1_tight_63 rfl hl (by decide) rfl (fun ls hl => ?_)
        refine x_iinc (v := (v5 + (1 : Int32))) (lv' := [(4, .int (v5 + (1 : Int32))), (3, .int v5), (0, .ref (ad (0))), (1, .int p1), (2, .int p2)]) (k := 4) hx hb dX1_tight_64 hl rfl rfl (by decide) rfl (fun ls hl => ?_)
        refine x_goto (tgt := 33) hx hb dX1_tight_67 (by decide) ?_
        exact ih6 (v5, (v5 + (1 : Int32))) _ _ _ ⟨hU, hS, _, rfl, lv_sub hl [2, 3, 4, 1, 0] rfl⟩
  · refine x_iconst (v := -1) hx hb dX1_tight_26 (by decide) ?_
    exact x_iret hx hb hr hlk hS rfl trivial dX1_tight_27

set_option maxHeartbeats 4000000 in
theorem mH1_isSo (l : Launch) (D : va_G) (ct : CT) (ad : Nat → Nat) (P : Nat → Nat → Option Nat) (S : US) (h : AH) (sz : Nat) (o : (Bool × US)) (ho : s1_isSo S ct P h = some o) : Met l yX1_isSo (ws_ yX1_isSo cX1_isSo 5 (some .boolean)) { frames := 503, cells := 0, slots := 0, locals := 20065 } (mP D clW ct [.ref (ad (0))] sz (GH D ct ad P (fun _ => True) S h)) (mC (some (.int (bI o.1))) (UW D clW ckH ct 26 ad P (fun _ => True) o.2 0) (uA 26 ad sz)) 0 0 (uA 26 ad sz) := by
  refine X.start (val := fun (o : (Bool × US)) => some (.int (bI o.1))) (Bt := fun (o : (Bool × US)) => UW D clW ckH ct 26 ad P (fun _ => True) o.2 0) (A := uA 26 ad sz) ho (by decide) (Nat.le_of_ble_eq_true rfl) (lv := [(0, .ref (ad (0)))]) rfl ?_
  intro p e s m args below meth c E hr hlk hnm hsz hU ls hl
  subst hsz
  obtain ⟨⟨hx, hb, hml, hown, hts⟩, hK, hJ⟩ := id E
  replace hU := hU.to (B := uA 26 ad s.heap.size) (fun i hi => Or.inl ⟨i, hi, rfl⟩)
  have hA0 : ∀ q, s.heap.size ≤ q → (uA 26 ad s.heap.size) q := fun q h => Or.inr h
  have hS : va_S (uA 26 ad s.heap.size) s.heap s.heap [] := va_S.rf
  unfold s1_isSo
  refine x_iconst (v := 0) hx hb dX1_isSo_0 (by decide) ?_
  refine x_istore_n (lv' := [(1, .int (0 : Int32)), (0, .ref (ad (0)))]) hx hb dX1_isSo_1 rfl hl (by decide) rfl (fun ls hl => ?_)
  refine x_iconst (v := 0) hx hb dX1_isSo_2 (by decide) ?_
  refine x_istore_n (lv' := [(2, .int (0 : Int32)), (1, .int (0 : Int32)), (0, .ref (ad (0)))]) hx hb dX1_isSo_3 rfl hl (by decide) rfl (fun ls hl => ?_)
  refine X.loop (I := fun (x : (Int32 × Int32)) g H locs => GH D ct ad P (uA 26 ad s.heap.size) S h H ∧ va_S (uA 26 ad s.heap.size) s.heap H locs ∧ ∃ ls : Array Slot, g = F0 m 4 ls [] ∧ lv_has ls 5 [(0, .ref (ad (0))), (1, .int x.1), (2, .int x.2)]) (fun rc3 ih3 => ?_) FUEL _ _ _ _ ⟨hU, hS, _, rfl, lv_sub hl [2, 1, 0] rfl⟩
  rintro ⟨v1, v2⟩ _ H locs ⟨hU, hS, ls, rfl, hl⟩
  have hU : GH D ct ad P (uA 26 ad s.heap.size) S h H := hU
  have hl : lv_has ls 5 [(0, .ref (ad (0))), (1, .int v1), (2, .int v2)] := hl
  refine X.eqs (sp2 := s1_isSo_L4 S P h ct rc3 v1 v2) rfl ?_
  unfold s1_isSo_L4
  refine x_iload_n hx hb dX1_isSo_4 rfl (lv_at hl 2 rfl) ?_
  refine x_aload_n hx hb dX1_isSo_5 rfl (lv_at hl 0 rfl) ?_
  refine gX1_68 E hU dX1_isSo_6 (fun r4 => ?_)
  refine X.onR (fun b5 hb_ => ?_)
  subst hb_
  refine kX1_L_size E hU hS hA0 ⟨by decide, by decide⟩ hl.1 (Nat.le_of_ble_eq_true rfl) dX1_isSo_9 ⟨Nat.le_refl _, Nat.le_refl _⟩ (fun o6 H locs hU hS => ?_)
  refine x_icmp_ge (tgt := 43) hx hb dX1_isSo_14 (by decide) (fun hc => ?_) (fun hc => ?_)
  · refine x_iconst (v := 0) hx hb dX1_isSo_43 (by decide) ?_
    refine x_istore_n (lv' := [(2, .int (0 : Int32)), (0, .ref (ad (0))), (1, .int v1)]) hx hb dX1_isSo_44 rfl hl (by decide) rfl (fun ls hl => ?_)
    refine X.loop (I := fun (x : (US × Int32)) g H locs => GH D ct ad P (uA 26 ad s.heap.size) x.1 h H ∧ va_S (uA 26 ad s.heap.size) s.heap H locs ∧ ∃ ls : Array Slot, g = F0 m 45 ls [] ∧ lv_has ls 5 [(0, .ref (ad (0))), (1, .int v1), (2, .int x.2)]) (fun rc9 ih9 => ?_) FUEL _ _ _ _ ⟨hU, hS, _, rfl, lv_sub hl [1, 2, 0] rfl⟩
    rintro ⟨S7, v8⟩ _ H locs ⟨hU, hS, ls, rfl, hl⟩
    have hU : GH D ct ad P (uA 26 ad s.heap.size) S7 h H := hU
    have hl : lv_has ls 5 [(0, .ref (ad (0))), (1, .int v1), (2, .int v8)] := hl
    refine X.eqs (sp2 := s1_isSo_L45 P h ct v1 rc9 S7 v8) rfl ?_
    unfold s1_isSo_L45
    refine x_iload_n hx hb dX1_isSo_45 rfl (lv_at hl 2 rfl) ?_
    refine x_iload_n hx hb dX1_isSo_46 rfl (lv_at hl 1 rfl) ?_
    refine x_icmp_gt (tgt := 129) hx hb dX1_isSo_47 (by decide) (fun hc => ?_) (fun hc => ?_)
    · refine x_iconst (v := 1) hx hb dX1_isSo_129 (by decide) ?_
      exact x_zret hx hb hr hlk hS rfl rfl (hU.1.to fun _ _ => trivial) dX1_isSo_130
    · refine x_iconst (v := 0) hx hb dX1_isSo_50 (by decide) ?_
      refine x_istore_n (lv' := [(3, .int (0 : Int32)), (0, .ref (ad (0))), (1, .int v1), (2, .int v8)]) hx hb dX1_isSo_51 rfl hl (by decide) rfl (fun ls hl => ?_)
      refine X.loop (I := fun (x : Int32) g H locs => GH D ct ad P (uA 26 ad s.heap.size) S7 h H ∧ va_S (uA 26 ad s.heap.size) s.heap H locs ∧ ∃ ls : Array Slot, g = F0 m 52 ls [] ∧ lv_has ls 5 [(0, .ref (ad (0))), (1, .int v1), (2, .int v8), (3, .int x)]) (fun rc11 ih11 => ?_) FUEL _ _ _ _ ⟨hU, hS, _, rfl, lv_sub hl [1, 2, 3, 0] rfl⟩
      rintro v10 _ H locs ⟨hU, hS, ls, rfl, hl⟩
      refine X.eqs (sp2 := s1_isSo_L52 P h ct S7 v8 rc9 rc11 v10) rfl ?_
      unfold s1_isSo_L52
      refine x_iload_n hx hb dX1_isSo_52 rfl (lv_at hl 3 rfl) ?_
      refine x_aload_n hx hb dX1_isSo_53 rfl (lv_at hl 0 rfl) ?_
      refine gX1_68 E hU dX1_isSo_54 (fun r12 => ?_)
      refine X.onR (fun b13 hb_ => ?_)
      subst hb_
      refine kX1_L_size E hU hS hA0 ⟨by decide, by decide⟩ hl.1 (Nat.le_of_ble_eq_true rfl) dX1_isSo_57 ⟨Nat.le_refl _, Nat.le_refl _⟩ (fun o14 H locs hU hS => ?_)
      refine x_icmp_ge (tgt := 115) hx hb dX1_isSo_62 (by decide) (fun hc => ?_) (fun hc => ?_)
      · refine x_aload_n hx hb dX1_isSo_115 rfl (lv_at hl 0 rfl) ?_
        refine gX1_44 E hU dX1_isSo_116 ?_
        refine kX1_3_pass E hU hS hA0 (by decide) ⟨by decide, by decide⟩ hl.1 (Nat.le_of_ble_eq_true rfl) dX1_isSo_119 ⟨Nat.le_refl _, Nat.le_refl _⟩ (fun o15 H locs hU hS => ?_)
        refine x_pop hx hb dX1_isSo_122 rfl ?_
        refine x_iinc (v := (v8 + (1 : Int32))) (lv' := [(2, .int (v8 + (1 : Int32))), (0, .ref (ad (0))), (1, .int v1), (3, .int v10)]) (k := 2) hx hb dX1_isSo_123 hl rfl rfl (by decide) rfl (fun ls hl => ?_)
        refine x_goto (tgt := 45) hx hb dX1_isSo_126 (by decide) ?_
        exact ih9 (o15, (v8 + (1 : Int32))) _ _ _ ⟨hU, hS, _, rfl, lv_sub hl [1, 2, 0] rfl⟩
      · refine x_aload_n hx hb dX1_isSo_65 rfl (lv_at hl 0 rfl) ?_
        refine gX1_68 E hU dX1_isSo_66 (fun r16 => ?_)
        refine x_iload_n hx hb dX1_isSo_69 rfl (lv_at hl 3 rfl) ?_
        refine X.onR (fun b17 hb_ => ?_)
        subst hb_
        refine kX1_L_get E hU hS hA0 ⟨by decide, by decide⟩ hl.1 (Nat.le_of_ble_eq_true rfl) dX1_isSo_70 ⟨Nat.le_refl _, Nat.le_refl _⟩ (fun o18 H locs hU hS => ?_)
        refine X.onR (fun b19 hb_ => ?_)
        subst hb_
        refine fx_castA E hU.2.1 (t := 0) (ty := .int) ⟨rfl, (hK.2 0 _ rfl).2⟩ (hts _ q1742) dX1_isSo_75 ?_
        refine x_astore (lv' := [(4, .ref b19), (0, .ref (ad (0))), (1, .int v1), (2, .int v8), (3, .int v10)]) hx hb dX1_isSo_78 hl (by decide) rfl (fun ls hl => ?_)
        refine x_aload hx hb dX1_isSo_80 (lv_at hl 0 rfl) ?_
        refine x_iconst (v := 1) hx hb dX1_isSo_82 (by decide) ?_
        refine fx_iaload E hU.2.1 dX1_isSo_83 (fun v20 => ?_)
        refine x_iload_n hx hb dX1_isSo_84 rfl (lv_at hl 3 rfl) ?_
        refine x_icmp_ne (tgt := 109) hx hb dX1_isSo_85 (by decide) (fun hc => ?_) (fun hc => ?_)
        · refine x_iinc (v := (v10 + (1 : Int32))) (lv' := [(3, .int (v10 + (1 : Int32))), (4, .ref b19), (0, .ref (ad (0))), (1, .int v1), (2, .int v8)]) (k := 4) hx hb dX1_isSo_109 hl rfl rfl (by decide) rfl (fun ls hl => ?_)
          refine x_goto (tgt := 52) hx hb dX1_isSo_112 (by decide) ?_
          exact ih11 (v10 + (1 : Int32)) _ _ _ ⟨hU, hS, _, rfl, lv_sub hl [2, 3, 4, 0] rfl⟩
        · refine x_aload_n hx hb dX1_isSo_88 rfl (lv_at hl 1 rfl) ?_
          refine gX1_44 E hU dX1_isSo_89 ?_
          refine gX1_158 E hU (by decide) dX1_isSo_92 ?_
          refine x_aload hx hb dX1_isSo_95 (lv_at hl 0 rfl) ?_
          refine x_iconst (v := 0) hx hb dX1_isSo_97 (by decide) ?_
          refine fx_iaload E hU.2.1 dX1_isSo_98 (fun v21 => ?_)
          refine ux_ald (i := lc 1 2) (n := 12) E hU.1 (lc_lt (by decide) (by decide)) (ck_lc (by decide)) dX1_isSo_99 ?_
          refine x_aload hx hb dX1_isSo_100 (lv_at hl 0 rfl) ?_
          refine x_iconst (v := 2) hx hb dX1_isSo_102 (by decide) ?_
          refine fx_iaload E hU.2.1 dX1_isSo_103 (fun v22 => ?_)
          refine x_icmp_eq (tgt := 109) hx hb dX1_isSo_104 (by decide) (fun hc => ?_) (fun hc => ?_)
          · refine x_iinc (v := (v10 + (1 : Int32))) (lv' := [(3, .int (v10 + (1 : Int32))), (4, .ref b19), (0, .ref (ad (0))), (1, .int v1), (2, .int v8)]) (k := 4) hx hb dX1_isSo_109 hl rfl rfl (by decide) rfl (fun ls hl => ?_)
            refine x_goto (tgt := 52) hx hb dX1_isSo_112 (by decide) ?_
            exact ih11 (v10 + (1 : Int32)) _ _ _ ⟨hU, hS, _, rfl, lv_sub hl [2, 3, 4, 0] rfl⟩
          · refine x_iconst (v := 0) hx hb dX1_isSo_107 (by decide) ?_
            exact x_zret hx hb hr hlk hS rfl rfl (hU.1.to fun _ _ => trivial) dX1_isSo_108
  · refine x_iload_n hx hb dX1_isSo_17 rfl (lv_at hl 1 rfl) ?_
    refine x_aload_n hx hb dX1_isSo_18 rfl (lv_at hl 0 rfl) ?_
    refine gX1_68 E hU dX1_isSo_19 (fun r23 => ?_)
    refine x_iload_n hx hb dX1_isSo_22 rfl (lv_at hl 2 rfl) ?_
    refine X.onR (fun b24 hb_ => ?_)
    subst hb_
    refine kX1_L_get E hU hS hA0 ⟨by decide, by decide⟩ hl.1 (Nat.le_of_ble_eq_true rfl) dX1_isSo_23 ⟨Nat.le_refl _, Nat.le_refl _⟩ (fun o25 H locs hU hS => ?_)
    refine X.onR (fun b26 hb_ => ?_)
    subst hb_
    refine fx_castA E hU.2.1 (t := 0) (ty := .int) ⟨rfl, (hK.2 0 _ rfl).2⟩ (hts _ q1742) dX1_isSo_28 ?_
    refine x_iconst (v := 1) hx hb dX1_isSo_31 (by decide) ?_
    refine fx_iaload E hU.2.1 dX1_isSo_32 (fun v27 => ?_)
    refine kX1_max E ⟨by decide, by decide⟩ hl.1 (Nat.le_of_ble_eq_true rfl) dX1_isSo_33 ⟨Nat.le_refl _, Nat.le_refl _⟩ ?_
    refine x_istore_n (lv' := [(1, .int (if v1 < v27 then v27 else v1)), (0, .ref (ad (0))), (2, .int v2)]) hx hb dX1_isSo_36 rfl hl (by decide) rfl (fun ls hl => ?_)
    refine x_iinc (v := (v2 + (1 : Int32))) (lv' := [(2, .int (v2 + (1 : Int32))), (1, .int (if v1 < v27 then v27 else v1)), (0, .ref (ad (0)))]) (k := 2) hx hb dX1_isSo_37 hl rfl rfl (by decide) rfl (fun ls hl => ?_)
    refine x_goto (tgt := 4) hx hb dX1_isSo_40 (by decide) ?_
    exact ih3 ((if v1 < v27 then v27 else v1), (v2 + (1 : Int32))) _ _ _ ⟨hU, hS, _, rfl, lv_sub hl [2, 1, 0] rfl⟩

set_option maxHeartbeats 4000000 in
theorem mH1_gales (l : Launch) (D : va_G) (ct : CT) (ad : Nat → Nat) (P : Nat → Nat → Option Nat) (S : US) (h : AH) (p1 : Int32) (p2 : Int32) (sz : Nat) (o : (Int32 × US)) (ho : s1_gales S ct P h p1 p2 = some o) : Met l yX1_gales (ws_ yX1_gales cX1_gales 8 (some .int)) { frames := 503, cells := 0, slots := 0, locals := 20065 } (mP D clW ct [.ref (ad (0)), .int p1, .int p2] sz (GH D ct ad P (fun _ => True) S h)) (mC (some (.int o.1)) (UW D clW ckH ct 26 ad P (fun _ => True) o.2 0) (uA 26 ad sz)) 0 0 (uA 26 ad sz) := by
  refine X.start (val := fun (o : (Int32 × US)) => some (.int o.1)) (Bt := fun (o : (Int32 × US)) => UW D clW ckH ct 26 ad P (fun _ => True) o.2 0) (A := uA 26 ad sz) ho (by decide) (Nat.le_of_ble_eq_true rfl) (lv := [(0, .ref (ad (0))), (1, .int p1), (2, .int p2)]) rfl ?_
  intro p e s m args below meth c E hr hlk hnm hsz hU ls hl
  subst hsz
  obtain ⟨⟨hx, hb, hml, hown, hts⟩, hK, hJ⟩ := id E
  replace hU := hU.to (B := uA 26 ad s.heap.size) (fun i hi => Or.inl ⟨i, hi, rfl⟩)
  have hA0 : ∀ q, s.heap.size ≤ q → (uA 26 ad s.heap.size) q := fun q h => Or.inr h
  have hS : va_S (uA 26 ad s.heap.size) s.heap s.heap [] := va_S.rf
  unfold s1_gales
  refine x_iload_n hx hb dX1_gales_0 rfl (lv_at hl 1 rfl) ?_
  refine x_iconst (v := 1) hx hb dX1_gales_1 (by decide) ?_
  refine x_iconst (v := 5) hx hb dX1_gales_2 (by decide) ?_
  refine kX1_1_in E hS hA0 ⟨by decide, by decide⟩ hl.1 (Nat.le_of_ble_eq_true rfl) dX1_gales_3 ⟨Nat.le_refl _, Nat.le_refl _⟩ (fun o1 H locs hz_ hk_ hS => ?_)
  replace hU := hU.kept hz_ hk_
  refine X.join2 (fun (x : Int32) g H locs => GH D ct ad P (uA 26 ad s.heap.size) S h H ∧ va_S (uA 26 ad s.heap.size) s.heap H locs ∧ ∃ ls : Array Slot, g = F0 m 24 ls [.int x] ∧ lv_has ls 8 [(0, .ref (ad (0))), (1, .int p1), (2, .int p2)]) ?_ (fun j3 hj3 => ?_)
  · rintro y2 _ H locs ⟨hU, hS, ls, rfl, hl⟩
    refine X.eqs (sp2 := s1_gales_J24 p1 p2 S P h ct y2) rfl ?_
    unfold s1_gales_J24
    refine kX1_1_right E hS hA0 ⟨by decide, by decide⟩ hl.1 (Nat.le_of_ble_eq_true rfl) dX1_gales_24 ⟨Nat.le_refl _, Nat.le_refl _⟩ (fun o4 H locs hz_ hk_ hS => ?_)
    replace hU := hU.kept hz_ hk_
    refine x_iconst (v := 0) hx hb dX1_gales_27 (by decide) ?_
    refine x_istore_n (lv' := [(3, .int (0 : Int32)), (0, .ref (ad (0))), (1, .int p1), (2, .int p2)]) hx hb dX1_gales_28 rfl hl (by decide) rfl (fun ls hl => ?_)
    refine x_iconst (v := 0) hx hb dX1_gales_29 (by decide) ?_
    refine x_istore (lv' := [(4, .int (0 : Int32)), (3, .int (0 : Int32)), (0, .ref (ad (0))), (1, .int p1), (2, .int p2)]) hx hb dX1_gales_30 hl (by decide) rfl (fun ls hl => ?_)
    refine X.loop (I := fun (x : (US × Int32 × Int32)) g H locs => GH D ct ad P (uA 26 ad s.heap.size) x.1 h H ∧ va_S (uA 26 ad s.heap.size) s.heap H locs ∧ ∃ ls : Array Slot, g = F0 m 32 ls [] ∧ lv_has ls 8 [(0, .ref (ad (0))), (1, .int p1), (2, .int p2), (3, .int x.2.1), (4, .int x.2.2)]) (fun rc8 ih8 => ?_) FUEL _ _ _ _ ⟨hU, hS, _, rfl, lv_sub hl [2, 3, 4, 1, 0] rfl⟩
    rintro ⟨S5, v6, v7⟩ _ H locs ⟨hU, hS, ls, rfl, hl⟩
    have hU : GH D ct ad P (uA 26 ad s.heap.size) S5 h H := hU
    have hl : lv_has ls 8 [(0, .ref (ad (0))), (1, .int p1), (2, .int p2), (3, .int v6), (4, .int v7)] := hl
    refine X.eqs (sp2 := s1_gales_L32 p1 p2 P h ct rc8 S5 v6 v7) rfl ?_
    unfold s1_gales_L32
    refine x_iload hx hb dX1_gales_32 (lv_at hl 4 rfl) ?_
    refine x_iconst (v := 1) hx hb dX1_gales_34 (by decide) ?_
    refine x_iload_n hx hb dX1_gales_35 rfl (lv_at hl 1 rfl) ?_
    refine x_ishl hx hb dX1_gales_36 ?_
    refine x_icmp_ge (tgt := 186) hx hb dX1_gales_37 (by decide) (fun hc => ?_) (fun hc => ?_)
    · refine x_iload_n hx hb dX1_gales_186 rfl (lv_at hl 3 rfl) ?_
      exact x_iret hx hb hr hlk hS rfl (hU.1.to fun _ _ => trivial) dX1_gales_187
    · refine x_iconst (v := 1) hx hb dX1_gales_40 (by decide) ?_
      refine x_istore (lv' := [(5, .int (1 : Int32)), (0, .ref (ad (0))), (1, .int p1), (2, .int p2), (3, .int v6), (4, .int v7)]) hx hb dX1_gales_41 hl (by decide) rfl (fun ls hl => ?_)
      refine x_aload_n hx hb dX1_gales_43 rfl (lv_at hl 1 rfl) ?_
      refine gX1_44 E hU dX1_gales_44 ?_
      refine x_aload_n hx hb dX1_gales_47 rfl (lv_at hl 1 rfl) ?_
      refine gX1_40 E hU dX1_gales_48 ?_
      refine kX1_3_be E hU hS hA0 (by decide) (by decide) ⟨by decide, by decide⟩ hl.1 (Nat.le_of_ble_eq_true rfl) dX1_gales_51 ⟨Nat.le_refl _, Nat.le_refl _⟩ (fun o9 H locs hU hS => ?_)
      refine x_pop hx hb dX1_gales_54 rfl ?_
      refine x_iconst (v := 0) hx hb dX1_gales_55 (by decide) ?_
      refine x_istore (lv' := [(6, .int (0 : Int32)), (5, .int (1 : Int32)), (0, .ref (ad (0))), (1, .int p1), (2, .int p2), (3, .int v6), (4, .int v7)]) hx hb dX1_gales_56 hl (by decide) rfl (fun ls hl => ?_)
      refine X.loop (I := fun (x : (US × Int32 × Int32)) g H locs => GH D ct ad P (uA 26 ad s.heap.size) x.1 h H ∧ va_S (uA 26 ad s.heap.size) s.heap H locs ∧ ∃ ls : Array Slot, g = F0 m 58 ls [] ∧ lv_has ls 8 [(0, .ref (ad (0))), (1, .int p1), (2, .int p2), (3, .int v6), (4, .int v7), (5, .int x.2.1), (6, .int x.2.2)]) (fun rc13 ih13 => ?_) FUEL _ _ _ _ ⟨hU, hS, _, rfl, lv_sub hl [2, 3, 4, 5, 6, 1, 0] rfl⟩
      rintro ⟨S10, v11, v12⟩ _ H locs ⟨hU, hS, ls, rfl, hl⟩
      have hU : GH D ct ad P (uA 26 ad s.heap.size) S10 h H := hU
      have hl : lv_has ls 8 [(0, .ref (ad (0))), (1, .int p1), (2, .int p2), (3, .int v6), (4, .int v7), (5, .int v11), (6, .int v12)] := hl
      refine X.eqs (sp2 := s1_gales_L58 p1 p2 P h ct v6 v7 rc8 rc13 S10 v11 v12) rfl ?_
      unfold s1_gales_L58
      refine x_iload hx hb dX1_gales_58 (lv_at hl 6 rfl) ?_
      refine x_iload_n hx hb dX1_gales_60 rfl (lv_at hl 1 rfl) ?_
      refine x_icmp_ge (tgt := 155) hx hb dX1_gales_61 (by decide) (fun hc => ?_) (fun hc => ?_)
      · refine x_aload_n hx hb dX1_gales_155 rfl (lv_at hl 0 rfl) ?_
        refine gX1_44 E hU dX1_gales_156 ?_
        refine kX1_3_open E hU hS hA0 (by decide) ⟨by decide, by decide⟩ hl.1 (Nat.le_of_ble_eq_true rfl) dX1_gales_159 ⟨Nat.le_refl _, Nat.le_refl _⟩ (fun o14 H locs hU hS => ?_)
        refine x_aload_n hx hb dX1_gales_162 rfl (lv_at hl 0 rfl) ?_
        refine gX1_40 E hU dX1_gales_163 ?_
        refine kX1_3_open E hU hS hA0 (by decide) ⟨by decide, by decide⟩ hl.1 (Nat.le_of_ble_eq_true rfl) dX1_gales_166 ⟨Nat.le_refl _, Nat.le_refl _⟩ (fun o15 H locs hU hS => ?_)
        refine x_iconst (v := -1) hx hb dX1_gales_169 (by decide) ?_
        refine x_ixor hx hb dX1_gales_170 ?_
        refine x_iand hx hb dX1_gales_171 ?_
        refine x_if_eq (tgt := 180) hx hb dX1_gales_172 (by decide) (fun hc => ?_) (fun hc => ?_)
        · refine x_iinc (v := (v7 + (1 : Int32))) (lv' := [(4, .int (v7 + (1 : Int32))), (0, .ref (ad (0))), (1, .int p1), (2, .int p2), (3, .int v6), (5, .int v11), (6, .int v12)]) (k := 4) hx hb dX1_gales_180 hl rfl rfl (by decide) rfl (fun ls hl => ?_)
          refine x_goto (tgt := 32) hx hb dX1_gales_183 (by decide) ?_
          exact ih8 (S10, v6, (v7 + (1 : Int32))) _ _ _ ⟨hU, hS, _, rfl, lv_sub hl [1, 2, 3, 4, 0] rfl⟩
        · refine x_iload_n hx hb dX1_gales_175 rfl (lv_at hl 3 rfl) ?_
          refine x_iload hx hb dX1_gales_176 (lv_at hl 5 rfl) ?_
          refine x_iadd hx hb dX1_gales_178 ?_
          refine x_istore_n (lv' := [(3, .int (v6 + v11)), (0, .ref (ad (0))), (1, .int p1), (2, .int p2), (4, .int v7), (5, .int v11), (6, .int v12)]) hx hb dX1_gales_179 rfl hl (by decide) rfl (fun ls hl => ?_)
          refine x_iinc (v := (v7 + (1 : Int32))) (lv' := [(4, .int (v7 + (1 : Int32))), (3, .int (v6 + v11)), (0, .ref (ad (0))), (1, .int p1), (2, .int p2), (5, .int v11), (6, .int v12)]) (k := 4) hx hb dX1_gales_180 hl rfl rfl (by decide) rfl (fun ls hl => ?_)
          refine x_goto (tgt := 32) hx hb dX1_gales_183 (by decide) ?_
          exact ih8 (S10, (v6 + v11), (v7 + (1 : Int32))) _ _ _ ⟨hU, hS, _, rfl, lv_sub hl [2, 3, 4, 1, 0] rfl⟩
      · refine x_iload hx hb dX1_gales_64 (lv_at hl 5 rfl) ?_
        refine x_iload hx hb dX1_gales_66 (lv_at hl 4 rfl) ?_
        refine x_iload hx hb dX1_gales_68 (lv_at hl 6 rfl) ?_
        refine kX1_1_isOf E hS hA0 ⟨by decide, by decide⟩ hl.1 (Nat.le_of_ble_eq_true rfl) dX1_gales_70 ⟨Nat.le_refl _, Nat.le_refl _⟩ (fun o16 H locs hz_ hk_ hS => ?_)
        replace hU := hU.kept hz_ hk_
        refine X.join2 (fun (x : Int32) g H locs => GH D ct ad P (uA 26 ad s.heap.size) S10 h H ∧ va_S (uA 26 ad s.heap.size) s.heap H locs ∧ ∃ ls : Array Slot, g = F0 m 84 ls [.int x, .int v11] ∧ lv_has ls 8 [(0, .ref (ad (0))), (1, .int p1), (2, .int p2), (3, .int v6), (4, .int v7), (6, .int v12)]) ?_ (fun j18 hj18 => ?_)
        · rintro y17 _ H locs ⟨hU, hS, ls, rfl, hl⟩
          refine X.eqs (sp2 := s1_gales_J84 P h ct v7 S10 v11 v12 rc13 y17) rfl ?_
          unfold s1_gales_J84
          refine x_imul hx hb dX1_gales_84 ?_
          refine x_istore (lv' := [(5, .int (v11 * y17)), (0, .ref (ad (0))), (1, .int p1), (2, .int p2), (3, .int v6), (4, .int v7), (6, .int v12)]) hx hb dX1_gales_85 hl (by decide) rfl (fun ls hl => ?_)
          refine x_iconst (v := 0) hx hb dX1_gales_87 (by decide) ?_
          refine x_istore (lv' := [(7, .int (0 : Int32)), (5, .int (v11 * y17)), (0, .ref (ad (0))), (1, .int p1), (2, .int p2), (3, .int v6), (4, .int v7), (6, .int v12)]) hx hb dX1_gales_88 hl (by decide) rfl (fun ls hl => ?_)
          refine X.loop (I := fun (x : (US × Int32)) g H locs => GH D ct ad P (uA 26 ad s.heap.size) x.1 h H ∧ va_S (uA 26 ad s.heap.size) s.heap H locs ∧ ∃ ls : Array Slot, g = F0 m 90 ls [] ∧ lv_has ls 8 [(0, .ref (ad (0))), (1, .int p1), (2, .int p2), (3, .int v6), (4, .int v7), (5, .int (v11 * y17)), (6, .int v12), (7, .int x.2)]) (fun rc21 ih21 => ?_) FUEL _ _ _ _ ⟨hU, hS, _, rfl, lv_sub hl [2, 3, 4, 5, 6, 1, 7, 0] rfl⟩
          rintro ⟨S19, v20⟩ _ H locs ⟨hU, hS, ls, rfl, hl⟩
          have hU : GH D ct ad P (uA 26 ad s.heap.size) S19 h H := hU
          have hl : lv_has ls 8 [(0, .ref (ad (0))), (1, .int p1), (2, .int p2), (3, .int v6), (4, .int v7), (5, .int (v11 * y17)), (6, .int v12), (7, .int v20)] := hl
          refine X.eqs (sp2 := s1_gales_L90 P h ct v7 v11 v12 rc13 y17 rc21 S19 v20) rfl ?_
          unfold s1_gales_L90
          refine x_iload hx hb dX1_gales_90 (lv_at hl 7 rfl) ?_
          refine x_aload_n hx hb dX1_gales_92 rfl (lv_at hl 0 rfl) ?_
          refine gX1_31 E hU dX1_gales_93 ?_
          refine gX1_115 E hU dX1_gales_96 ?_
          refine x_icmp_ge (tgt := 141) hx hb dX1_gales_99 (by decide) (fun hc => ?_) (fun hc => ?_)
          · refine x_aload_n hx hb dX1_gales_141 rfl (lv_at hl 0 rfl) ?_
            refine gX1_44 E hU dX1_gales_142 ?_
            refine kX1_3_pass E hU hS hA0 (by decide) ⟨by decide, by decide⟩ hl.1 (Nat.le_of_ble_eq_true rfl) dX1_gales_145 ⟨Nat.le_refl _, Nat.le_refl _⟩ (fun o22 H locs hU hS => ?_)
            refine x_pop hx hb dX1_gales_148 rfl ?_
            refine x_iinc (v := (v12 + (1 : Int32))) (lv' := [(6, .int (v12 + (1 : Int32))), (0, .ref (ad (0))), (1, .int p1), (2, .int p2), (3, .int v6), (4, .int v7), (5, .int (v11 * y17)), (7, .int v20)]) (k := 6) hx hb dX1_gales_149 hl rfl rfl (by decide) rfl (fun ls hl => ?_)
            refine x_goto (tgt := 58) hx hb dX1_gales_152 (by decide) ?_
            exact ih13 (o22, (v11 * y17), (v12 + (1 : Int32))) _ _ _ ⟨hU, hS, _, rfl, lv_sub hl [1, 2, 3, 4, 5, 6, 0] rfl⟩
          · refine x_iload hx hb dX1_gales_102 (lv_at hl 4 rfl) ?_
            refine x_iload hx hb dX1_gales_104 (lv_at hl 6 rfl) ?_
            refine kX1_1_isOf E hS hA0 ⟨by decide, by decide⟩ hl.1 (Nat.le_of_ble_eq_true rfl) dX1_gales_106 ⟨Nat.le_refl _, Nat.le_refl _⟩ (fun o23 H locs hz_ hk_ hS => ?_)
            replace hU := hU.kept hz_ hk_
            refine x_if_eq (tgt := 141) hx hb dX1_gales_109 (by decide) (fun hc => ?_) (fun hc => ?_)
            · refine x_aload_n hx hb dX1_gales_141 rfl (lv_at hl 0 rfl) ?_
              refine gX1_44 E hU dX1_gales_142 ?_
              refine kX1_3_pass E hU hS hA0 (by decide) ⟨by decide, by decide⟩ hl.1 (Nat.le_of_ble_eq_true rfl) dX1_gales_145 ⟨Nat.le_refl _, Nat.le_refl _⟩ (fun o24 H locs hU hS => ?_)
              refine x_pop hx hb dX1_gales_148 rfl ?_
              refine x_iinc (v := (v12 + (1 : Int32))) (lv' := [(6, .int (v12 + (1 : Int32))), (0, .ref (ad (0))), (1, .int p1), (2, .int p2), (3, .int v6), (4, .int v7), (5, .int (v11 * y17)), (7, .int v20)]) (k := 6) hx hb dX1_gales_149 hl rfl rfl (by decide) rfl (fun ls hl => ?_)
              refine x_goto (tgt := 58) hx hb dX1_gales_152 (by decide) ?_
              exact ih13 (o24, (v11 * y17), (v12 + (1 : Int32))) _ _ _ ⟨hU, hS, _, rfl, lv_sub hl [1, 2, 3, 4, 5, 6, 0] rfl⟩
            · refine x_aload_n hx hb dX1_gales_112 rfl (lv_at hl 0 rfl) ?_
              refine gX1_44 E hU dX1_gales_113 ?_
              refine x_iload hx hb dX1_gales_116 (lv_at hl 7 rfl) ?_
              refine kX1_3_isOpen E hU hS hA0 (by decide) ⟨by decide, by decide⟩ hl.1 (Nat.le_of_ble_eq_true rfl) dX1_gales_118 ⟨Nat.le_refl _, Nat.le_refl _⟩ (fun o25 H locs hU hS => ?_)
              refine x_if_ne (tgt := 135) hx hb dX1_gales_121 (by decide) (fun hc => ?_) (fun hc => ?_)
              · refine x_iinc (v := (v20 + (1 : Int32))) (lv' := [(7, .int (v20 + (1 : Int32))), (0, .ref (ad (0))), (1, .int p1), (2, .int p2), (3, .int v6), (4, .int v7), (5, .int (v11 * y17)), (6, .int v12)]) (k := 7) hx hb dX1_gales_135 hl rfl rfl (by decide) rfl (fun ls hl => ?_)
                refine x_goto (tgt := 90) hx hb dX1_gales_138 (by decide) ?_
                exact ih21 (S19, (v20 + (1 : Int32))) _ _ _ ⟨hU, hS, _, rfl, lv_sub hl [1, 2, 3, 4, 5, 6, 7, 0] rfl⟩
              · refine x_aload_n hx hb dX1_gales_124 rfl (lv_at hl 0 rfl) ?_
                refine gX1_44 E hU dX1_gales_125 ?_
                refine x_iload hx hb dX1_gales_128 (lv_at hl 7 rfl) ?_
                refine x_bipush (v := 15) hx hb dX1_gales_130 (by decide) ?_
                refine kX1_3_pull E hU hS hA0 (by decide) ⟨by decide, by decide⟩ hl.1 (Nat.le_of_ble_eq_true rfl) dX1_gales_132 ⟨Nat.le_refl _, Nat.le_refl _⟩ (fun o26 H locs hU hS => ?_)
                refine x_iinc (v := (v20 + (1 : Int32))) (lv' := [(7, .int (v20 + (1 : Int32))), (0, .ref (ad (0))), (1, .int p1), (2, .int p2), (3, .int v6), (4, .int v7), (5, .int (v11 * y17)), (6, .int v12)]) (k := 7) hx hb dX1_gales_135 hl rfl rfl (by decide) rfl (fun ls hl => ?_)
                refine x_goto (tgt := 90) hx hb dX1_gales_138 (by decide) ?_
                exact ih21 (o26, (v20 + (1 : Int32))) _ _ _ ⟨hU, hS, _, rfl, lv_sub hl [1, 2, 3, 4, 5, 6, 7, 0] rfl⟩
        · refine x_if_eq (tgt := 80) hx hb dX1_gales_73 (by decide) (fun hc => ?_) (fun hc => ?_)
          · refine x_bipush (v := 10) hx hb dX1_gales_80 (by decide) ?_
            refine x_iload_n hx hb dX1_gales_82 rfl (lv_at hl 2 rfl) ?_
            refine x_isub hx hb dX1_gales_83 ?_
            exact hj18 ((10 : Int32) - p2) _ _ _ ⟨hU, hS, _, rfl, lv_sub hl [0, 1, 2, 3, 4, 6] rfl⟩
          · refine x_iload_n hx hb dX1_gales_76 rfl (lv_at hl 2 rfl) ?_
            refine x_goto (tgt := 84) hx hb dX1_gales_77 (by decide) ?_
            exact hj18 p2 _ _ _ ⟨hU, hS, _, rfl, lv_sub hl [0, 1, 2, 3, 4, 6] rfl⟩
  · refine x_if_eq (tgt := 23) hx hb dX1_gales_6 (by decide) (fun hc => ?_) (fun hc => ?_)
    · refine x_iconst (v := 0) hx hb dX1_gales_23 (by decide) ?_
      exact hj3 (0 : Int32) _ _ _ ⟨hU, hS, _, rfl, lv_sub hl [0, 1, 2] rfl⟩
    · refine x_iload_n hx hb dX1_gales_9 rfl (lv_at hl 2 rfl) ?_
      refine x_iconst (v := 0) hx hb dX1_gales_10 (by decide) ?_
      refine x_bipush (v := 10) hx hb dX1_gales_11 (by decide) ?_
      refine kX1_1_in E hS hA0 ⟨by decide, by decide⟩ hl.1 (Nat.le_of_ble_eq_true rfl) dX1_gales_13 ⟨Nat.le_refl _, Nat.le_refl _⟩ (fun o27 H locs hz_ hk_ hS => ?_)
      replace hU := hU.kept hz_ hk_
      refine x_if_eq (tgt := 23) hx hb dX1_gales_16 (by decide) (fun hc => ?_) (fun hc => ?_)
      · refine x_iconst (v := 0) hx hb dX1_gales_23 (by decide) ?_
        exact hj3 (0 : Int32) _ _ _ ⟨hU, hS, _, rfl, lv_sub hl [0, 1, 2] rfl⟩
      · refine x_iconst (v := 1) hx hb dX1_gales_19 (by decide) ?_
        refine x_goto (tgt := 24) hx hb dX1_gales_20 (by decide) ?_
        exact hj3 (1 : Int32) _ _ _ ⟨hU, hS, _, rfl, lv_sub hl [0, 1, 2] rfl⟩

set_option maxHeartbeats 4000000 in
theorem mH1_moves (l : Launch) (D : va_G) (ct : CT) (ad : Nat → Nat) (P : Nat → Nat → Option Nat) (S : US) (h : AH) (p1 : Int32) (p2 : Int32) (sz : Nat) (o : US) (ho : s1_moves S P h p1 p2 = some o) : Met l yX1_moves (ws_ yX1_moves cX1_moves 3 none) { frames := 5, cells := 0, slots := 0, locals := 125 } (mP D clW ct [.ref (ad (0)), .int p1, .int p2] sz (GH D ct ad P (fun _ => True) S h)) (mC (none) (UW D clW ckH ct 26 ad P (fun _ => True) o 0) (uA 26 ad sz)) 0 0 (uA 26 ad sz) := by
  refine X.start (val := fun (o : US) => none) (Bt := fun (o : US) => UW D clW ckH ct 26 ad P (fun _ => True) o 0) (A := uA 26 ad sz) ho (by decide) (Nat.le_of_ble_eq_true rfl) (lv := [(0, .ref (ad (0))), (1, .int p1), (2, .int p2)]) rfl ?_
  intro p e s m args below meth c E hr hlk hnm hsz hU ls hl
  subst hsz
  obtain ⟨⟨hx, hb, hml, hown, hts⟩, hK, hJ⟩ := id E
  replace hU := hU.to (B := uA 26 ad s.heap.size) (fun i hi => Or.inl ⟨i, hi, rfl⟩)
  have hA0 : ∀ q, s.heap.size ≤ q → (uA 26 ad s.heap.size) q := fun q h => Or.inr h
  have hS : va_S (uA 26 ad s.heap.size) s.heap s.heap [] := va_S.rf
  unfold s1_moves
  refine x_iload_n hx hb dX1_moves_0 rfl (lv_at hl 2 rfl) ?_
  refine x_if_eq (tgt := 12) hx hb dX1_moves_1 (by decide) (fun hc => ?_) (fun hc => ?_)
  · refine x_aload_n hx hb dX1_moves_12 rfl (lv_at hl 0 rfl) ?_
    refine gX1_44 E hU dX1_moves_13 ?_
    refine x_iload_n hx hb dX1_moves_16 rfl (lv_at hl 1 rfl) ?_
    refine kX1_3_mend E hU hS hA0 (by decide) ⟨by decide, by decide⟩ hl.1 (Nat.le_of_ble_eq_true rfl) dX1_moves_17 ⟨Nat.le_refl _, Nat.le_refl _⟩ (fun o1 H locs hU hS => ?_)
    exact x_vret hx hb hr hlk hS rfl (hU.1.to fun _ _ => trivial) dX1_moves_20
  · refine x_aload_n hx hb dX1_moves_4 rfl (lv_at hl 0 rfl) ?_
    refine gX1_44 E hU dX1_moves_5 ?_
    refine x_iload_n hx hb dX1_moves_8 rfl (lv_at hl 1 rfl) ?_
    refine kX1_3_goOn E hU hS hA0 (by decide) ⟨by decide, by decide⟩ hl.1 (Nat.le_of_ble_eq_true rfl) dX1_moves_9 ⟨Nat.le_refl _, Nat.le_refl _⟩ (fun o2 H locs hU hS => ?_)
    refine x_aload_n hx hb dX1_moves_12 rfl (lv_at hl 0 rfl) ?_
    refine gX1_44 E hU dX1_moves_13 ?_
    refine x_iload_n hx hb dX1_moves_16 rfl (lv_at hl 1 rfl) ?_
    refine kX1_3_mend E hU hS hA0 (by decide) ⟨by decide, by decide⟩ hl.1 (Nat.le_of_ble_eq_true rfl) dX1_moves_17 ⟨Nat.le_refl _, Nat.le_refl _⟩ (fun o3 H locs hU hS => ?_)
    exact x_vret hx hb hr hlk hS rfl (hU.1.to fun _ _ => trivial) dX1_moves_20

set_option maxHeartbeats 4000000 in
theorem mH1_draw (l : Launch) (D : va_G) (ct : CT) (ad : Nat → Nat) (P : Nat → Nat → Option Nat) (S : US) (h : AH) (p1 : Int32) (sz : Nat) (o : (Int32 × US)) (ho : s1_draw S p1 = some o) : Met l yX1_draw (ws_ yX1_draw cX1_draw 2 (some .int)) { frames := 1, cells := 0, slots := 0, locals := 40 } (mP D clW ct [.ref (ad (0)), .int p1] sz (GH D ct ad P (fun _ => True) S h)) (mC (some (.int o.1)) (UW D clW ckH ct 26 ad P (fun _ => True) o.2 0) (uA 26 ad sz)) 0 0 (uA 26 ad sz) := by
  refine X.start (val := fun (o : (Int32 × US)) => some (.int o.1)) (Bt := fun (o : (Int32 × US)) => UW D clW ckH ct 26 ad P (fun _ => True) o.2 0) (A := uA 26 ad sz) ho (by decide) (Nat.le_of_ble_eq_true rfl) (lv := [(0, .ref (ad (0))), (1, .int p1)]) rfl ?_
  intro p e s m args below meth c E hr hlk hnm hsz hU ls hl
  subst hsz
  obtain ⟨⟨hx, hb, hml, hown, hts⟩, hK, hJ⟩ := id E
  replace hU := hU.to (B := uA 26 ad s.heap.size) (fun i hi => Or.inl ⟨i, hi, rfl⟩)
  have hA0 : ∀ q, s.heap.size ≤ q → (uA 26 ad s.heap.size) q := fun q h => Or.inr h
  have hS : va_S (uA 26 ad s.heap.size) s.heap s.heap [] := va_S.rf
  unfold s1_draw
  refine x_aload_n hx hb dX1_draw_0 rfl (lv_at hl 0 rfl) ?_
  refine x_aload_n hx hb dX1_draw_1 rfl (lv_at hl 0 rfl) ?_
  refine gX1_326 E hU dX1_draw_2 ?_
  refine x_ldcw hx hb hown (hts _ q1794) dX1_draw_5 ?_
  refine x_imul hx hb dX1_draw_8 ?_
  refine x_sipush (v := 12345) hx hb dX1_draw_9 (by decide) ?_
  refine x_iadd hx hb dX1_draw_12 ?_
  refine pX1_326 E hU hS dX1_draw_13 (fun S1 H locs hU hS _ => ?_)
  refine x_aload_n hx hb dX1_draw_16 rfl (lv_at hl 0 rfl) ?_
  refine gX1_326 E hU dX1_draw_17 ?_
  refine x_bipush (v := 16) hx hb dX1_draw_20 (by decide) ?_
  refine x_ishr hx hb dX1_draw_22 ?_
  refine x_sipush (v := 32767) hx hb dX1_draw_23 (by decide) ?_
  refine x_iand hx hb dX1_draw_26 ?_
  refine x_iload_n hx hb dX1_draw_27 rfl (lv_at hl 1 rfl) ?_
  refine x_iremG hx hb dX1_draw_28 ?_
  exact x_iret hx hb hr hlk hS rfl (hU.1.to fun _ _ => trivial) dX1_draw_29
section HK
variable {ρ : Type} {p : Program} {l : Launch} {e : Env} {R : Room} {s : State} {m : MethodId} {args : Array Value} {below : List Frame} {meth : Method} {c : Code} {H : Heap} {locs : List Loc} {cells slots : Nat} {Qf : ρ → State → Prop}
variable {cc : ByteArray} {pc nL L M q0 : Nat} {ls : Array Slot} {rest : List Value}
variable {D : va_G} {ct : CT} {ck : Nat → UC} {N : Nat} {ad : Nat → Nat} {P : Nat → Nat → Option Nat} {A A0 : Nat → Prop} {S : US} {w : Int64} {h : AH} {H0 : Heap}
theorem kX1_1_draw {p1 : Int32} (E : ME p m c cc nL s args RX1 D clW ct) (hG : GH D ct ad P A S h H) (hS : va_S A H0 H locs) (hA0 : ∀ q, H0.size ≤ q → A q) (hR : 1 + 1 ≤ R.frames ∧ 8 + (2 + 11) + 40 ≤ R.locals) (hsize : ls.size = nL) (hW : (rest.map fun v => v.category).sum ≤ 8) (hdg : decode cc pc = .ok (.invokevirtual 330, 3)) (hf : cells ≤ R.cells ∧ slots ≤ R.slots) {kp : (Int32 × US) → Option ρ} (kk : ∀ (o : (Int32 × US)) (H1 : Heap) (locs1 : List Loc), GH D ct ad P A o.2 h H1 → va_S A H0 H1 locs1 → X p l e R s m args below meth c H1 locs1 cells slots Qf (kp o) (F0 m (pc + 3) ls (.int o.1 :: rest))) : X p l e R s m args below meth c H locs cells slots Qf (callK (s1_draw S p1) kp) (F0 m pc ls (.int p1 :: .ref (ad (0)) :: rest)) := gc_mod (val' := fun (o : (Int32 × US)) => some (.int o.1)) (len := 3) (So := fun (o : (Int32 × US)) => o.2) hG hS hA0 (fun o ho => rnV (As := [.int p1]) E (hG.to fun _ _ => trivial) (recvU (i := 0) E.2.1 hG.1 (by decide) rfl rfl) (mH1_draw l D ct ad P S h p1 _ o ho) (cwV 1 E.1.2.2.2.2 (lw_V q1790 q1792 qs48 q113 q1793) rfl rfl rfl (by decide +kernel) hR) rfl hsize rfl hW hdg hf) kk
end HK

set_option maxHeartbeats 4000000 in
theorem mH1_befalls (l : Launch) (D : va_G) (ct : CT) (ad : Nat → Nat) (P : Nat → Nat → Option Nat) (S : US) (h : AH) (sz : Nat) (o : US) (ho : s1_befalls S P h = some o) : Met l yX1_befalls (ws_ yX1_befalls cX1_befalls 4 none) { frames := 4, cells := 0, slots := 0, locals := 107 } (mP D clW ct [.ref (ad (0))] sz (GH D ct ad P (fun _ => True) S h)) (mC (none) (UW D clW ckH ct 26 ad P (fun _ => True) o 0) (uA 26 ad sz)) 0 0 (uA 26 ad sz) := by
  refine X.start (val := fun (o : US) => none) (Bt := fun (o : US) => UW D clW ckH ct 26 ad P (fun _ => True) o 0) (A := uA 26 ad sz) ho (by decide) (Nat.le_of_ble_eq_true rfl) (lv := [(0, .ref (ad (0)))]) rfl ?_
  intro p e s m args below meth c E hr hlk hnm hsz hU ls hl
  subst hsz
  obtain ⟨⟨hx, hb, hml, hown, hts⟩, hK, hJ⟩ := id E
  replace hU := hU.to (B := uA 26 ad s.heap.size) (fun i hi => Or.inl ⟨i, hi, rfl⟩)
  have hA0 : ∀ q, s.heap.size ≤ q → (uA 26 ad s.heap.size) q := fun q h => Or.inr h
  have hS : va_S (uA 26 ad s.heap.size) s.heap s.heap [] := va_S.rf
  unfold s1_befalls
  refine x_aload_n hx hb dX1_befalls_0 rfl (lv_at hl 0 rfl) ?_
  refine x_bipush (v := 6) hx hb dX1_befalls_1 (by decide) ?_
  refine kX1_1_draw E hU hS hA0 ⟨by decide, by decide⟩ hl.1 (Nat.le_of_ble_eq_true rfl) dX1_befalls_3 ⟨Nat.le_refl _, Nat.le_refl _⟩ (fun o1 H locs hU hS => ?_)
  refine x_istore_n (lv' := [(1, .int o1.1), (0, .ref (ad (0)))]) hx hb dX1_befalls_6 rfl hl (by decide) rfl (fun ls hl => ?_)
  refine x_iload_n hx hb dX1_befalls_7 rfl (lv_at hl 0 rfl) ?_
  refine X.join2 (fun (x : US) g H locs => GH D ct ad P (uA 26 ad s.heap.size) x h H ∧ va_S (uA 26 ad s.heap.size) s.heap H locs ∧ ∃ ls : Array Slot, g = F0 m 52 ls [] ∧ lv_has ls 4 [(0, .ref (ad (0))), (1, .int o1.1)]) ?_ (fun j3 hj3 => ?_)
  · rintro S2 _ H locs ⟨hU, hS, ls, rfl, hl⟩
    refine X.eqs (sp2 := s1_befalls_J52 P h o1 S2) rfl ?_
    unfold s1_befalls_J52
    refine x_iload_n hx hb dX1_befalls_52 rfl (lv_at hl 1 rfl) ?_
    refine x_iconst (v := 1) hx hb dX1_befalls_53 (by decide) ?_
    refine X.join2 (fun (x : US) g H locs => GH D ct ad P (uA 26 ad s.heap.size) x h H ∧ va_S (uA 26 ad s.heap.size) s.heap H locs ∧ ∃ ls : Array Slot, g = F0 m 77 ls [] ∧ lv_has ls 4 [(0, .ref (ad (0))), (1, .int o1.1)]) ?_ (fun j5 hj5 => ?_)
    · rintro S4 _ H locs ⟨hU, hS, ls, rfl, hl⟩
      refine X.eqs (sp2 := s1_befalls_J77 P h o1 S4) rfl ?_
      unfold s1_befalls_J77
      refine x_iload_n hx hb dX1_befalls_77 rfl (lv_at hl 1 rfl) ?_
      refine x_iconst (v := 2) hx hb dX1_befalls_78 (by decide) ?_
      refine x_icmp_ne (tgt := 129) hx hb dX1_befalls_79 (by decide) (fun hc => ?_) (fun hc => ?_)
      · exact x_vret hx hb hr hlk hS rfl (hU.1.to fun _ _ => trivial) dX1_befalls_129
      · refine x_aload_n hx hb dX1_befalls_82 rfl (lv_at hl 0 rfl) ?_
        refine gX1_31 E hU dX1_befalls_83 ?_
        refine kX1_2_women E hU hS hA0 ⟨by decide, by decide⟩ hl.1 (Nat.le_of_ble_eq_true rfl) dX1_befalls_86 ⟨Nat.le_refl _, Nat.le_refl _⟩ (fun o6 H locs hU hS => ?_)
        refine x_if_le (tgt := 129) hx hb dX1_befalls_89 (by decide) (fun hc => ?_) (fun hc => ?_)
        · exact x_vret hx hb hr hlk hS rfl (hU.1.to fun _ _ => trivial) dX1_befalls_129
        · refine x_aload_n hx hb dX1_befalls_92 rfl (lv_at hl 0 rfl) ?_
          refine x_aload_n hx hb dX1_befalls_93 rfl (lv_at hl 0 rfl) ?_
          refine gX1_31 E hU dX1_befalls_94 ?_
          refine kX1_2_women E hU hS hA0 ⟨by decide, by decide⟩ hl.1 (Nat.le_of_ble_eq_true rfl) dX1_befalls_97 ⟨Nat.le_refl _, Nat.le_refl _⟩ (fun o7 H locs hU hS => ?_)
          refine kX1_1_draw E hU hS hA0 ⟨by decide, by decide⟩ hl.1 (Nat.le_of_ble_eq_true rfl) dX1_befalls_100 ⟨Nat.le_refl _, Nat.le_refl _⟩ (fun o8 H locs hU hS => ?_)
          refine x_istore_n (lv' := [(2, .int o8.1), (0, .ref (ad (0))), (1, .int o1.1)]) hx hb dX1_befalls_103 rfl hl (by decide) rfl (fun ls hl => ?_)
          refine x_aload_n hx hb dX1_befalls_104 rfl (lv_at hl 1 rfl) ?_
          refine gX1_44 E hU dX1_befalls_105 ?_
          refine gX1_105 E hU (by decide) dX1_befalls_108 ?_
          refine x_iload_n hx hb dX1_befalls_111 rfl (lv_at hl 0 rfl) ?_
          refine x_bipush (v := 99) hx hb dX1_befalls_112 (by decide) ?_
          refine x_aload_n hx hb dX1_befalls_114 rfl (lv_at hl 1 rfl) ?_
          refine gX1_44 E hU dX1_befalls_115 ?_
          refine gX1_105 E hU (by decide) dX1_befalls_118 ?_
          refine x_iload_n hx hb dX1_befalls_121 rfl (lv_at hl 0 rfl) ?_
          refine ux_ald (i := lc 1 5) (n := 6) E hU.1 (lc_lt (by decide) (by decide)) (ck_lc (by decide)) dX1_befalls_122 ?_
          refine x_iconst (v := 5) hx hb dX1_befalls_123 (by decide) ?_
          refine x_iadd hx hb dX1_befalls_124 ?_
          refine kX1_min E ⟨by decide, by decide⟩ hl.1 (Nat.le_of_ble_eq_true rfl) dX1_befalls_125 ⟨Nat.le_refl _, Nat.le_refl _⟩ ?_
          refine gx_ast (i := lc 1 5) (n := 6) E hU hS (lc_lt (by decide) (by decide)) (ck_lc (by decide)) dX1_befalls_128 (fun S9 H locs hU hS _ => ?_)
          exact x_vret hx hb hr hlk hS rfl (hU.1.to fun _ _ => trivial) dX1_befalls_129
    · refine x_icmp_ne (tgt := 77) hx hb dX1_befalls_54 (by decide) (fun hc => ?_) (fun hc => ?_)
      · exact hj5 S2 _ _ _ ⟨hU, hS, _, rfl, lv_sub hl [0, 1] rfl⟩
      · refine x_aload_n hx hb dX1_befalls_57 rfl (lv_at hl 0 rfl) ?_
        refine gX1_44 E hU dX1_befalls_58 ?_
        refine x_aload_n hx hb dX1_befalls_61 rfl (lv_at hl 0 rfl) ?_
        refine x_aload_n hx hb dX1_befalls_62 rfl (lv_at hl 0 rfl) ?_
        refine gX1_31 E hU dX1_befalls_63 ?_
        refine gX1_115 E hU dX1_befalls_66 ?_
        refine kX1_1_draw E hU hS hA0 ⟨by decide, by decide⟩ hl.1 (Nat.le_of_ble_eq_true rfl) dX1_befalls_69 ⟨Nat.le_refl _, Nat.le_refl _⟩ (fun o10 H locs hU hS => ?_)
        refine x_bipush (v := 9) hx hb dX1_befalls_72 (by decide) ?_
        refine kX1_3_pull E hU hS hA0 (by decide) ⟨by decide, by decide⟩ hl.1 (Nat.le_of_ble_eq_true rfl) dX1_befalls_74 ⟨Nat.le_refl _, Nat.le_refl _⟩ (fun o11 H locs hU hS => ?_)
        exact hj5 o11 _ _ _ ⟨hU, hS, _, rfl, lv_sub hl [0, 1] rfl⟩
  · refine x_if_ne (tgt := 52) hx hb dX1_befalls_8 (by decide) (fun hc => ?_) (fun hc => ?_)
    · exact hj3 o1.2 _ _ _ ⟨hU, hS, _, rfl, lv_sub hl [1, 0] rfl⟩
    · refine x_aload_n hx hb dX1_befalls_11 rfl (lv_at hl 1 rfl) ?_
      refine x_aload_n hx hb dX1_befalls_12 rfl (lv_at hl 1 rfl) ?_
      refine gX1_31 E hU dX1_befalls_13 ?_
      refine gX1_115 E hU dX1_befalls_16 ?_
      refine kX1_1_draw E hU hS hA0 ⟨by decide, by decide⟩ hl.1 (Nat.le_of_ble_eq_true rfl) dX1_befalls_19 ⟨Nat.le_refl _, Nat.le_refl _⟩ (fun o12 H locs hU hS => ?_)
      refine x_istore_n (lv' := [(2, .int o12.1), (1, .int o1.1), (0, .ref (ad (0)))]) hx hb dX1_befalls_22 rfl hl (by decide) rfl (fun ls hl => ?_)
      refine x_aload_n hx hb dX1_befalls_23 rfl (lv_at hl 2 rfl) ?_
      refine x_bipush (v := 20) hx hb dX1_befalls_24 (by decide) ?_
      refine kX1_1_draw E hU hS hA0 ⟨by decide, by decide⟩ hl.1 (Nat.le_of_ble_eq_true rfl) dX1_befalls_26 ⟨Nat.le_refl _, Nat.le_refl _⟩ (fun o13 H locs hU hS => ?_)
      refine x_iconst (v := 1) hx hb dX1_befalls_29 (by decide) ?_
      refine x_iadd hx hb dX1_befalls_30 ?_
      refine x_istore_n (lv' := [(3, .int (o13.1 + (1 : Int32))), (2, .int o12.1), (1, .int o1.1), (0, .ref (ad (0)))]) hx hb dX1_befalls_31 rfl hl (by decide) rfl (fun ls hl => ?_)
      refine x_aload_n hx hb dX1_befalls_32 rfl (lv_at hl 3 rfl) ?_
      refine gX1_44 E hU dX1_befalls_33 ?_
      refine x_iload_n hx hb dX1_befalls_36 rfl (lv_at hl 1 rfl) ?_
      refine kX1_3_isOpen E hU hS hA0 (by decide) ⟨by decide, by decide⟩ hl.1 (Nat.le_of_ble_eq_true rfl) dX1_befalls_37 ⟨Nat.le_refl _, Nat.le_refl _⟩ (fun o14 H locs hU hS => ?_)
      refine x_if_ne (tgt := 52) hx hb dX1_befalls_40 (by decide) (fun hc => ?_) (fun hc => ?_)
      · exact hj3 o13.2 _ _ _ ⟨hU, hS, _, rfl, lv_sub hl [3, 2] rfl⟩
      · refine x_aload_n hx hb dX1_befalls_43 rfl (lv_at hl 3 rfl) ?_
        refine gX1_44 E hU dX1_befalls_44 ?_
        refine x_iload_n hx hb dX1_befalls_47 rfl (lv_at hl 1 rfl) ?_
        refine x_iload_n hx hb dX1_befalls_48 rfl (lv_at hl 0 rfl) ?_
        refine kX1_3_loosen E hU hS hA0 (by decide) ⟨by decide, by decide⟩ hl.1 (Nat.le_of_ble_eq_true rfl) dX1_befalls_49 ⟨Nat.le_refl _, Nat.le_refl _⟩ (fun o15 H locs hU hS => ?_)
        exact hj3 o15 _ _ _ ⟨hU, hS, _, rfl, lv_sub hl [3, 2] rfl⟩
section HK
variable {ρ : Type} {p : Program} {l : Launch} {e : Env} {R : Room} {s : State} {m : MethodId} {args : Array Value} {below : List Frame} {meth : Method} {c : Code} {H : Heap} {locs : List Loc} {cells slots : Nat} {Qf : ρ → State → Prop}
variable {cc : ByteArray} {pc nL L M q0 : Nat} {ls : Array Slot} {rest : List Value}
variable {D : va_G} {ct : CT} {ck : Nat → UC} {N : Nat} {ad : Nat → Nat} {P : Nat → Nat → Option Nat} {A A0 : Nat → Prop} {S : US} {w : Int64} {h : AH} {H0 : Heap}
theorem kX1_1_befalls (E : ME p m c cc nL s args RX1 D clW ct) (hG : GH D ct ad P A S h H) (hS : va_S A H0 H locs) (hA0 : ∀ q, H0.size ≤ q → A q) (hR : 4 + 1 ≤ R.frames ∧ 8 + (4 + 11) + 107 ≤ R.locals) (hsize : ls.size = nL) (hW : (rest.map fun v => v.category).sum ≤ 8) (hdg : decode cc pc = .ok (.invokevirtual 333, 3)) (hf : cells ≤ R.cells ∧ slots ≤ R.slots) {kp : US → Option ρ} (kk : ∀ (o : US) (H1 : Heap) (locs1 : List Loc), GH D ct ad P A o h H1 → va_S A H0 H1 locs1 → X p l e R s m args below meth c H1 locs1 cells slots Qf (kp o) (F0 m (pc + 3) ls (rest))) : X p l e R s m args below meth c H locs cells slots Qf (callK (s1_befalls S P h) kp) (F0 m pc ls (.ref (ad (0)) :: rest)) := gc_mod (val' := fun (o : US) => none) (len := 3) (So := fun (o : US) => o) hG hS hA0 (fun o ho => rnV (As := []) E (hG.to fun _ _ => trivial) (recvU (i := 0) E.2.1 hG.1 (by decide) rfl rfl) (mH1_befalls l D ct ad P S h _ o ho) (cwV 0 E.1.2.2.2.2 (lw_V q1786 q1788 qs47 q113 q1789) rfl rfl rfl (by decide +kernel) hR) rfl hsize rfl hW hdg hf) kk
end HK

set_option maxHeartbeats 4000000 in
theorem mH1_years (l : Launch) (D : va_G) (ct : CT) (ad : Nat → Nat) (P : Nat → Nat → Option Nat) (S : US) (h : AH) (p1 : Int32) (p2 : Int32) (p3 : Int32) (sz : Nat) (o : (Int32 × US)) (ho : s1_years S ct P h p1 p2 p3 = some o) : Met l yX1_years (ws_ yX1_years cX1_years 5 (some .int)) { frames := 503, cells := 0, slots := 0, locals := 20065 } (mP D clW ct [.ref (ad (0)), .int p1, .int p2, .int p3] sz (GH D ct ad P (fun _ => True) S h)) (mC (some (.int o.1)) (UW D clW ckH ct 26 ad P (fun _ => True) o.2 0) (uA 26 ad sz)) 0 0 (uA 26 ad sz) := by
  refine X.start (val := fun (o : (Int32 × US)) => some (.int o.1)) (Bt := fun (o : (Int32 × US)) => UW D clW ckH ct 26 ad P (fun _ => True) o.2 0) (A := uA 26 ad sz) ho (by decide) (Nat.le_of_ble_eq_true rfl) (lv := [(0, .ref (ad (0))), (1, .int p1), (2, .int p2), (3, .int p3)]) rfl ?_
  intro p e s m args below meth c E hr hlk hnm hsz hU ls hl
  subst hsz
  obtain ⟨⟨hx, hb, hml, hown, hts⟩, hK, hJ⟩ := id E
  replace hU := hU.to (B := uA 26 ad s.heap.size) (fun i hi => Or.inl ⟨i, hi, rfl⟩)
  have hA0 : ∀ q, s.heap.size ≤ q → (uA 26 ad s.heap.size) q := fun q h => Or.inr h
  have hS : va_S (uA 26 ad s.heap.size) s.heap s.heap [] := va_S.rf
  unfold s1_years
  refine x_iload_n hx hb dX1_years_0 rfl (lv_at hl 3 rfl) ?_
  refine x_iconst (v := 2) hx hb dX1_years_1 (by decide) ?_
  refine kX1_1_oneOf E hS hA0 ⟨by decide, by decide⟩ hl.1 (Nat.le_of_ble_eq_true rfl) dX1_years_2 ⟨Nat.le_refl _, Nat.le_refl _⟩ (fun o1 H locs hz_ hk_ hS => ?_)
  replace hU := hU.kept hz_ hk_
  refine x_iload_n hx hb dX1_years_5 rfl (lv_at hl 2 rfl) ?_
  refine x_iconst (v := 0) hx hb dX1_years_6 (by decide) ?_
  refine x_bipush (v := 60) hx hb dX1_years_7 (by decide) ?_
  refine kX1_1_in E hS hA0 ⟨by decide, by decide⟩ hl.1 (Nat.le_of_ble_eq_true rfl) dX1_years_9 ⟨Nat.le_refl _, Nat.le_refl _⟩ (fun o2 H locs hz_ hk_ hS => ?_)
  replace hU := hU.kept hz_ hk_
  refine kX1_1_right E hS hA0 ⟨by decide, by decide⟩ hl.1 (Nat.le_of_ble_eq_true rfl) dX1_years_12 ⟨Nat.le_refl _, Nat.le_refl _⟩ (fun o3 H locs hz_ hk_ hS => ?_)
  replace hU := hU.kept hz_ hk_
  refine x_aload_n hx hb dX1_years_15 rfl (lv_at hl 0 rfl) ?_
  refine x_iload_n hx hb dX1_years_16 rfl (lv_at hl 1 rfl) ?_
  refine pX1_326 E hU hS dX1_years_17 (fun S4 H locs hU hS _ => ?_)
  refine x_aload_n hx hb dX1_years_20 rfl (lv_at hl 0 rfl) ?_
  refine gX1_44 E hU dX1_years_21 ?_
  refine x_aload_n hx hb dX1_years_24 rfl (lv_at hl 0 rfl) ?_
  refine gX1_40 E hU dX1_years_25 ?_
  refine kX1_3_be E hU hS hA0 (by decide) (by decide) ⟨by decide, by decide⟩ hl.1 (Nat.le_of_ble_eq_true rfl) dX1_years_28 ⟨Nat.le_refl _, Nat.le_refl _⟩ (fun o5 H locs hU hS => ?_)
  refine x_pop hx hb dX1_years_31 rfl ?_
  refine x_iconst (v := 0) hx hb dX1_years_32 (by decide) ?_
  refine x_istore (lv' := [(4, .int (0 : Int32)), (0, .ref (ad (0))), (1, .int p1), (2, .int p2), (3, .int p3)]) hx hb dX1_years_33 hl (by decide) rfl (fun ls hl => ?_)
  refine X.loop (I := fun (x : (US × Int32)) g H locs => GH D ct ad P (uA 26 ad s.heap.size) x.1 h H ∧ va_S (uA 26 ad s.heap.size) s.heap H locs ∧ ∃ ls : Array Slot, g = F0 m 35 ls [] ∧ lv_has ls 5 [(0, .ref (ad (0))), (2, .int p2), (3, .int p3), (4, .int x.2)]) (fun rc8 ih8 => ?_) FUEL _ _ _ _ ⟨hU, hS, _, rfl, lv_sub hl [1, 3, 4, 0] rfl⟩
  rintro ⟨S6, v7⟩ _ H locs ⟨hU, hS, ls, rfl, hl⟩
  have hU : GH D ct ad P (uA 26 ad s.heap.size) S6 h H := hU
  have hl : lv_has ls 5 [(0, .ref (ad (0))), (2, .int p2), (3, .int p3), (4, .int v7)] := hl
  refine X.eqs (sp2 := s1_years_L35 p2 p3 P h ct rc8 S6 v7) rfl ?_
  unfold s1_years_L35
  refine x_iload hx hb dX1_years_35 (lv_at hl 3 rfl) ?_
  refine x_iload_n hx hb dX1_years_37 rfl (lv_at hl 1 rfl) ?_
  refine x_icmp_ge (tgt := 59) hx hb dX1_years_38 (by decide) (fun hc => ?_) (fun hc => ?_)
  · refine x_iload_n hx hb dX1_years_59 rfl (lv_at hl 2 rfl) ?_
    refine x_if_ne (tgt := 73) hx hb dX1_years_60 (by decide) (fun hc => ?_) (fun hc => ?_)
    · refine x_iload_n hx hb dX1_years_73 rfl (lv_at hl 2 rfl) ?_
      refine x_iconst (v := 1) hx hb dX1_years_74 (by decide) ?_
      refine x_icmp_ne (tgt := 88) hx hb dX1_years_75 (by decide) (fun hc => ?_) (fun hc => ?_)
      · refine x_aload_n hx hb dX1_years_88 rfl (lv_at hl 0 rfl) ?_
        refine gX1_44 E hU dX1_years_89 ?_
        refine kX1_3_allThread E hU hS hA0 (by decide) ⟨by decide, by decide⟩ hl.1 (Nat.le_of_ble_eq_true rfl) dX1_years_92 ⟨Nat.le_refl _, Nat.le_refl _⟩ (fun o9 H locs hU hS => ?_)
        exact x_iret hx hb hr hlk hS rfl (hU.1.to fun _ _ => trivial) dX1_years_95
      · refine x_aload_n hx hb dX1_years_78 rfl (lv_at hl 0 rfl) ?_
        refine gX1_44 E hU dX1_years_79 ?_
        refine kX1_3_allSeam E hU hS hA0 (by decide) ⟨by decide, by decide⟩ hl.1 (Nat.le_of_ble_eq_true rfl) dX1_years_82 ⟨Nat.le_refl _, Nat.le_refl _⟩ (fun o10 H locs hU hS => ?_)
        refine x_goto (tgt := 95) hx hb dX1_years_85 (by decide) ?_
        exact x_iret hx hb hr hlk hS rfl (hU.1.to fun _ _ => trivial) dX1_years_95
    · refine x_aload_n hx hb dX1_years_63 rfl (lv_at hl 0 rfl) ?_
      refine gX1_44 E hU dX1_years_64 ?_
      refine kX1_3_openMany E hU hS hA0 (by decide) ⟨by decide, by decide⟩ hl.1 (Nat.le_of_ble_eq_true rfl) dX1_years_67 ⟨Nat.le_refl _, Nat.le_refl _⟩ (fun o11 H locs hU hS => ?_)
      refine x_goto (tgt := 95) hx hb dX1_years_70 (by decide) ?_
      exact x_iret hx hb hr hlk hS rfl (hU.1.to fun _ _ => trivial) dX1_years_95
  · refine x_aload_n hx hb dX1_years_41 rfl (lv_at hl 0 rfl) ?_
    refine kX1_1_befalls E hU hS hA0 ⟨by decide, by decide⟩ hl.1 (Nat.le_of_ble_eq_true rfl) dX1_years_42 ⟨Nat.le_refl _, Nat.le_refl _⟩ (fun o12 H locs hU hS => ?_)
    refine x_aload_n hx hb dX1_years_45 rfl (lv_at hl 0 rfl) ?_
    refine gX1_44 E hU dX1_years_46 ?_
    refine kX1_3_pass E hU hS hA0 (by decide) ⟨by decide, by decide⟩ hl.1 (Nat.le_of_ble_eq_true rfl) dX1_years_49 ⟨Nat.le_refl _, Nat.le_refl _⟩ (fun o13 H locs hU hS => ?_)
    refine x_pop hx hb dX1_years_52 rfl ?_
    refine x_iinc (v := (v7 + (1 : Int32))) (lv' := [(4, .int (v7 + (1 : Int32))), (0, .ref (ad (0))), (2, .int p2), (3, .int p3)]) (k := 3) hx hb dX1_years_53 hl rfl rfl (by decide) rfl (fun ls hl => ?_)
    refine x_goto (tgt := 35) hx hb dX1_years_56 (by decide) ?_
    exact ih8 (o13, (v7 + (1 : Int32))) _ _ _ ⟨hU, hS, _, rfl, lv_sub hl [1, 2, 3, 0] rfl⟩

set_option maxHeartbeats 4000000 in
theorem mH1_nearest (l : Launch) (D : va_G) (ct : CT) (ad : Nat → Nat) (P : Nat → Nat → Option Nat) (S : US) (h : AH) (p1 : Int32) (sz : Nat) (o : Int32) (ho : s1_nearest S P h p1 = some o) : Met l yX1_nearest (ws_ yX1_nearest cX1_nearest 4 (some .int)) { frames := 3, cells := 0, slots := 0, locals := 85 } (mP D clW ct [.ref (ad (0)), .int p1] sz (GH D ct ad P (fun _ => True) S h)) (mC (some (.int o)) (fun _ => True) (nA sz)) 0 0 (nA sz) := by
  refine X.start (val := fun (o : Int32) => some (.int o)) (Bt := fun _ _ => True) (A := nA sz) ho (by decide) (Nat.le_of_ble_eq_true rfl) (lv := [(0, .ref (ad (0))), (1, .int p1)]) rfl ?_
  intro p e s m args below meth c E hr hlk hnm hsz hU ls hl
  subst hsz
  obtain ⟨⟨hx, hb, hml, hown, hts⟩, hK, hJ⟩ := id E
  have hA0 : ∀ q, s.heap.size ≤ q → (nA s.heap.size) q := fun q h => h
  have hS : va_S (nA s.heap.size) s.heap s.heap [] := va_S.rf
  unfold s1_nearest
  refine x_aload_n hx hb dX1_nearest_0 rfl (lv_at hl 0 rfl) ?_
  refine x_iload_n hx hb dX1_nearest_1 rfl (lv_at hl 1 rfl) ?_
  refine kX1_1_aStretch E hU hS hA0 ⟨by decide, by decide⟩ hl.1 (Nat.le_of_ble_eq_true rfl) dX1_nearest_2 ⟨Nat.le_refl _, Nat.le_refl _⟩ (fun o1 H locs hU hS => ?_)
  refine x_iconst (v := -1) hx hb dX1_nearest_5 (by decide) ?_
  refine x_istore_n (lv' := [(2, .int (-1 : Int32)), (0, .ref (ad (0))), (1, .int p1)]) hx hb dX1_nearest_6 rfl hl (by decide) rfl (fun ls hl => ?_)
  refine x_iconst (v := 0) hx hb dX1_nearest_7 (by decide) ?_
  refine x_istore_n (lv' := [(3, .int (0 : Int32)), (2, .int (-1 : Int32)), (0, .ref (ad (0))), (1, .int p1)]) hx hb dX1_nearest_8 rfl hl (by decide) rfl (fun ls hl => ?_)
  refine X.loop (I := fun (x : (Int32 × Int32)) g H locs => GH D ct ad P (fun _ => True) S h H ∧ va_S (nA s.heap.size) s.heap H locs ∧ ∃ ls : Array Slot, g = F0 m 9 ls [] ∧ lv_has ls 4 [(0, .ref (ad (0))), (1, .int p1), (2, .int x.1), (3, .int x.2)]) (fun rc4 ih4 => ?_) FUEL _ _ _ _ ⟨hU, hS, _, rfl, lv_sub hl [2, 3, 1, 0] rfl⟩
  rintro ⟨v2, v3⟩ _ H locs ⟨hU, hS, ls, rfl, hl⟩
  have hU : GH D ct ad P (fun _ => True) S h H := hU
  have hl : lv_has ls 4 [(0, .ref (ad (0))), (1, .int p1), (2, .int v2), (3, .int v3)] := hl
  refine X.eqs (sp2 := s1_nearest_L9 p1 S P h rc4 v2 v3) rfl ?_
  unfold s1_nearest_L9
  refine x_iload_n hx hb dX1_nearest_9 rfl (lv_at hl 3 rfl) ?_
  refine x_aload_n hx hb dX1_nearest_10 rfl (lv_at hl 0 rfl) ?_
  refine gX1_31 E hU dX1_nearest_11 ?_
  refine kX1_2_women E hU hS hA0 ⟨by decide, by decide⟩ hl.1 (Nat.le_of_ble_eq_true rfl) dX1_nearest_14 ⟨Nat.le_refl _, Nat.le_refl _⟩ (fun o5 H locs hU hS => ?_)
  refine x_icmp_ge (tgt := 48) hx hb dX1_nearest_17 (by decide) (fun hc => ?_) (fun hc => ?_)
  · refine x_iload_n hx hb dX1_nearest_48 rfl (lv_at hl 2 rfl) ?_
    exact x_iret hx hb hr hlk hS rfl trivial dX1_nearest_49
  · refine x_iload_n hx hb dX1_nearest_20 rfl (lv_at hl 2 rfl) ?_
    refine x_iconst (v := -1) hx hb dX1_nearest_21 (by decide) ?_
    refine x_icmp_eq (tgt := 40) hx hb dX1_nearest_22 (by decide) (fun hc => ?_) (fun hc => ?_)
    · refine x_iload_n hx hb dX1_nearest_40 rfl (lv_at hl 3 rfl) ?_
      refine x_istore_n (lv' := [(2, .int v3), (0, .ref (ad (0))), (1, .int p1), (3, .int v3)]) hx hb dX1_nearest_41 rfl hl (by decide) rfl (fun ls hl => ?_)
      refine x_iinc (v := (v3 + (1 : Int32))) (lv' := [(3, .int (v3 + (1 : Int32))), (2, .int v3), (0, .ref (ad (0))), (1, .int p1)]) (k := 3) hx hb dX1_nearest_42 hl rfl rfl (by decide) rfl (fun ls hl => ?_)
      refine x_goto (tgt := 9) hx hb dX1_nearest_45 (by decide) ?_
      exact ih4 (v3, (v3 + (1 : Int32))) _ _ _ ⟨hU, hS, _, rfl, lv_sub hl [2, 3, 1, 0] rfl⟩
    · refine x_aload_n hx hb dX1_nearest_25 rfl (lv_at hl 0 rfl) ?_
      refine x_iload_n hx hb dX1_nearest_26 rfl (lv_at hl 3 rfl) ?_
      refine x_iload_n hx hb dX1_nearest_27 rfl (lv_at hl 1 rfl) ?_
      refine kX1_1_steps E hU hS hA0 ⟨by decide, by decide⟩ hl.1 (Nat.le_of_ble_eq_true rfl) dX1_nearest_28 ⟨Nat.le_refl _, Nat.le_refl _⟩ (fun o6 H locs hU hS => ?_)
      refine x_aload_n hx hb dX1_nearest_31 rfl (lv_at hl 0 rfl) ?_
      refine x_iload_n hx hb dX1_nearest_32 rfl (lv_at hl 2 rfl) ?_
      refine x_iload_n hx hb dX1_nearest_33 rfl (lv_at hl 1 rfl) ?_
      refine kX1_1_steps E hU hS hA0 ⟨by decide, by decide⟩ hl.1 (Nat.le_of_ble_eq_true rfl) dX1_nearest_34 ⟨Nat.le_refl _, Nat.le_refl _⟩ (fun o7 H locs hU hS => ?_)
      refine x_icmp_ge (tgt := 42) hx hb dX1_nearest_37 (by decide) (fun hc => ?_) (fun hc => ?_)
      · refine x_iinc (v := (v3 + (1 : Int32))) (lv' := [(3, .int (v3 + (1 : Int32))), (0, .ref (ad (0))), (1, .int p1), (2, .int v2)]) (k := 3) hx hb dX1_nearest_42 hl rfl rfl (by decide) rfl (fun ls hl => ?_)
        refine x_goto (tgt := 9) hx hb dX1_nearest_45 (by decide) ?_
        exact ih4 (v2, (v3 + (1 : Int32))) _ _ _ ⟨hU, hS, _, rfl, lv_sub hl [1, 2, 3, 0] rfl⟩
      · refine x_iload_n hx hb dX1_nearest_40 rfl (lv_at hl 3 rfl) ?_
        refine x_istore_n (lv' := [(2, .int v3), (0, .ref (ad (0))), (1, .int p1), (3, .int v3)]) hx hb dX1_nearest_41 rfl hl (by decide) rfl (fun ls hl => ?_)
        refine x_iinc (v := (v3 + (1 : Int32))) (lv' := [(3, .int (v3 + (1 : Int32))), (2, .int v3), (0, .ref (ad (0))), (1, .int p1)]) (k := 3) hx hb dX1_nearest_42 hl rfl rfl (by decide) rfl (fun ls hl => ?_)
        refine x_goto (tgt := 9) hx hb dX1_nearest_45 (by decide) ?_
        exact ih4 (v3, (v3 + (1 : Int32))) _ _ _ ⟨hU, hS, _, rfl, lv_sub hl [2, 3, 1, 0] rfl⟩

set_option maxHeartbeats 4000000 in
theorem mH1_far (l : Launch) (D : va_G) (ct : CT) (ad : Nat → Nat) (P : Nat → Nat → Option Nat) (S : US) (h : AH) (p1 : Int32) (p2 : Int32) (sz : Nat) (o : Int32) (ho : s1_far S p1 p2 = some o) : Met l yX1_far (ws_ yX1_far cX1_far 3 (some .int)) { frames := 3, cells := 0, slots := 0, locals := 83 } (mP D clW ct [.ref (ad (0)), .int p1, .int p2] sz (GH D ct ad P (fun _ => True) S h)) (mC (some (.int o)) (fun _ => True) (nA sz)) 0 0 (nA sz) := by
  refine X.start (val := fun (o : Int32) => some (.int o)) (Bt := fun _ _ => True) (A := nA sz) ho (by decide) (Nat.le_of_ble_eq_true rfl) (lv := [(0, .ref (ad (0))), (1, .int p1), (2, .int p2)]) rfl ?_
  intro p e s m args below meth c E hr hlk hnm hsz hU ls hl
  subst hsz
  obtain ⟨⟨hx, hb, hml, hown, hts⟩, hK, hJ⟩ := id E
  have hA0 : ∀ q, s.heap.size ≤ q → (nA s.heap.size) q := fun q h => h
  have hS : va_S (nA s.heap.size) s.heap s.heap [] := va_S.rf
  unfold s1_far
  refine x_aload_n hx hb dX1_far_0 rfl (lv_at hl 0 rfl) ?_
  refine x_iload_n hx hb dX1_far_1 rfl (lv_at hl 1 rfl) ?_
  refine kX1_1_aStretch E hU hS hA0 ⟨by decide, by decide⟩ hl.1 (Nat.le_of_ble_eq_true rfl) dX1_far_2 ⟨Nat.le_refl _, Nat.le_refl _⟩ (fun o1 H locs hU hS => ?_)
  refine x_aload_n hx hb dX1_far_5 rfl (lv_at hl 0 rfl) ?_
  refine x_iload_n hx hb dX1_far_6 rfl (lv_at hl 2 rfl) ?_
  refine kX1_1_aStretch E hU hS hA0 ⟨by decide, by decide⟩ hl.1 (Nat.le_of_ble_eq_true rfl) dX1_far_7 ⟨Nat.le_refl _, Nat.le_refl _⟩ (fun o2 H locs hU hS => ?_)
  refine x_aload_n hx hb dX1_far_10 rfl (lv_at hl 0 rfl) ?_
  refine gX1_31 E hU dX1_far_11 ?_
  refine x_iload_n hx hb dX1_far_14 rfl (lv_at hl 1 rfl) ?_
  refine x_iload_n hx hb dX1_far_15 rfl (lv_at hl 2 rfl) ?_
  refine kX1_2_far E hU hS hA0 ⟨by decide, by decide⟩ hl.1 (Nat.le_of_ble_eq_true rfl) dX1_far_16 ⟨Nat.le_refl _, Nat.le_refl _⟩ (fun o3 H locs hU hS => ?_)
  exact x_iret hx hb hr hlk hS rfl trivial dX1_far_19

set_option maxHeartbeats 4000000 in
theorem mH1_worst (l : Launch) (D : va_G) (ct : CT) (ad : Nat → Nat) (P : Nat → Nat → Option Nat) (S : US) (h : AH) (p1 : Int32) (sz : Nat) (o : (Int32 × US)) (ho : s1_worst S ct P h p1 = some o) : Met l yX1_worst (ws_ yX1_worst cX1_worst 6 (some .int)) { frames := 504, cells := 0, slots := 0, locals := 20087 } (mP D clW ct [.ref (ad (0)), .int p1] sz (GH D ct ad P (fun _ => True) S h)) (mC (some (.int o.1)) (UW D clW ckH ct 26 ad P (fun _ => True) o.2 0) (uA 26 ad sz)) 0 0 (uA 26 ad sz) := by
  refine X.start (val := fun (o : (Int32 × US)) => some (.int o.1)) (Bt := fun (o : (Int32 × US)) => UW D clW ckH ct 26 ad P (fun _ => True) o.2 0) (A := uA 26 ad sz) ho (by decide) (Nat.le_of_ble_eq_true rfl) (lv := [(0, .ref (ad (0))), (1, .int p1)]) rfl ?_
  intro p e s m args below meth c E hr hlk hnm hsz hU ls hl
  subst hsz
  obtain ⟨⟨hx, hb, hml, hown, hts⟩, hK, hJ⟩ := id E
  replace hU := hU.to (B := uA 26 ad s.heap.size) (fun i hi => Or.inl ⟨i, hi, rfl⟩)
  have hA0 : ∀ q, s.heap.size ≤ q → (uA 26 ad s.heap.size) q := fun q h => Or.inr h
  have hS : va_S (uA 26 ad s.heap.size) s.heap s.heap [] := va_S.rf
  unfold s1_worst
  refine x_iload_n hx hb dX1_worst_0 rfl (lv_at hl 1 rfl) ?_
  refine x_iconst (v := 1) hx hb dX1_worst_1 (by decide) ?_
  refine x_bipush (v := 50) hx hb dX1_worst_2 (by decide) ?_
  refine kX1_1_in E hS hA0 ⟨by decide, by decide⟩ hl.1 (Nat.le_of_ble_eq_true rfl) dX1_worst_4 ⟨Nat.le_refl _, Nat.le_refl _⟩ (fun o1 H locs hz_ hk_ hS => ?_)
  replace hU := hU.kept hz_ hk_
  refine kX1_1_right E hS hA0 ⟨by decide, by decide⟩ hl.1 (Nat.le_of_ble_eq_true rfl) dX1_worst_7 ⟨Nat.le_refl _, Nat.le_refl _⟩ (fun o2 H locs hz_ hk_ hS => ?_)
  replace hU := hU.kept hz_ hk_
  refine x_iconst (v := -1) hx hb dX1_worst_10 (by decide) ?_
  refine x_istore_n (lv' := [(2, .int (-1 : Int32)), (0, .ref (ad (0))), (1, .int p1)]) hx hb dX1_worst_11 rfl hl (by decide) rfl (fun ls hl => ?_)
  refine x_iconst (v := -1) hx hb dX1_worst_12 (by decide) ?_
  refine x_istore_n (lv' := [(3, .int (-1 : Int32)), (2, .int (-1 : Int32)), (0, .ref (ad (0))), (1, .int p1)]) hx hb dX1_worst_13 rfl hl (by decide) rfl (fun ls hl => ?_)
  refine x_iconst (v := 0) hx hb dX1_worst_14 (by decide) ?_
  refine x_istore (lv' := [(4, .int (0 : Int32)), (3, .int (-1 : Int32)), (2, .int (-1 : Int32)), (0, .ref (ad (0))), (1, .int p1)]) hx hb dX1_worst_15 hl (by decide) rfl (fun ls hl => ?_)
  refine X.loop (I := fun (x : (US × Int32 × Int32 × Int32)) g H locs => GH D ct ad P (uA 26 ad s.heap.size) x.1 h H ∧ va_S (uA 26 ad s.heap.size) s.heap H locs ∧ ∃ ls : Array Slot, g = F0 m 17 ls [] ∧ lv_has ls 6 [(0, .ref (ad (0))), (1, .int p1), (2, .int x.2.1), (3, .int x.2.2.1), (4, .int x.2.2.2)]) (fun rc7 ih7 => ?_) FUEL _ _ _ _ ⟨hU, hS, _, rfl, lv_sub hl [3, 4, 2, 1, 0] rfl⟩
  rintro ⟨S3, v4, v5, v6⟩ _ H locs ⟨hU, hS, ls, rfl, hl⟩
  have hU : GH D ct ad P (uA 26 ad s.heap.size) S3 h H := hU
  have hl : lv_has ls 6 [(0, .ref (ad (0))), (1, .int p1), (2, .int v4), (3, .int v5), (4, .int v6)] := hl
  refine X.eqs (sp2 := s1_worst_L17 p1 P h ct rc7 S3 v4 v5 v6) rfl ?_
  unfold s1_worst_L17
  refine x_iload hx hb dX1_worst_17 (lv_at hl 4 rfl) ?_
  refine x_aload_n hx hb dX1_worst_19 rfl (lv_at hl 0 rfl) ?_
  refine gX1_31 E hU dX1_worst_20 ?_
  refine gX1_115 E hU dX1_worst_23 ?_
  refine x_icmp_ge (tgt := 96) hx hb dX1_worst_26 (by decide) (fun hc => ?_) (fun hc => ?_)
  · refine x_iload_n hx hb dX1_worst_96 rfl (lv_at hl 2 rfl) ?_
    exact x_iret hx hb hr hlk hS rfl (hU.1.to fun _ _ => trivial) dX1_worst_97
  · refine x_aload_n hx hb dX1_worst_29 rfl (lv_at hl 0 rfl) ?_
    refine gX1_40 E hU dX1_worst_30 ?_
    refine x_iload hx hb dX1_worst_33 (lv_at hl 4 rfl) ?_
    refine kX1_3_isOpen E hU hS hA0 (by decide) ⟨by decide, by decide⟩ hl.1 (Nat.le_of_ble_eq_true rfl) dX1_worst_35 ⟨Nat.le_refl _, Nat.le_refl _⟩ (fun o8 H locs hU hS => ?_)
    refine x_if_eq (tgt := 44) hx hb dX1_worst_38 (by decide) (fun hc => ?_) (fun hc => ?_)
    · refine x_aload_n hx hb dX1_worst_44 rfl (lv_at hl 0 rfl) ?_
      refine gX1_44 E hU dX1_worst_45 ?_
      refine x_aload_n hx hb dX1_worst_48 rfl (lv_at hl 0 rfl) ?_
      refine gX1_40 E hU dX1_worst_49 ?_
      refine kX1_3_be E hU hS hA0 (by decide) (by decide) ⟨by decide, by decide⟩ hl.1 (Nat.le_of_ble_eq_true rfl) dX1_worst_52 ⟨Nat.le_refl _, Nat.le_refl _⟩ (fun o9 H locs hU hS => ?_)
      refine x_iload hx hb dX1_worst_55 (lv_at hl 4 rfl) ?_
      refine x_iload_n hx hb dX1_worst_57 rfl (lv_at hl 1 rfl) ?_
      refine kX1_3_loosen E hU hS hA0 (by decide) ⟨by decide, by decide⟩ hl.1 (Nat.le_of_ble_eq_true rfl) dX1_worst_58 ⟨Nat.le_refl _, Nat.le_refl _⟩ (fun o10 H locs hU hS => ?_)
      refine x_aload_n hx hb dX1_worst_61 rfl (lv_at hl 0 rfl) ?_
      refine gX1_44 E hU dX1_worst_62 ?_
      refine x_bipush (v := 7) hx hb dX1_worst_65 (by decide) ?_
      refine kX1_3_after E hU hS hA0 (by decide) ⟨by decide, by decide⟩ hl.1 (Nat.le_of_ble_eq_true rfl) dX1_worst_67 ⟨Nat.le_refl _, Nat.le_refl _⟩ (fun o11 H locs hU hS => ?_)
      refine kX1_3_openMany E hU hS hA0 (by decide) ⟨by decide, by decide⟩ hl.1 (Nat.le_of_ble_eq_true rfl) dX1_worst_70 ⟨Nat.le_refl _, Nat.le_refl _⟩ (fun o12 H locs hU hS => ?_)
      refine x_istore (lv' := [(5, .int o12), (0, .ref (ad (0))), (1, .int p1), (2, .int v4), (3, .int v5), (4, .int v6)]) hx hb dX1_worst_73 hl (by decide) rfl (fun ls hl => ?_)
      refine x_iload hx hb dX1_worst_75 (lv_at hl 0 rfl) ?_
      refine x_iload_n hx hb dX1_worst_77 rfl (lv_at hl 4 rfl) ?_
      refine x_icmp_gt (tgt := 84) hx hb dX1_worst_78 (by decide) (fun hc => ?_) (fun hc => ?_)
      · refine x_iload hx hb dX1_worst_84 (lv_at hl 5 rfl) ?_
        refine x_istore_n (lv' := [(2, .int v6), (5, .int o12), (0, .ref (ad (0))), (1, .int p1), (3, .int v5), (4, .int v6)]) hx hb dX1_worst_86 rfl hl (by decide) rfl (fun ls hl => ?_)
        refine x_iload hx hb dX1_worst_87 (lv_at hl 1 rfl) ?_
        refine x_istore_n (lv' := [(3, .int o12), (2, .int v6), (5, .int o12), (0, .ref (ad (0))), (1, .int p1), (4, .int v6)]) hx hb dX1_worst_89 rfl hl (by decide) rfl (fun ls hl => ?_)
        refine x_iinc (v := (v6 + (1 : Int32))) (lv' := [(4, .int (v6 + (1 : Int32))), (3, .int o12), (2, .int v6), (5, .int o12), (0, .ref (ad (0))), (1, .int p1)]) (k := 5) hx hb dX1_worst_90 hl rfl rfl (by decide) rfl (fun ls hl => ?_)
        refine x_goto (tgt := 17) hx hb dX1_worst_93 (by decide) ?_
        exact ih7 (o11, v6, o12, (v6 + (1 : Int32))) _ _ _ ⟨hU, hS, _, rfl, lv_sub hl [4, 5, 2, 1, 0] rfl⟩
      · refine x_goto (tgt := 90) hx hb dX1_worst_81 (by decide) ?_
        refine x_iinc (v := (v6 + (1 : Int32))) (lv' := [(4, .int (v6 + (1 : Int32))), (5, .int o12), (0, .ref (ad (0))), (1, .int p1), (2, .int v4), (3, .int v5)]) (k := 5) hx hb dX1_worst_90 hl rfl rfl (by decide) rfl (fun ls hl => ?_)
        refine x_goto (tgt := 17) hx hb dX1_worst_93 (by decide) ?_
        exact ih7 (o11, v4, v5, (v6 + (1 : Int32))) _ _ _ ⟨hU, hS, _, rfl, lv_sub hl [2, 3, 4, 5, 0] rfl⟩
    · refine x_goto (tgt := 90) hx hb dX1_worst_41 (by decide) ?_
      refine x_iinc (v := (v6 + (1 : Int32))) (lv' := [(4, .int (v6 + (1 : Int32))), (0, .ref (ad (0))), (1, .int p1), (2, .int v4), (3, .int v5)]) (k := 4) hx hb dX1_worst_90 hl rfl rfl (by decide) rfl (fun ls hl => ?_)
      refine x_goto (tgt := 17) hx hb dX1_worst_93 (by decide) ?_
      exact ih7 (S3, v4, v5, (v6 + (1 : Int32))) _ _ _ ⟨hU, hS, _, rfl, lv_sub hl [1, 2, 3, 4, 0] rfl⟩

set_option maxHeartbeats 4000000 in
theorem mH1_meet (l : Launch) (D : va_G) (ct : CT) (ad : Nat → Nat) (P : Nat → Nat → Option Nat) (S : US) (h : AH) (p1 : Int32) (p2 : Int32) (sz : Nat) (o : (Int32 × US)) (ho : s1_meet S ct P h p1 p2 = some o) : Met l yX1_meet (ws_ yX1_meet cX1_meet 4 (some .int)) { frames := 503, cells := 0, slots := 0, locals := 20065 } (mP D clW ct [.ref (ad (0)), .int p1, .int p2] sz (GH D ct ad P (fun _ => True) S h)) (mC (some (.int o.1)) (UW D clW ckH ct 26 ad P (fun _ => True) o.2 0) (uA 26 ad sz)) 0 0 (uA 26 ad sz) := by
  refine X.start (val := fun (o : (Int32 × US)) => some (.int o.1)) (Bt := fun (o : (Int32 × US)) => UW D clW ckH ct 26 ad P (fun _ => True) o.2 0) (A := uA 26 ad sz) ho (by decide) (Nat.le_of_ble_eq_true rfl) (lv := [(0, .ref (ad (0))), (1, .int p1), (2, .int p2)]) rfl ?_
  intro p e s m args below meth c E hr hlk hnm hsz hU ls hl
  subst hsz
  obtain ⟨⟨hx, hb, hml, hown, hts⟩, hK, hJ⟩ := id E
  replace hU := hU.to (B := uA 26 ad s.heap.size) (fun i hi => Or.inl ⟨i, hi, rfl⟩)
  have hA0 : ∀ q, s.heap.size ≤ q → (uA 26 ad s.heap.size) q := fun q h => Or.inr h
  have hS : va_S (uA 26 ad s.heap.size) s.heap s.heap [] := va_S.rf
  unfold s1_meet
  refine x_aload_n hx hb dX1_meet_0 rfl (lv_at hl 0 rfl) ?_
  refine x_iload_n hx hb dX1_meet_1 rfl (lv_at hl 1 rfl) ?_
  refine kX1_1_aWoman E hU hS hA0 ⟨by decide, by decide⟩ hl.1 (Nat.le_of_ble_eq_true rfl) dX1_meet_2 ⟨Nat.le_refl _, Nat.le_refl _⟩ (fun o1 H locs hU hS => ?_)
  refine x_aload_n hx hb dX1_meet_5 rfl (lv_at hl 0 rfl) ?_
  refine x_iload_n hx hb dX1_meet_6 rfl (lv_at hl 2 rfl) ?_
  refine kX1_1_aWoman E hU hS hA0 ⟨by decide, by decide⟩ hl.1 (Nat.le_of_ble_eq_true rfl) dX1_meet_7 ⟨Nat.le_refl _, Nat.le_refl _⟩ (fun o2 H locs hU hS => ?_)
  refine x_aload_n hx hb dX1_meet_10 rfl (lv_at hl 0 rfl) ?_
  refine gX1_44 E hU dX1_meet_11 ?_
  refine x_aload_n hx hb dX1_meet_14 rfl (lv_at hl 0 rfl) ?_
  refine gX1_40 E hU dX1_meet_15 ?_
  refine kX1_3_be E hU hS hA0 (by decide) (by decide) ⟨by decide, by decide⟩ hl.1 (Nat.le_of_ble_eq_true rfl) dX1_meet_18 ⟨Nat.le_refl _, Nat.le_refl _⟩ (fun o3 H locs hU hS => ?_)
  refine x_pop hx hb dX1_meet_21 rfl ?_
  refine x_iconst (v := 0) hx hb dX1_meet_22 (by decide) ?_
  refine x_istore_n (lv' := [(3, .int (0 : Int32)), (0, .ref (ad (0))), (1, .int p1), (2, .int p2)]) hx hb dX1_meet_23 rfl hl (by decide) rfl (fun ls hl => ?_)
  refine X.loop (I := fun (x : (US × Int32)) g H locs => GH D ct ad P (uA 26 ad s.heap.size) x.1 h H ∧ va_S (uA 26 ad s.heap.size) s.heap H locs ∧ ∃ ls : Array Slot, g = F0 m 24 ls [] ∧ lv_has ls 4 [(0, .ref (ad (0))), (1, .int p1), (2, .int p2), (3, .int x.2)]) (fun rc6 ih6 => ?_) FUEL _ _ _ _ ⟨hU, hS, _, rfl, lv_sub hl [1, 2, 3, 0] rfl⟩
  rintro ⟨S4, v5⟩ _ H locs ⟨hU, hS, ls, rfl, hl⟩
  have hU : GH D ct ad P (uA 26 ad s.heap.size) S4 h H := hU
  have hl : lv_has ls 4 [(0, .ref (ad (0))), (1, .int p1), (2, .int p2), (3, .int v5)] := hl
  refine X.eqs (sp2 := s1_meet_L24 p1 p2 P h ct rc6 S4 v5) rfl ?_
  unfold s1_meet_L24
  refine x_iload_n hx hb dX1_meet_24 rfl (lv_at hl 3 rfl) ?_
  refine x_bipush (v := 60) hx hb dX1_meet_25 (by decide) ?_
  refine x_icmp_gt (tgt := 72) hx hb dX1_meet_27 (by decide) (fun hc => ?_) (fun hc => ?_)
  · refine x_iconst (v := -1) hx hb dX1_meet_72 (by decide) ?_
    exact x_iret hx hb hr hlk hS rfl (hU.1.to fun _ _ => trivial) dX1_meet_73
  · refine x_iload_n hx hb dX1_meet_30 rfl (lv_at hl 1 rfl) ?_
    refine x_iload_n hx hb dX1_meet_31 rfl (lv_at hl 2 rfl) ?_
    refine x_icmp_eq (tgt := 72) hx hb dX1_meet_32 (by decide) (fun hc => ?_) (fun hc => ?_)
    · refine x_iconst (v := -1) hx hb dX1_meet_72 (by decide) ?_
      exact x_iret hx hb hr hlk hS rfl (hU.1.to fun _ _ => trivial) dX1_meet_73
    · refine x_aload_n hx hb dX1_meet_35 rfl (lv_at hl 0 rfl) ?_
      refine gX1_44 E hU dX1_meet_36 ?_
      refine gX1_108 E hU (by decide) dX1_meet_39 ?_
      refine x_iload_n hx hb dX1_meet_42 rfl (lv_at hl 1 rfl) ?_
      refine ux_ald (i := lc 1 4) (n := 6) E hU.1 (lc_lt (by decide) (by decide)) (ck_lc (by decide)) dX1_meet_43 ?_
      refine x_aload_n hx hb dX1_meet_44 rfl (lv_at hl 0 rfl) ?_
      refine gX1_44 E hU dX1_meet_45 ?_
      refine gX1_108 E hU (by decide) dX1_meet_48 ?_
      refine x_iload_n hx hb dX1_meet_51 rfl (lv_at hl 2 rfl) ?_
      refine ux_ald (i := lc 1 4) (n := 6) E hU.1 (lc_lt (by decide) (by decide)) (ck_lc (by decide)) dX1_meet_52 ?_
      refine x_icmp_ne (tgt := 58) hx hb dX1_meet_53 (by decide) (fun hc => ?_) (fun hc => ?_)
      · refine x_aload_n hx hb dX1_meet_58 rfl (lv_at hl 0 rfl) ?_
        refine gX1_44 E hU dX1_meet_59 ?_
        refine kX1_3_pass E hU hS hA0 (by decide) ⟨by decide, by decide⟩ hl.1 (Nat.le_of_ble_eq_true rfl) dX1_meet_62 ⟨Nat.le_refl _, Nat.le_refl _⟩ (fun o7 H locs hU hS => ?_)
        refine x_pop hx hb dX1_meet_65 rfl ?_
        refine x_iinc (v := (v5 + (1 : Int32))) (lv' := [(3, .int (v5 + (1 : Int32))), (0, .ref (ad (0))), (1, .int p1), (2, .int p2)]) (k := 3) hx hb dX1_meet_66 hl rfl rfl (by decide) rfl (fun ls hl => ?_)
        refine x_goto (tgt := 24) hx hb dX1_meet_69 (by decide) ?_
        exact ih6 (o7, (v5 + (1 : Int32))) _ _ _ ⟨hU, hS, _, rfl, lv_sub hl [1, 2, 3, 0] rfl⟩
      · refine x_iload_n hx hb dX1_meet_56 rfl (lv_at hl 3 rfl) ?_
        exact x_iret hx hb hr hlk hS rfl (hU.1.to fun _ _ => trivial) dX1_meet_57

set_option maxHeartbeats 4000000 in
theorem mH1_bare (l : Launch) (D : va_G) (ct : CT) (ad : Nat → Nat) (P : Nat → Nat → Option Nat) (S : US) (h : AH) (p1 : Int32) (sz : Nat) (o : (Int32 × US)) (ho : s1_bare S ct P h p1 = some o) : Met l yX1_bare (ws_ yX1_bare cX1_bare 4 (some .int)) { frames := 505, cells := 0, slots := 0, locals := 20108 } (mP D clW ct [.ref (ad (0)), .int p1] sz (GH D ct ad P (fun _ => True) S h)) (mC (some (.int o.1)) (UW D clW ckH ct 26 ad P (fun _ => True) o.2 0) (uA 26 ad sz)) 0 0 (uA 26 ad sz) := by
  refine X.start (val := fun (o : (Int32 × US)) => some (.int o.1)) (Bt := fun (o : (Int32 × US)) => UW D clW ckH ct 26 ad P (fun _ => True) o.2 0) (A := uA 26 ad sz) ho (by decide) (Nat.le_of_ble_eq_true rfl) (lv := [(0, .ref (ad (0))), (1, .int p1)]) rfl ?_
  intro p e s m args below meth c E hr hlk hnm hsz hU ls hl
  subst hsz
  obtain ⟨⟨hx, hb, hml, hown, hts⟩, hK, hJ⟩ := id E
  replace hU := hU.to (B := uA 26 ad s.heap.size) (fun i hi => Or.inl ⟨i, hi, rfl⟩)
  have hA0 : ∀ q, s.heap.size ≤ q → (uA 26 ad s.heap.size) q := fun q h => Or.inr h
  have hS : va_S (uA 26 ad s.heap.size) s.heap s.heap [] := va_S.rf
  unfold s1_bare
  refine x_iload_n hx hb dX1_bare_0 rfl (lv_at hl 1 rfl) ?_
  refine x_iconst (v := 0) hx hb dX1_bare_1 (by decide) ?_
  refine x_bipush (v := 60) hx hb dX1_bare_2 (by decide) ?_
  refine kX1_1_in E hS hA0 ⟨by decide, by decide⟩ hl.1 (Nat.le_of_ble_eq_true rfl) dX1_bare_4 ⟨Nat.le_refl _, Nat.le_refl _⟩ (fun o1 H locs hz_ hk_ hS => ?_)
  replace hU := hU.kept hz_ hk_
  refine kX1_1_right E hS hA0 ⟨by decide, by decide⟩ hl.1 (Nat.le_of_ble_eq_true rfl) dX1_bare_7 ⟨Nat.le_refl _, Nat.le_refl _⟩ (fun o2 H locs hz_ hk_ hS => ?_)
  replace hU := hU.kept hz_ hk_
  refine x_aload_n hx hb dX1_bare_10 rfl (lv_at hl 0 rfl) ?_
  refine x_iload_n hx hb dX1_bare_11 rfl (lv_at hl 1 rfl) ?_
  refine kX1_1_tryOn E hU hS hA0 ⟨by decide, by decide⟩ hl.1 (Nat.le_of_ble_eq_true rfl) dX1_bare_12 ⟨Nat.le_refl _, Nat.le_refl _⟩ (fun o3 H locs hU hS => ?_)
  refine x_pop hx hb dX1_bare_15 rfl ?_
  refine x_iconst (v := 0) hx hb dX1_bare_16 (by decide) ?_
  refine x_istore_n (lv' := [(2, .int (0 : Int32)), (0, .ref (ad (0))), (1, .int p1)]) hx hb dX1_bare_17 rfl hl (by decide) rfl (fun ls hl => ?_)
  refine x_iconst (v := 0) hx hb dX1_bare_18 (by decide) ?_
  refine x_istore_n (lv' := [(3, .int (0 : Int32)), (2, .int (0 : Int32)), (0, .ref (ad (0))), (1, .int p1)]) hx hb dX1_bare_19 rfl hl (by decide) rfl (fun ls hl => ?_)
  refine X.loop (I := fun (x : (Int32 × Int32)) g H locs => GH D ct ad P (uA 26 ad s.heap.size) o3 h H ∧ va_S (uA 26 ad s.heap.size) s.heap H locs ∧ ∃ ls : Array Slot, g = F0 m 20 ls [] ∧ lv_has ls 4 [(0, .ref (ad (0))), (2, .int x.1), (3, .int x.2)]) (fun rc6 ih6 => ?_) FUEL _ _ _ _ ⟨hU, hS, _, rfl, lv_sub hl [2, 1, 0] rfl⟩
  rintro ⟨v4, v5⟩ _ H locs ⟨hU, hS, ls, rfl, hl⟩
  have hU : GH D ct ad P (uA 26 ad s.heap.size) o3 h H := hU
  have hl : lv_has ls 4 [(0, .ref (ad (0))), (2, .int v4), (3, .int v5)] := hl
  refine X.eqs (sp2 := s1_bare_L20 P h o3 rc6 v4 v5) rfl ?_
  unfold s1_bare_L20
  refine x_iload_n hx hb dX1_bare_20 rfl (lv_at hl 2 rfl) ?_
  refine x_aload_n hx hb dX1_bare_21 rfl (lv_at hl 0 rfl) ?_
  refine gX1_31 E hU dX1_bare_22 ?_
  refine kX1_2_women E hU hS hA0 ⟨by decide, by decide⟩ hl.1 (Nat.le_of_ble_eq_true rfl) dX1_bare_25 ⟨Nat.le_refl _, Nat.le_refl _⟩ (fun o7 H locs hU hS => ?_)
  refine x_icmp_ge (tgt := 55) hx hb dX1_bare_28 (by decide) (fun hc => ?_) (fun hc => ?_)
  · refine x_iload_n hx hb dX1_bare_55 rfl (lv_at hl 1 rfl) ?_
    exact x_iret hx hb hr hlk hS rfl (hU.1.to fun _ _ => trivial) dX1_bare_56
  · refine x_aload_n hx hb dX1_bare_31 rfl (lv_at hl 0 rfl) ?_
    refine gX1_44 E hU dX1_bare_32 ?_
    refine gX1_105 E hU (by decide) dX1_bare_35 ?_
    refine x_iload_n hx hb dX1_bare_38 rfl (lv_at hl 2 rfl) ?_
    refine ux_ald (i := lc 1 5) (n := 6) E hU.1 (lc_lt (by decide) (by decide)) (ck_lc (by decide)) dX1_bare_39 ?_
    refine x_if_ne (tgt := 49) hx hb dX1_bare_40 (by decide) (fun hc => ?_) (fun hc => ?_)
    · refine x_iinc (v := (v5 + (1 : Int32))) (lv' := [(3, .int (v5 + (1 : Int32))), (0, .ref (ad (0))), (2, .int v4)]) (k := 2) hx hb dX1_bare_49 hl rfl rfl (by decide) rfl (fun ls hl => ?_)
      refine x_goto (tgt := 20) hx hb dX1_bare_52 (by decide) ?_
      exact ih6 (v4, (v5 + (1 : Int32))) _ _ _ ⟨hU, hS, _, rfl, lv_sub hl [1, 2, 0] rfl⟩
    · refine x_iload_n hx hb dX1_bare_43 rfl (lv_at hl 1 rfl) ?_
      refine x_iconst (v := 1) hx hb dX1_bare_44 (by decide) ?_
      refine x_iload_n hx hb dX1_bare_45 rfl (lv_at hl 2 rfl) ?_
      refine x_ishl hx hb dX1_bare_46 ?_
      refine x_ior hx hb dX1_bare_47 ?_
      refine x_istore_n (lv' := [(2, .int (v4 ||| ((1 : Int32) <<< (v5 &&& 31)))), (0, .ref (ad (0))), (3, .int v5)]) hx hb dX1_bare_48 rfl hl (by decide) rfl (fun ls hl => ?_)
      refine x_iinc (v := (v5 + (1 : Int32))) (lv' := [(3, .int (v5 + (1 : Int32))), (2, .int (v4 ||| ((1 : Int32) <<< (v5 &&& 31)))), (0, .ref (ad (0)))]) (k := 2) hx hb dX1_bare_49 hl rfl rfl (by decide) rfl (fun ls hl => ?_)
      refine x_goto (tgt := 20) hx hb dX1_bare_52 (by decide) ?_
      exact ih6 ((v4 ||| ((1 : Int32) <<< (v5 &&& 31))), (v5 + (1 : Int32))) _ _ _ ⟨hU, hS, _, rfl, lv_sub hl [2, 1, 0] rfl⟩

set_option maxHeartbeats 4000000 in
theorem mH1_load (l : Launch) (D : va_G) (ct : CT) (ad : Nat → Nat) (P : Nat → Nat → Option Nat) (S : US) (h : AH) (p1 : Int32) (sz : Nat) (o : Int32) (ho : s1_load S p1 = some o) : Met l yX1_load (ws_ yX1_load cX1_load 4 (some .int)) { frames := 2, cells := 0, slots := 0, locals := 62 } (mP D clW ct [.ref (ad (0)), .int p1] sz (GH D ct ad P (fun _ => True) S h)) (mC (some (.int o)) (fun _ => True) (nA sz)) 0 0 (nA sz) := by
  refine X.start (val := fun (o : Int32) => some (.int o)) (Bt := fun _ _ => True) (A := nA sz) ho (by decide) (Nat.le_of_ble_eq_true rfl) (lv := [(0, .ref (ad (0))), (1, .int p1)]) rfl ?_
  intro p e s m args below meth c E hr hlk hnm hsz hU ls hl
  subst hsz
  obtain ⟨⟨hx, hb, hml, hown, hts⟩, hK, hJ⟩ := id E
  have hA0 : ∀ q, s.heap.size ≤ q → (nA s.heap.size) q := fun q h => h
  have hS : va_S (nA s.heap.size) s.heap s.heap [] := va_S.rf
  unfold s1_load
  refine x_iload_n hx hb dX1_load_0 rfl (lv_at hl 1 rfl) ?_
  refine x_iconst (v := 0) hx hb dX1_load_1 (by decide) ?_
  refine x_bipush (v := 99) hx hb dX1_load_2 (by decide) ?_
  refine kX1_1_in E hS hA0 ⟨by decide, by decide⟩ hl.1 (Nat.le_of_ble_eq_true rfl) dX1_load_4 ⟨Nat.le_refl _, Nat.le_refl _⟩ (fun o1 H locs hz_ hk_ hS => ?_)
  replace hU := hU.kept hz_ hk_
  refine kX1_1_right E hS hA0 ⟨by decide, by decide⟩ hl.1 (Nat.le_of_ble_eq_true rfl) dX1_load_7 ⟨Nat.le_refl _, Nat.le_refl _⟩ (fun o2 H locs hz_ hk_ hS => ?_)
  replace hU := hU.kept hz_ hk_
  refine x_iconst (v := 0) hx hb dX1_load_10 (by decide) ?_
  refine x_istore_n (lv' := [(2, .int (0 : Int32)), (0, .ref (ad (0))), (1, .int p1)]) hx hb dX1_load_11 rfl hl (by decide) rfl (fun ls hl => ?_)
  refine x_iconst (v := 0) hx hb dX1_load_12 (by decide) ?_
  refine x_istore_n (lv' := [(3, .int (0 : Int32)), (2, .int (0 : Int32)), (0, .ref (ad (0))), (1, .int p1)]) hx hb dX1_load_13 rfl hl (by decide) rfl (fun ls hl => ?_)
  refine X.loop (I := fun (x : (Int32 × Int32)) g H locs => GH D ct ad P (fun _ => True) S h H ∧ va_S (nA s.heap.size) s.heap H locs ∧ ∃ ls : Array Slot, g = F0 m 14 ls [] ∧ lv_has ls 4 [(0, .ref (ad (0))), (1, .int p1), (2, .int x.1), (3, .int x.2)]) (fun rc5 ih5 => ?_) FUEL _ _ _ _ ⟨hU, hS, _, rfl, lv_sub hl [2, 3, 1, 0] rfl⟩
  rintro ⟨v3, v4⟩ _ H locs ⟨hU, hS, ls, rfl, hl⟩
  have hU : GH D ct ad P (fun _ => True) S h H := hU
  have hl : lv_has ls 4 [(0, .ref (ad (0))), (1, .int p1), (2, .int v3), (3, .int v4)] := hl
  refine X.eqs (sp2 := s1_load_L14 p1 S rc5 v3 v4) rfl ?_
  unfold s1_load_L14
  refine x_iload_n hx hb dX1_load_14 rfl (lv_at hl 3 rfl) ?_
  refine x_aload_n hx hb dX1_load_15 rfl (lv_at hl 0 rfl) ?_
  refine gX1_31 E hU dX1_load_16 ?_
  refine gX1_115 E hU dX1_load_19 ?_
  refine x_icmp_ge (tgt := 67) hx hb dX1_load_22 (by decide) (fun hc => ?_) (fun hc => ?_)
  · refine x_iload_n hx hb dX1_load_67 rfl (lv_at hl 2 rfl) ?_
    refine x_if_ne (tgt := 88) hx hb dX1_load_68 (by decide) (fun hc => ?_) (fun hc => ?_)
    · refine x_iload_n hx hb dX1_load_88 rfl (lv_at hl 2 rfl) ?_
      exact x_iret hx hb hr hlk hS rfl trivial dX1_load_89
    · refine x_aload_n hx hb dX1_load_71 rfl (lv_at hl 0 rfl) ?_
      refine gX1_40 E hU dX1_load_72 ?_
      refine gX1_155 E hU (by decide) dX1_load_75 ?_
      refine x_iconst (v := 0) hx hb dX1_load_78 (by decide) ?_
      refine ux_ald (i := lc 0 1) (n := 12) E hU.1 (lc_lt (by decide) (by decide)) (ck_lc (by decide)) dX1_load_79 ?_
      refine x_iload_n hx hb dX1_load_80 rfl (lv_at hl 1 rfl) ?_
      refine x_icmp_lt (tgt := 88) hx hb dX1_load_81 (by decide) (fun hc => ?_) (fun hc => ?_)
      · refine x_iload_n hx hb dX1_load_88 rfl (lv_at hl 2 rfl) ?_
        exact x_iret hx hb hr hlk hS rfl trivial dX1_load_89
      · refine x_iconst (v := 1) hx hb dX1_load_84 (by decide) ?_
        refine x_goto (tgt := 89) hx hb dX1_load_85 (by decide) ?_
        exact x_iret hx hb hr hlk hS rfl trivial dX1_load_89
  · refine x_aload_n hx hb dX1_load_25 rfl (lv_at hl 0 rfl) ?_
    refine gX1_40 E hU dX1_load_26 ?_
    refine gX1_155 E hU (by decide) dX1_load_29 ?_
    refine x_iload_n hx hb dX1_load_32 rfl (lv_at hl 3 rfl) ?_
    refine ux_ald (i := lc 0 1) (n := 12) E hU.1 (lc_lt (by decide) (by decide)) (ck_lc (by decide)) dX1_load_33 ?_
    refine x_iload_n hx hb dX1_load_34 rfl (lv_at hl 1 rfl) ?_
    refine x_icmp_lt (tgt := 61) hx hb dX1_load_35 (by decide) (fun hc => ?_) (fun hc => ?_)
    · refine x_iinc (v := (v4 + (1 : Int32))) (lv' := [(3, .int (v4 + (1 : Int32))), (0, .ref (ad (0))), (1, .int p1), (2, .int v3)]) (k := 3) hx hb dX1_load_61 hl rfl rfl (by decide) rfl (fun ls hl => ?_)
      refine x_goto (tgt := 14) hx hb dX1_load_64 (by decide) ?_
      exact ih5 (v3, (v4 + (1 : Int32))) _ _ _ ⟨hU, hS, _, rfl, lv_sub hl [1, 2, 3, 0] rfl⟩
    · refine x_aload_n hx hb dX1_load_38 rfl (lv_at hl 0 rfl) ?_
      refine gX1_40 E hU dX1_load_39 ?_
      refine gX1_155 E hU (by decide) dX1_load_42 ?_
      refine x_aload_n hx hb dX1_load_45 rfl (lv_at hl 0 rfl) ?_
      refine gX1_31 E hU dX1_load_46 ?_
      refine x_iload_n hx hb dX1_load_49 rfl (lv_at hl 3 rfl) ?_
      refine kX1_2_before E hU hS hA0 ⟨by decide, by decide⟩ hl.1 (Nat.le_of_ble_eq_true rfl) dX1_load_50 ⟨Nat.le_refl _, Nat.le_refl _⟩ (fun o6 H locs hU hS => ?_)
      refine ux_ald (i := lc 0 1) (n := 12) E hU.1 (lc_lt (by decide) (by decide)) (ck_lc (by decide)) dX1_load_53 ?_
      refine x_iload_n hx hb dX1_load_54 rfl (lv_at hl 1 rfl) ?_
      refine x_icmp_ge (tgt := 61) hx hb dX1_load_55 (by decide) (fun hc => ?_) (fun hc => ?_)
      · refine x_iinc (v := (v4 + (1 : Int32))) (lv' := [(3, .int (v4 + (1 : Int32))), (0, .ref (ad (0))), (1, .int p1), (2, .int v3)]) (k := 3) hx hb dX1_load_61 hl rfl rfl (by decide) rfl (fun ls hl => ?_)
        refine x_goto (tgt := 14) hx hb dX1_load_64 (by decide) ?_
        exact ih5 (v3, (v4 + (1 : Int32))) _ _ _ ⟨hU, hS, _, rfl, lv_sub hl [1, 2, 3, 0] rfl⟩
      · refine x_iinc (v := (v3 + (1 : Int32))) (lv' := [(2, .int (v3 + (1 : Int32))), (0, .ref (ad (0))), (1, .int p1), (3, .int v4)]) (k := 2) hx hb dX1_load_58 hl rfl rfl (by decide) rfl (fun ls hl => ?_)
        refine x_iinc (v := (v4 + (1 : Int32))) (lv' := [(3, .int (v4 + (1 : Int32))), (2, .int (v3 + (1 : Int32))), (0, .ref (ad (0))), (1, .int p1)]) (k := 3) hx hb dX1_load_61 hl rfl rfl (by decide) rfl (fun ls hl => ?_)
        refine x_goto (tgt := 14) hx hb dX1_load_64 (by decide) ?_
        exact ih5 ((v3 + (1 : Int32)), (v4 + (1 : Int32))) _ _ _ ⟨hU, hS, _, rfl, lv_sub hl [2, 3, 1, 0] rfl⟩
