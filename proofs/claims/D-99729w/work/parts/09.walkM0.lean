set_option maxRecDepth 100000
set_option maxHeartbeats 4000000 in
theorem mM_thrown (l : Launch) (D : va_G) (ct : CT) (ad : Nat → Nat) (S : US) (w : Int64) (sz : Nat) (o : Int32) (ho : sM_thrown S = some o) : Met l yX4_thrown (ws_ yX4_thrown cX4_thrown 1 (some .int)) { frames := 1, cells := 0, slots := 0, locals := 32 } (mP D clW ct [.ref (ad (0))] sz (UM D ct ad (fun _ => True) S w)) (mC (some (.int o)) (fun _ => True) (nA sz)) 0 0 (nA sz) := by
  refine X.start (val := fun (o : Int32) => some (.int o)) (Bt := fun _ _ => True) (A := nA sz) ho (by decide) (Nat.le_of_ble_eq_true rfl) rfl ?_
  intro p e s m args below meth c E hr hlk hnm hsz hU ls hl
  subst hsz
  obtain ⟨⟨hx, hb, hml, hown, hts⟩, hK, hJ⟩ := id E
  have hA0 : ∀ q, s.heap.size ≤ q → (nA s.heap.size) q := fun q h => h
  have hS : va_S (nA s.heap.size) s.heap s.heap [] := va_S.rf
  unfold sM_thrown
  refine x_aload_n hx hb dX4_thrown_0 rfl (lv_at hl 0 rfl) ?_
  refine gM_thrown E hU dX4_thrown_1 ?_
  exact x_iret hx hb hr hlk hS rfl trivial dX4_thrown_4

set_option maxHeartbeats 4000000 in
theorem mM_lays (l : Launch) (D : va_G) (ct : CT) (ad : Nat → Nat) (S : US) (w : Int64) (p1 : Int32) (sz : Nat) (o : US) (ho : sM_lays S p1 = some o) : Met l yX4_lays (ws_ yX4_lays cX4_lays 3 none) { frames := 1, cells := 0, slots := 0, locals := 32 } (mP D clW ct [.ref (ad (0)), .int p1] sz (UM D ct ad (fun _ => True) S w)) (mC (none) (UM D ct ad (fun _ => True) o w) (uA 31 ad sz)) 0 0 (uA 31 ad sz) := by
  refine X.start (val := fun (o : US) => none) (Bt := fun (o : US) => UM D ct ad (fun _ => True) o w) (A := uA 31 ad sz) ho (by decide) (Nat.le_of_ble_eq_true rfl) rfl ?_
  intro p e s m args below meth c E hr hlk hnm hsz hU ls hl
  subst hsz
  obtain ⟨⟨hx, hb, hml, hown, hts⟩, hK, hJ⟩ := id E
  replace hU := hU.to (B := uA 31 ad s.heap.size) (fun i hi => Or.inl ⟨i, hi, rfl⟩)
  have hA0 : ∀ q, s.heap.size ≤ q → (uA 31 ad s.heap.size) q := fun q h => Or.inr h
  have hS : va_S (uA 31 ad s.heap.size) s.heap s.heap [] := va_S.rf
  unfold sM_lays
  refine x_bipush (v := 24) hx hb dX4_lays_0 (by decide) ?_
  refine x_istore_n (lv' := [(2, .int (24 : Int32)), (0, .ref (ad (0))), (1, .int p1)]) hx hb dX4_lays_2 rfl hl (by decide) rfl (fun ls hl => ?_)
  refine X.loop (I := fun (x : (US × Int32)) g H locs => UM D ct ad (uA 31 ad s.heap.size) x.1 w H ∧ va_S (uA 31 ad s.heap.size) s.heap H locs ∧ ∃ ls : Array Slot, g = F0 m 3 ls [] ∧ lv_has ls 3 [(0, .ref (ad (0))), (1, .int p1), (2, .int x.2)]) (fun rc3 ih3 => ?_) FUEL _ _ _ _ ⟨hU, hS, _, rfl, lv_sub hl [1, 2, 0] rfl⟩
  rintro ⟨S1, v2⟩ _ H locs ⟨hU, hS, ls, rfl, hl⟩
  have hU : UM D ct ad (uA 31 ad s.heap.size) S1 w H := hU
  have hl : lv_has ls 3 [(0, .ref (ad (0))), (1, .int p1), (2, .int v2)] := hl
  refine X.eqs (sp2 := sM_lays_L3 p1 rc3 S1 v2) rfl ?_
  unfold sM_lays_L3
  refine x_iload_n hx hb dX4_lays_3 rfl (lv_at hl 2 rfl) ?_
  refine x_if_lt (tgt := 39) hx hb dX4_lays_4 (by decide) (fun hc => ?_) (fun hc => ?_)
  · exact x_vret hx hb hr hlk hS rfl (hU.to fun _ _ => trivial) dX4_lays_39
  · refine x_aload_n hx hb dX4_lays_7 rfl (lv_at hl 0 rfl) ?_
    refine gM_tape E hU dX4_lays_8 ?_
    refine x_aload_n hx hb dX4_lays_11 rfl (lv_at hl 0 rfl) ?_
    refine gM_taped E hU dX4_lays_12 ?_
    refine x_iload_n hx hb dX4_lays_15 rfl (lv_at hl 1 rfl) ?_
    refine x_iload_n hx hb dX4_lays_16 rfl (lv_at hl 2 rfl) ?_
    refine x_ishr hx hb dX4_lays_17 ?_
    refine x_sipush (v := 255) hx hb dX4_lays_18 (by decide) ?_
    refine x_iand hx hb dX4_lays_21 ?_
    refine ux_ast (i := 5) (n := 700) E hU hS (by decide) rfl dX4_lays_22 (fun S4 H locs hU hS => ?_)
    refine x_aload_n hx hb dX4_lays_23 rfl (lv_at hl 0 rfl) ?_
    refine x_dup hx hb dX4_lays_24 rfl ?_
    refine gM_taped E hU dX4_lays_25 ?_
    refine x_iconst (v := 1) hx hb dX4_lays_28 (by decide) ?_
    refine x_iadd hx hb dX4_lays_29 ?_
    refine pM_taped E hU hS dX4_lays_30 (fun S5 H locs hU hS => ?_)
    refine x_iinc (v := (v2 + (-8 : Int32))) (lv' := [(2, .int (v2 + (-8 : Int32))), (0, .ref (ad (0))), (1, .int p1)]) (k := 2) hx hb dX4_lays_33 hl rfl rfl (by decide) rfl (fun ls hl => ?_)
    refine x_goto (tgt := 3) hx hb dX4_lays_36 (by decide) ?_
    exact ih3 (S5, (v2 + (-8 : Int32))) _ _ _ ⟨hU, hS, _, rfl, lv_sub hl [1, 2, 0] rfl⟩
section MK
variable {ρ : Type} {p : Program} {l : Launch} {e : Env} {R : Room} {s : State} {m : MethodId} {args : Array Value} {below : List Frame} {meth : Method} {c : Code} {H : Heap} {locs : List Loc} {cells slots : Nat} {Qf : ρ → State → Prop}
variable {cc : ByteArray} {pc nL : Nat} {ls : Array Slot} {rest : List Value}
variable {D : va_G} {ct : CT} {ad : Nat → Nat} {A A0 : Nat → Prop} {S : US} {w : Int64} {H0 : Heap}
theorem kM_lays {p1 : Int32} (E : ME p m c cc nL s args RX4 D clW ct) (hU : UM D ct ad A S w H) (hS : va_S A H0 H locs) (hA0 : ∀ q, H0.size ≤ q → A q) (hR : 1 + 1 ≤ R.frames ∧ 8 + (3 + 11) + 32 ≤ R.locals) (hsize : ls.size = nL) (hW : (rest.map fun v => v.category).sum ≤ 8) (hdg : decode cc pc = .ok (.invokevirtual 123, 3)) (hf : cells ≤ R.cells ∧ slots ≤ R.slots) {kp : US → Option ρ} (kk : ∀ (o : US) (H1 : Heap) (locs1 : List Loc), UM D ct ad A o w H1 → va_S A H0 H1 locs1 → X p l e R s m args below meth c H1 locs1 cells slots Qf (kp o) (F0 m (pc + 3) ls (rest))) : X p l e R s m args below meth c H locs cells slots Qf (callK (sM_lays S p1) kp) (F0 m pc ls (.int p1 :: .ref (ad 0) :: rest)) := ucV_mod (i := 0) (So := fun (o : US) => o) (wo := fun (o : US) => w) (As := [.int p1]) E hU hS hA0 (by decide) rfl rfl (fun sz o ho => mM_lays l D ct ad S w p1 sz o ho) (cwV 1 E.1.2.2.2.2 (lw_V q2042 q2044 qs49 q119 q2045) rfl rfl rfl (by decide +kernel) hR) rfl hsize rfl hW hdg hf kk
end MK

set_option maxHeartbeats 4000000 in
theorem mM_feed (l : Launch) (D : va_G) (ct : CT) (ad : Nat → Nat) (S : US) (w : Int64) (p1 : Int32) (p2 : Int32) (p3 : Int32) (p4 : Int32) (p5 : Int32) (sz : Nat) (o : (Int32 × US)) (ho : sM_feed S p1 p2 p3 p4 p5 = some o) : Met l yX4_feed (ws_ yX4_feed cX4_feed 6 (some .int)) { frames := 2, cells := 0, slots := 0, locals := 54 } (mP D clW ct [.ref (ad (0)), .int p1, .int p2, .int p3, .int p4, .int p5] sz (UM D ct ad (fun _ => True) S w)) (mC (some (.int o.1)) (UM D ct ad (fun _ => True) o.2 w) (uA 31 ad sz)) 0 0 (uA 31 ad sz) := by
  refine X.start (val := fun (o : (Int32 × US)) => some (.int o.1)) (Bt := fun (o : (Int32 × US)) => UM D ct ad (fun _ => True) o.2 w) (A := uA 31 ad sz) ho (by decide) (Nat.le_of_ble_eq_true rfl) rfl ?_
  intro p e s m args below meth c E hr hlk hnm hsz hU ls hl
  subst hsz
  obtain ⟨⟨hx, hb, hml, hown, hts⟩, hK, hJ⟩ := id E
  replace hU := hU.to (B := uA 31 ad s.heap.size) (fun i hi => Or.inl ⟨i, hi, rfl⟩)
  have hA0 : ∀ q, s.heap.size ≤ q → (uA 31 ad s.heap.size) q := fun q h => Or.inr h
  have hS : va_S (uA 31 ad s.heap.size) s.heap s.heap [] := va_S.rf
  unfold sM_feed
  refine x_aload_n hx hb dX4_feed_0 rfl (lv_at hl 0 rfl) ?_
  refine x_iconst (v := 0) hx hb dX4_feed_1 (by decide) ?_
  refine pM_thrown E hU hS dX4_feed_2 (fun S1 H locs hU hS => ?_)
  refine x_aload_n hx hb dX4_feed_5 rfl (lv_at hl 0 rfl) ?_
  refine gM_taped E hU dX4_feed_6 ?_
  refine x_bipush (v := 20) hx hb dX4_feed_9 (by decide) ?_
  refine x_iadd hx hb dX4_feed_11 ?_
  refine x_sipush (v := 700) hx hb dX4_feed_12 (by decide) ?_
  refine x_icmp_le (tgt := 20) hx hb dX4_feed_15 (by decide) (fun hc => ?_) (fun hc => ?_)
  · refine x_aload_n hx hb dX4_feed_20 rfl (lv_at hl 0 rfl) ?_
    refine x_iload_n hx hb dX4_feed_21 rfl (lv_at hl 1 rfl) ?_
    refine kM_lays E hU hS hA0 ⟨by decide, by decide⟩ hl.1 (Nat.le_of_ble_eq_true rfl) dX4_feed_22 ⟨Nat.le_refl _, Nat.le_refl _⟩ (fun o2 H locs hU hS => ?_)
    refine x_aload_n hx hb dX4_feed_25 rfl (lv_at hl 0 rfl) ?_
    refine x_iload_n hx hb dX4_feed_26 rfl (lv_at hl 2 rfl) ?_
    refine kM_lays E hU hS hA0 ⟨by decide, by decide⟩ hl.1 (Nat.le_of_ble_eq_true rfl) dX4_feed_27 ⟨Nat.le_refl _, Nat.le_refl _⟩ (fun o3 H locs hU hS => ?_)
    refine x_aload_n hx hb dX4_feed_30 rfl (lv_at hl 0 rfl) ?_
    refine x_iload_n hx hb dX4_feed_31 rfl (lv_at hl 3 rfl) ?_
    refine kM_lays E hU hS hA0 ⟨by decide, by decide⟩ hl.1 (Nat.le_of_ble_eq_true rfl) dX4_feed_32 ⟨Nat.le_refl _, Nat.le_refl _⟩ (fun o4 H locs hU hS => ?_)
    refine x_aload_n hx hb dX4_feed_35 rfl (lv_at hl 0 rfl) ?_
    refine x_iload hx hb dX4_feed_36 (lv_at hl 4 rfl) ?_
    refine kM_lays E hU hS hA0 ⟨by decide, by decide⟩ hl.1 (Nat.le_of_ble_eq_true rfl) dX4_feed_38 ⟨Nat.le_refl _, Nat.le_refl _⟩ (fun o5 H locs hU hS => ?_)
    refine x_aload_n hx hb dX4_feed_41 rfl (lv_at hl 0 rfl) ?_
    refine x_iload hx hb dX4_feed_42 (lv_at hl 5 rfl) ?_
    refine kM_lays E hU hS hA0 ⟨by decide, by decide⟩ hl.1 (Nat.le_of_ble_eq_true rfl) dX4_feed_44 ⟨Nat.le_refl _, Nat.le_refl _⟩ (fun o6 H locs hU hS => ?_)
    refine x_aload_n hx hb dX4_feed_47 rfl (lv_at hl 0 rfl) ?_
    refine gM_taped E hU dX4_feed_48 ?_
    exact x_iret hx hb hr hlk hS rfl (hU.to fun _ _ => trivial) dX4_feed_51
  · refine x_iconst (v := -1) hx hb dX4_feed_18 (by decide) ?_
    exact x_iret hx hb hr hlk hS rfl (hU.to fun _ _ => trivial) dX4_feed_19

set_option maxHeartbeats 4000000 in
theorem mM_copies (l : Launch) (D : va_G) (ct : CT) (ad : Nat → Nat) (S : US) (w : Int64) (i1 : Nat) (n1 : Nat) (i2 : Nat) (n2 : Nat) (hi1 : i1 < 31) (hk1 : ckM i1 = .inr (0, n1)) (hi2 : i2 < 31) (hk2 : ckM i2 = .inr (0, n2)) (sz : Nat) (o : US) (ho : sM_copies S i1 n1 i2 n2 = some o) : Met l yX4_copies (ws_ yX4_copies cX4_copies 4 none) { frames := 1, cells := 0, slots := 0, locals := 32 } (mP D clW ct [.ref (ad (0)), .ref (ad i1), .ref (ad i2)] sz (UM D ct ad (fun _ => True) S w)) (mC (none) (UM D ct ad (fun _ => True) o w) (uA 31 ad sz)) 0 0 (uA 31 ad sz) := by
  refine X.start (val := fun (o : US) => none) (Bt := fun (o : US) => UM D ct ad (fun _ => True) o w) (A := uA 31 ad sz) ho (by decide) (Nat.le_of_ble_eq_true rfl) rfl ?_
  intro p e s m args below meth c E hr hlk hnm hsz hU ls hl
  subst hsz
  obtain ⟨⟨hx, hb, hml, hown, hts⟩, hK, hJ⟩ := id E
  replace hU := hU.to (B := uA 31 ad s.heap.size) (fun i hi => Or.inl ⟨i, hi, rfl⟩)
  have hA0 : ∀ q, s.heap.size ≤ q → (uA 31 ad s.heap.size) q := fun q h => Or.inr h
  have hS : va_S (uA 31 ad s.heap.size) s.heap s.heap [] := va_S.rf
  unfold sM_copies
  refine x_iconst (v := 0) hx hb dX4_copies_0 (by decide) ?_
  refine x_istore_n (lv' := [(3, .int (0 : Int32)), (0, .ref (ad (0))), (1, .ref (ad i1)), (2, .ref (ad i2))]) hx hb dX4_copies_1 rfl hl (by decide) rfl (fun ls hl => ?_)
  refine X.loop (I := fun (x : (US × Int32)) g H locs => UM D ct ad (uA 31 ad s.heap.size) x.1 w H ∧ va_S (uA 31 ad s.heap.size) s.heap H locs ∧ ∃ ls : Array Slot, g = F0 m 2 ls [] ∧ lv_has ls 4 [(1, .ref (ad i1)), (2, .ref (ad i2)), (3, .int x.2)]) (fun rc3 ih3 => ?_) FUEL _ _ _ _ ⟨hU, hS, _, rfl, lv_sub hl [2, 3, 0] rfl⟩
  rintro ⟨S1, v2⟩ _ H locs ⟨hU, hS, ls, rfl, hl⟩
  have hU : UM D ct ad (uA 31 ad s.heap.size) S1 w H := hU
  have hl : lv_has ls 4 [(1, .ref (ad i1)), (2, .ref (ad i2)), (3, .int v2)] := hl
  refine X.eqs (sp2 := sM_copies_L2 i1 n1 i2 n2 rc3 S1 v2) rfl ?_
  unfold sM_copies_L2
  refine x_iload_n hx hb dX4_copies_2 rfl (lv_at hl 2 rfl) ?_
  refine x_aload_n hx hb dX4_copies_3 rfl (lv_at hl 0 rfl) ?_
  refine ux_alen (i := i1) (t := 0) (n := n1) E hU hi1 hk1 rfl dX4_copies_4 ?_
  refine x_icmp_ge (tgt := 20) hx hb dX4_copies_5 (by decide) (fun hc => ?_) (fun hc => ?_)
  · exact x_vret hx hb hr hlk hS rfl (hU.to fun _ _ => trivial) dX4_copies_20
  · refine x_aload_n hx hb dX4_copies_8 rfl (lv_at hl 1 rfl) ?_
    refine x_iload_n hx hb dX4_copies_9 rfl (lv_at hl 2 rfl) ?_
    refine x_aload_n hx hb dX4_copies_10 rfl (lv_at hl 0 rfl) ?_
    refine x_iload_n hx hb dX4_copies_11 rfl (lv_at hl 2 rfl) ?_
    refine ux_ald (i := i1) (n := n1) E hU hi1 hk1 dX4_copies_12 ?_
    refine ux_ast (i := i2) (n := n2) E hU hS hi2 hk2 dX4_copies_13 (fun S4 H locs hU hS => ?_)
    refine x_iinc (v := (v2 + (1 : Int32))) (lv' := [(3, .int (v2 + (1 : Int32))), (1, .ref (ad i1)), (2, .ref (ad i2))]) (k := 2) hx hb dX4_copies_14 hl rfl rfl (by decide) rfl (fun ls hl => ?_)
    refine x_goto (tgt := 2) hx hb dX4_copies_17 (by decide) ?_
    exact ih3 (S4, (v2 + (1 : Int32))) _ _ _ ⟨hU, hS, _, rfl, lv_sub hl [1, 2, 0] rfl⟩
section MK
variable {ρ : Type} {p : Program} {l : Launch} {e : Env} {R : Room} {s : State} {m : MethodId} {args : Array Value} {below : List Frame} {meth : Method} {c : Code} {H : Heap} {locs : List Loc} {cells slots : Nat} {Qf : ρ → State → Prop}
variable {cc : ByteArray} {pc nL : Nat} {ls : Array Slot} {rest : List Value}
variable {D : va_G} {ct : CT} {ad : Nat → Nat} {A A0 : Nat → Prop} {S : US} {w : Int64} {H0 : Heap}
theorem kM_copies {i1 : Nat} {n1 : Nat} {i2 : Nat} {n2 : Nat} (E : ME p m c cc nL s args RX4 D clW ct) (hU : UM D ct ad A S w H) (hS : va_S A H0 H locs) (hA0 : ∀ q, H0.size ≤ q → A q) (hi1 : i1 < 31) (hk1 : ckM i1 = .inr (0, n1)) (hi2 : i2 < 31) (hk2 : ckM i2 = .inr (0, n2)) (hR : 1 + 1 ≤ R.frames ∧ 8 + (4 + 11) + 32 ≤ R.locals) (hsize : ls.size = nL) (hW : (rest.map fun v => v.category).sum ≤ 8) (hdg : decode cc pc = .ok (.invokevirtual 290, 3)) (hf : cells ≤ R.cells ∧ slots ≤ R.slots) {kp : US → Option ρ} (kk : ∀ (o : US) (H1 : Heap) (locs1 : List Loc), UM D ct ad A o w H1 → va_S A H0 H1 locs1 → X p l e R s m args below meth c H1 locs1 cells slots Qf (kp o) (F0 m (pc + 3) ls (rest))) : X p l e R s m args below meth c H locs cells slots Qf (callK (sM_copies S i1 n1 i2 n2) kp) (F0 m pc ls (.ref (ad i2) :: .ref (ad i1) :: .ref (ad 0) :: rest)) := ucV_mod (i := 0) (So := fun (o : US) => o) (wo := fun (o : US) => w) (As := [.ref (ad i1), .ref (ad i2)]) E hU hS hA0 (by decide) rfl rfl (fun sz o ho => mM_copies l D ct ad S w i1 n1 i2 n2 hi1 hk1 hi2 hk2 sz o ho) (cwV 2 E.1.2.2.2.2 (lw_V q2165 q2167 qs74 q119 q2168) rfl rfl rfl (by decide +kernel) hR) rfl hsize rfl hW hdg hf kk
end MK

set_option maxHeartbeats 4000000 in
theorem mM_byteAt (l : Launch) (D : va_G) (ct : CT) (ad : Nat → Nat) (S : US) (w : Int64) (p1 : Int32) (sz : Nat) (o : Int32) (ho : sM_byteAt S p1 = some o) : Met l yX4_byteAt (ws_ yX4_byteAt cX4_byteAt 2 (some .int)) { frames := 1, cells := 0, slots := 0, locals := 32 } (mP D clW ct [.ref (ad (0)), .int p1] sz (UM D ct ad (fun _ => True) S w)) (mC (some (.int o)) (fun _ => True) (nA sz)) 0 0 (nA sz) := by
  refine X.start (val := fun (o : Int32) => some (.int o)) (Bt := fun _ _ => True) (A := nA sz) ho (by decide) (Nat.le_of_ble_eq_true rfl) rfl ?_
  intro p e s m args below meth c E hr hlk hnm hsz hU ls hl
  subst hsz
  obtain ⟨⟨hx, hb, hml, hown, hts⟩, hK, hJ⟩ := id E
  have hA0 : ∀ q, s.heap.size ≤ q → (nA s.heap.size) q := fun q h => h
  have hS : va_S (nA s.heap.size) s.heap s.heap [] := va_S.rf
  unfold sM_byteAt
  refine x_iload_n hx hb dX4_byteAt_0 rfl (lv_at hl 1 rfl) ?_
  refine x_aload_n hx hb dX4_byteAt_1 rfl (lv_at hl 0 rfl) ?_
  refine gM_long1 E hU dX4_byteAt_2 ?_
  refine x_icmp_ge (tgt := 17) hx hb dX4_byteAt_5 (by decide) (fun hc => ?_) (fun hc => ?_)
  · refine x_iconst (v := 0) hx hb dX4_byteAt_17 (by decide) ?_
    exact x_iret hx hb hr hlk hS rfl trivial dX4_byteAt_18
  · refine x_aload_n hx hb dX4_byteAt_8 rfl (lv_at hl 0 rfl) ?_
    refine gM_tape E hU dX4_byteAt_9 ?_
    refine x_iload_n hx hb dX4_byteAt_12 rfl (lv_at hl 1 rfl) ?_
    refine ux_ald (i := 5) (n := 700) E hU (by decide) rfl dX4_byteAt_13 ?_
    refine x_goto (tgt := 18) hx hb dX4_byteAt_14 (by decide) ?_
    exact x_iret hx hb hr hlk hS rfl trivial dX4_byteAt_18
section MK
variable {ρ : Type} {p : Program} {l : Launch} {e : Env} {R : Room} {s : State} {m : MethodId} {args : Array Value} {below : List Frame} {meth : Method} {c : Code} {H : Heap} {locs : List Loc} {cells slots : Nat} {Qf : ρ → State → Prop}
variable {cc : ByteArray} {pc nL : Nat} {ls : Array Slot} {rest : List Value}
variable {D : va_G} {ct : CT} {ad : Nat → Nat} {A A0 : Nat → Prop} {S : US} {w : Int64} {H0 : Heap}
theorem kM_byteAt {p1 : Int32} (E : ME p m c cc nL s args RX4 D clW ct) (hU : UM D ct ad A S w H) (hS : va_S A0 H0 H locs) (hA0 : ∀ q, H0.size ≤ q → A0 q) (hR : 1 + 1 ≤ R.frames ∧ 8 + (2 + 11) + 32 ≤ R.locals) (hsize : ls.size = nL) (hW : (rest.map fun v => v.category).sum ≤ 8) (hdg : decode cc pc = .ok (.invokevirtual 133, 3)) (hf : cells ≤ R.cells ∧ slots ≤ R.slots) {kp : Int32 → Option ρ} (kk : ∀ (o : Int32) (H1 : Heap) (locs1 : List Loc), UM D ct ad A S w H1 → va_S A0 H0 H1 locs1 → X p l e R s m args below meth c H1 locs1 cells slots Qf (kp o) (F0 m (pc + 3) ls (.int o :: rest))) : X p l e R s m args below meth c H locs cells slots Qf (callK (sM_byteAt S p1) kp) (F0 m pc ls (.int p1 :: .ref (ad 0) :: rest)) := ucV_pure (i := 0) (As := [.int p1]) E hU hS hA0 (by decide) rfl rfl (fun sz o ho => mM_byteAt l D ct ad S w p1 sz o ho) (cwV 1 E.1.2.2.2.2 (lw_V q2058 q2060 qs52 q119 q2061) rfl rfl rfl (by decide +kernel) hR) rfl hsize rfl hW hdg hf kk
end MK

set_option maxHeartbeats 4000000 in
theorem mM_isDigit (l : Launch) (D : va_G) (ct : CT) (p1 : Int32) (sz : Nat) (o : Bool) (ho : sM_isDigit p1 = some o) : Met l yX4_isDigit (ws_ yX4_isDigit cX4_isDigit 1 (some .boolean)) { frames := 1, cells := 0, slots := 0, locals := 32 } (mP D clW ct [.int p1] sz (fun _ => True)) (mC (some (.int (bI o))) (fun _ => True) (nA sz)) 0 0 (nA sz) := by
  refine X.start (val := fun (o : Bool) => some (.int (bI o))) (Bt := fun _ _ => True) (A := nA sz) ho (by decide) (Nat.le_of_ble_eq_true rfl) rfl ?_
  intro p e s m args below meth c E hr hlk hnm hsz hU ls hl
  subst hsz
  obtain ⟨⟨hx, hb, hml, hown, hts⟩, hK, hJ⟩ := id E
  have hA0 : ∀ q, s.heap.size ≤ q → (nA s.heap.size) q := fun q h => h
  have hS : va_S (nA s.heap.size) s.heap s.heap [] := va_S.rf
  unfold sM_isDigit
  refine x_iload_n hx hb dX4_isDigit_0 rfl (lv_at hl 0 rfl) ?_
  refine x_bipush (v := 48) hx hb dX4_isDigit_1 (by decide) ?_
  refine x_icmp_lt (tgt := 16) hx hb dX4_isDigit_3 (by decide) (fun hc => ?_) (fun hc => ?_)
  · refine x_iconst (v := 0) hx hb dX4_isDigit_16 (by decide) ?_
    exact x_zret hx hb hr hlk hS rfl rfl trivial dX4_isDigit_17
  · refine x_iload_n hx hb dX4_isDigit_6 rfl (lv_at hl 0 rfl) ?_
    refine x_bipush (v := 57) hx hb dX4_isDigit_7 (by decide) ?_
    refine x_icmp_gt (tgt := 16) hx hb dX4_isDigit_9 (by decide) (fun hc => ?_) (fun hc => ?_)
    · refine x_iconst (v := 0) hx hb dX4_isDigit_16 (by decide) ?_
      exact x_zret hx hb hr hlk hS rfl rfl trivial dX4_isDigit_17
    · refine x_iconst (v := 1) hx hb dX4_isDigit_12 (by decide) ?_
      refine x_goto (tgt := 17) hx hb dX4_isDigit_13 (by decide) ?_
      exact x_zret hx hb hr hlk hS rfl rfl trivial dX4_isDigit_17
section MK
variable {ρ : Type} {p : Program} {l : Launch} {e : Env} {R : Room} {s : State} {m : MethodId} {args : Array Value} {below : List Frame} {meth : Method} {c : Code} {H : Heap} {locs : List Loc} {cells slots : Nat} {Qf : ρ → State → Prop}
variable {cc : ByteArray} {pc nL : Nat} {ls : Array Slot} {rest : List Value}
variable {D : va_G} {ct : CT} {ad : Nat → Nat} {A A0 : Nat → Prop} {S : US} {w : Int64} {H0 : Heap}
theorem kM_isDigit {p1 : Int32} (E : ME p m c cc nL s args RX4 D clW ct) (hS : va_S A0 H0 H locs) (hA0 : ∀ q, H0.size ≤ q → A0 q) (hR : 1 + 1 ≤ R.frames ∧ 8 + (1 + 11) + 32 ≤ R.locals) (hsize : ls.size = nL) (hW : (rest.map fun v => v.category).sum ≤ 8) (hdg : decode cc pc = .ok (.invokestatic 157, 3)) (hf : cells ≤ R.cells ∧ slots ≤ R.slots) {kp : Bool → Option ρ} (kk : ∀ (o : Bool) (H1 : Heap) (locs1 : List Loc), (∀ q : Nat, q < H.size → H1[q]? = H[q]?) → va_S A0 H0 H1 locs1 → X p l e R s m args below meth c H1 locs1 cells slots Qf (kp o) (F0 m (pc + 3) ls (.int (bI o) :: rest))) : X p l e R s m args below meth c H locs cells slots Qf (callK (sM_isDigit p1) kp) (F0 m pc ls (.int p1 :: rest)) := ucS (As := [.int p1]) E hS hA0 (fun sz o ho => mM_isDigit l D ct p1 sz o ho) (va_cwS 1 E.1.2.2.2.2 (lw_S q2065 q2066 q119 q2067) rfl rfl rfl (by decide +kernel) hR) rfl hsize rfl hW hdg hf kk
end MK

set_option maxHeartbeats 4000000 in
theorem mM_isLetter (l : Launch) (D : va_G) (ct : CT) (p1 : Int32) (sz : Nat) (o : Bool) (ho : sM_isLetter p1 = some o) : Met l yX4_isLetter (ws_ yX4_isLetter cX4_isLetter 1 (some .boolean)) { frames := 1, cells := 0, slots := 0, locals := 32 } (mP D clW ct [.int p1] sz (fun _ => True)) (mC (some (.int (bI o))) (fun _ => True) (nA sz)) 0 0 (nA sz) := by
  refine X.start (val := fun (o : Bool) => some (.int (bI o))) (Bt := fun _ _ => True) (A := nA sz) ho (by decide) (Nat.le_of_ble_eq_true rfl) rfl ?_
  intro p e s m args below meth c E hr hlk hnm hsz hU ls hl
  subst hsz
  obtain ⟨⟨hx, hb, hml, hown, hts⟩, hK, hJ⟩ := id E
  have hA0 : ∀ q, s.heap.size ≤ q → (nA s.heap.size) q := fun q h => h
  have hS : va_S (nA s.heap.size) s.heap s.heap [] := va_S.rf
  unfold sM_isLetter
  refine x_iload_n hx hb dX4_isLetter_0 rfl (lv_at hl 0 rfl) ?_
  refine x_bipush (v := 97) hx hb dX4_isLetter_1 (by decide) ?_
  refine x_icmp_lt (tgt := 16) hx hb dX4_isLetter_3 (by decide) (fun hc => ?_) (fun hc => ?_)
  · refine x_iconst (v := 0) hx hb dX4_isLetter_16 (by decide) ?_
    exact x_zret hx hb hr hlk hS rfl rfl trivial dX4_isLetter_17
  · refine x_iload_n hx hb dX4_isLetter_6 rfl (lv_at hl 0 rfl) ?_
    refine x_bipush (v := 122) hx hb dX4_isLetter_7 (by decide) ?_
    refine x_icmp_gt (tgt := 16) hx hb dX4_isLetter_9 (by decide) (fun hc => ?_) (fun hc => ?_)
    · refine x_iconst (v := 0) hx hb dX4_isLetter_16 (by decide) ?_
      exact x_zret hx hb hr hlk hS rfl rfl trivial dX4_isLetter_17
    · refine x_iconst (v := 1) hx hb dX4_isLetter_12 (by decide) ?_
      refine x_goto (tgt := 17) hx hb dX4_isLetter_13 (by decide) ?_
      exact x_zret hx hb hr hlk hS rfl rfl trivial dX4_isLetter_17
section MK
variable {ρ : Type} {p : Program} {l : Launch} {e : Env} {R : Room} {s : State} {m : MethodId} {args : Array Value} {below : List Frame} {meth : Method} {c : Code} {H : Heap} {locs : List Loc} {cells slots : Nat} {Qf : ρ → State → Prop}
variable {cc : ByteArray} {pc nL : Nat} {ls : Array Slot} {rest : List Value}
variable {D : va_G} {ct : CT} {ad : Nat → Nat} {A A0 : Nat → Prop} {S : US} {w : Int64} {H0 : Heap}
theorem kM_isLetter {p1 : Int32} (E : ME p m c cc nL s args RX4 D clW ct) (hS : va_S A0 H0 H locs) (hA0 : ∀ q, H0.size ≤ q → A0 q) (hR : 1 + 1 ≤ R.frames ∧ 8 + (1 + 11) + 32 ≤ R.locals) (hsize : ls.size = nL) (hW : (rest.map fun v => v.category).sum ≤ 8) (hdg : decode cc pc = .ok (.invokestatic 153, 3)) (hf : cells ≤ R.cells ∧ slots ≤ R.slots) {kp : Bool → Option ρ} (kk : ∀ (o : Bool) (H1 : Heap) (locs1 : List Loc), (∀ q : Nat, q < H.size → H1[q]? = H[q]?) → va_S A0 H0 H1 locs1 → X p l e R s m args below meth c H1 locs1 cells slots Qf (kp o) (F0 m (pc + 3) ls (.int (bI o) :: rest))) : X p l e R s m args below meth c H locs cells slots Qf (callK (sM_isLetter p1) kp) (F0 m pc ls (.int p1 :: rest)) := ucS (As := [.int p1]) E hS hA0 (fun sz o ho => mM_isLetter l D ct p1 sz o ho) (va_cwS 1 E.1.2.2.2.2 (lw_S q2062 q2063 q119 q2064) rfl rfl rfl (by decide +kernel) hR) rfl hsize rfl hW hdg hf kk
end MK

set_option maxHeartbeats 4000000 in
theorem mM_goes (l : Launch) (D : va_G) (ct : CT) (ad : Nat → Nat) (S : US) (w : Int64) (sz : Nat) (o : (US × Int64)) (ho : sM_goes S w = some o) : Met l yX4_goes (ws_ yX4_goes cX4_goes 2 none) { frames := 2, cells := 0, slots := 0, locals := 53 } (mP D clW ct [.ref (ad (0))] sz (UM D ct ad (fun _ => True) S w)) (mC (none) (UM D ct ad (fun _ => True) o.1 o.2) (uA 31 ad sz)) 0 0 (uA 31 ad sz) := by
  refine X.start (val := fun (o : (US × Int64)) => none) (Bt := fun (o : (US × Int64)) => UM D ct ad (fun _ => True) o.1 o.2) (A := uA 31 ad sz) ho (by decide) (Nat.le_of_ble_eq_true rfl) rfl ?_
  intro p e s m args below meth c E hr hlk hnm hsz hU ls hl
  subst hsz
  obtain ⟨⟨hx, hb, hml, hown, hts⟩, hK, hJ⟩ := id E
  replace hU := hU.to (B := uA 31 ad s.heap.size) (fun i hi => Or.inl ⟨i, hi, rfl⟩)
  have hA0 : ∀ q, s.heap.size ≤ q → (uA 31 ad s.heap.size) q := fun q h => Or.inr h
  have hS : va_S (uA 31 ad s.heap.size) s.heap s.heap [] := va_S.rf
  unfold sM_goes
  refine X.join2 (fun (x : US) g H locs => UM D ct ad (uA 31 ad s.heap.size) x w H ∧ va_S (uA 31 ad s.heap.size) s.heap H locs ∧ ∃ ls : Array Slot, g = F0 m 50 ls [] ∧ lv_has ls 2 [(0, .ref (ad (0)))]) ?_ (fun j2 hj2 => ?_)
  · rintro S1 _ H locs ⟨hU, hS, ls, rfl, hl⟩
    refine X.eqs (sp2 := sM_goes_J50 S1) rfl ?_
    unfold sM_goes_J50
    refine x_aload_n hx hb dX4_goes_50 rfl (lv_at hl 0 rfl) ?_
    refine x_aload_n hx hb dX4_goes_51 rfl (lv_at hl 0 rfl) ?_
    refine gM_next0 E hU dX4_goes_52 ?_
    refine pM_place E hU hS dX4_goes_55 (fun S3 H locs hU hS => ?_)
    refine x_aload_n hx hb dX4_goes_58 rfl (lv_at hl 0 rfl) ?_
    refine x_lconst (v := 0) hx hb dX4_goes_59 (by decide) ?_
    refine pM_word E hU hS dX4_goes_60 (fun w4 H locs hU hS => ?_)
    refine x_aload_n hx hb dX4_goes_63 rfl (lv_at hl 0 rfl) ?_
    refine x_iconst (v := 0) hx hb dX4_goes_64 (by decide) ?_
    refine pM_value E hU hS dX4_goes_65 (fun S5 H locs hU hS => ?_)
    refine x_aload_n hx hb dX4_goes_68 rfl (lv_at hl 0 rfl) ?_
    refine x_aload_n hx hb dX4_goes_69 rfl (lv_at hl 0 rfl) ?_
    refine gM_next0 E hU dX4_goes_70 ?_
    refine kM_byteAt E hU hS hA0 ⟨by decide, by decide⟩ hl.1 (Nat.le_of_ble_eq_true rfl) dX4_goes_73 ⟨Nat.le_refl _, Nat.le_refl _⟩ (fun o6 H locs hU hS => ?_)
    refine x_istore_n (lv' := [(1, .int o6), (0, .ref (ad (0)))]) hx hb dX4_goes_76 rfl hl (by decide) rfl (fun ls hl => ?_)
    refine x_aload_n hx hb dX4_goes_77 rfl (lv_at hl 1 rfl) ?_
    refine x_iload_n hx hb dX4_goes_78 rfl (lv_at hl 0 rfl) ?_
    refine pM_sign E hU hS dX4_goes_79 (fun S7 H locs hU hS => ?_)
    refine x_aload_n hx hb dX4_goes_82 rfl (lv_at hl 1 rfl) ?_
    refine gM_next0 E hU dX4_goes_83 ?_
    refine x_aload_n hx hb dX4_goes_86 rfl (lv_at hl 1 rfl) ?_
    refine gM_long1 E hU dX4_goes_87 ?_
    refine x_icmp_lt (tgt := 101) hx hb dX4_goes_90 (by decide) (fun hc => ?_) (fun hc => ?_)
    · refine x_iload_n hx hb dX4_goes_101 rfl (lv_at hl 0 rfl) ?_
      refine kM_isLetter E hS hA0 ⟨by decide, by decide⟩ hl.1 (Nat.le_of_ble_eq_true rfl) dX4_goes_102 ⟨Nat.le_refl _, Nat.le_refl _⟩ (fun o8 H locs hk hS => ?_)
      replace hU := hU.kept (fun i hi => hk _ (hU.lt hi))
      refine x_if_eq (tgt := 180) hx hb dX4_goes_105 (by decide) (fun hc => ?_) (fun hc => ?_)
      · refine x_iload_n hx hb dX4_goes_180 rfl (lv_at hl 0 rfl) ?_
        refine kM_isDigit E hS hA0 ⟨by decide, by decide⟩ hl.1 (Nat.le_of_ble_eq_true rfl) dX4_goes_181 ⟨Nat.le_refl _, Nat.le_refl _⟩ (fun o9 H locs hk hS => ?_)
        replace hU := hU.kept (fun i hi => hk _ (hU.lt hi))
        refine x_if_eq (tgt := 258) hx hb dX4_goes_184 (by decide) (fun hc => ?_) (fun hc => ?_)
        · refine x_aload_n hx hb dX4_goes_258 rfl (lv_at hl 1 rfl) ?_
          refine x_dup hx hb dX4_goes_259 rfl ?_
          refine gM_next0 E hU dX4_goes_260 ?_
          refine x_iconst (v := 1) hx hb dX4_goes_263 (by decide) ?_
          refine x_iadd hx hb dX4_goes_264 ?_
          refine pM_next0 E hU hS dX4_goes_265 (fun S10 H locs hU hS => ?_)
          refine x_aload_n hx hb dX4_goes_268 rfl (lv_at hl 1 rfl) ?_
          refine x_iload_n hx hb dX4_goes_269 rfl (lv_at hl 0 rfl) ?_
          refine x_bipush (v := 59) hx hb dX4_goes_270 (by decide) ?_
          refine x_icmp_eq (tgt := 323) hx hb dX4_goes_272 (by decide) (fun hc => ?_) (fun hc => ?_)
          · refine x_iconst (v := 3) hx hb dX4_goes_323 (by decide) ?_
            refine x_goto (tgt := 328) hx hb dX4_goes_324 (by decide) ?_
            refine pM_sort E hU hS dX4_goes_328 (fun S11 H locs hU hS => ?_)
            refine x_aload_n hx hb dX4_goes_331 rfl (lv_at hl 1 rfl) ?_
            refine x_aload_n hx hb dX4_goes_332 rfl (lv_at hl 1 rfl) ?_
            refine gM_next0 E hU dX4_goes_333 ?_
            refine x_aload_n hx hb dX4_goes_336 rfl (lv_at hl 1 rfl) ?_
            refine gM_place E hU dX4_goes_337 ?_
            refine x_isub hx hb dX4_goes_340 ?_
            refine pM_long0 E hU hS dX4_goes_341 (fun S12 H locs hU hS => ?_)
            exact x_vret hx hb hr hlk hS rfl (hU.to fun _ _ => trivial) dX4_goes_344
          · refine x_iload_n hx hb dX4_goes_275 rfl (lv_at hl 0 rfl) ?_
            refine x_bipush (v := 40) hx hb dX4_goes_276 (by decide) ?_
            refine x_icmp_eq (tgt := 323) hx hb dX4_goes_278 (by decide) (fun hc => ?_) (fun hc => ?_)
            · refine x_iconst (v := 3) hx hb dX4_goes_323 (by decide) ?_
              refine x_goto (tgt := 328) hx hb dX4_goes_324 (by decide) ?_
              refine pM_sort E hU hS dX4_goes_328 (fun S13 H locs hU hS => ?_)
              refine x_aload_n hx hb dX4_goes_331 rfl (lv_at hl 1 rfl) ?_
              refine x_aload_n hx hb dX4_goes_332 rfl (lv_at hl 1 rfl) ?_
              refine gM_next0 E hU dX4_goes_333 ?_
              refine x_aload_n hx hb dX4_goes_336 rfl (lv_at hl 1 rfl) ?_
              refine gM_place E hU dX4_goes_337 ?_
              refine x_isub hx hb dX4_goes_340 ?_
              refine pM_long0 E hU hS dX4_goes_341 (fun S14 H locs hU hS => ?_)
              exact x_vret hx hb hr hlk hS rfl (hU.to fun _ _ => trivial) dX4_goes_344
            · refine x_iload_n hx hb dX4_goes_281 rfl (lv_at hl 0 rfl) ?_
              refine x_bipush (v := 41) hx hb dX4_goes_282 (by decide) ?_
              refine x_icmp_eq (tgt := 323) hx hb dX4_goes_284 (by decide) (fun hc => ?_) (fun hc => ?_)
              · refine x_iconst (v := 3) hx hb dX4_goes_323 (by decide) ?_
                refine x_goto (tgt := 328) hx hb dX4_goes_324 (by decide) ?_
                refine pM_sort E hU hS dX4_goes_328 (fun S15 H locs hU hS => ?_)
                refine x_aload_n hx hb dX4_goes_331 rfl (lv_at hl 1 rfl) ?_
                refine x_aload_n hx hb dX4_goes_332 rfl (lv_at hl 1 rfl) ?_
                refine gM_next0 E hU dX4_goes_333 ?_
                refine x_aload_n hx hb dX4_goes_336 rfl (lv_at hl 1 rfl) ?_
                refine gM_place E hU dX4_goes_337 ?_
                refine x_isub hx hb dX4_goes_340 ?_
                refine pM_long0 E hU hS dX4_goes_341 (fun S16 H locs hU hS => ?_)
                exact x_vret hx hb hr hlk hS rfl (hU.to fun _ _ => trivial) dX4_goes_344
              · refine x_iload_n hx hb dX4_goes_287 rfl (lv_at hl 0 rfl) ?_
                refine x_bipush (v := 43) hx hb dX4_goes_288 (by decide) ?_
                refine x_icmp_eq (tgt := 323) hx hb dX4_goes_290 (by decide) (fun hc => ?_) (fun hc => ?_)
                · refine x_iconst (v := 3) hx hb dX4_goes_323 (by decide) ?_
                  refine x_goto (tgt := 328) hx hb dX4_goes_324 (by decide) ?_
                  refine pM_sort E hU hS dX4_goes_328 (fun S17 H locs hU hS => ?_)
                  refine x_aload_n hx hb dX4_goes_331 rfl (lv_at hl 1 rfl) ?_
                  refine x_aload_n hx hb dX4_goes_332 rfl (lv_at hl 1 rfl) ?_
                  refine gM_next0 E hU dX4_goes_333 ?_
                  refine x_aload_n hx hb dX4_goes_336 rfl (lv_at hl 1 rfl) ?_
                  refine gM_place E hU dX4_goes_337 ?_
                  refine x_isub hx hb dX4_goes_340 ?_
                  refine pM_long0 E hU hS dX4_goes_341 (fun S18 H locs hU hS => ?_)
                  exact x_vret hx hb hr hlk hS rfl (hU.to fun _ _ => trivial) dX4_goes_344
                · refine x_iload_n hx hb dX4_goes_293 rfl (lv_at hl 0 rfl) ?_
                  refine x_bipush (v := 45) hx hb dX4_goes_294 (by decide) ?_
                  refine x_icmp_eq (tgt := 323) hx hb dX4_goes_296 (by decide) (fun hc => ?_) (fun hc => ?_)
                  · refine x_iconst (v := 3) hx hb dX4_goes_323 (by decide) ?_
                    refine x_goto (tgt := 328) hx hb dX4_goes_324 (by decide) ?_
                    refine pM_sort E hU hS dX4_goes_328 (fun S19 H locs hU hS => ?_)
                    refine x_aload_n hx hb dX4_goes_331 rfl (lv_at hl 1 rfl) ?_
                    refine x_aload_n hx hb dX4_goes_332 rfl (lv_at hl 1 rfl) ?_
                    refine gM_next0 E hU dX4_goes_333 ?_
                    refine x_aload_n hx hb dX4_goes_336 rfl (lv_at hl 1 rfl) ?_
                    refine gM_place E hU dX4_goes_337 ?_
                    refine x_isub hx hb dX4_goes_340 ?_
                    refine pM_long0 E hU hS dX4_goes_341 (fun S20 H locs hU hS => ?_)
                    exact x_vret hx hb hr hlk hS rfl (hU.to fun _ _ => trivial) dX4_goes_344
                  · refine x_iload_n hx hb dX4_goes_299 rfl (lv_at hl 0 rfl) ?_
                    refine x_bipush (v := 42) hx hb dX4_goes_300 (by decide) ?_
                    refine x_icmp_eq (tgt := 323) hx hb dX4_goes_302 (by decide) (fun hc => ?_) (fun hc => ?_)
                    · refine x_iconst (v := 3) hx hb dX4_goes_323 (by decide) ?_
                      refine x_goto (tgt := 328) hx hb dX4_goes_324 (by decide) ?_
                      refine pM_sort E hU hS dX4_goes_328 (fun S21 H locs hU hS => ?_)
                      refine x_aload_n hx hb dX4_goes_331 rfl (lv_at hl 1 rfl) ?_
                      refine x_aload_n hx hb dX4_goes_332 rfl (lv_at hl 1 rfl) ?_
                      refine gM_next0 E hU dX4_goes_333 ?_
                      refine x_aload_n hx hb dX4_goes_336 rfl (lv_at hl 1 rfl) ?_
                      refine gM_place E hU dX4_goes_337 ?_
                      refine x_isub hx hb dX4_goes_340 ?_
                      refine pM_long0 E hU hS dX4_goes_341 (fun S22 H locs hU hS => ?_)
                      exact x_vret hx hb hr hlk hS rfl (hU.to fun _ _ => trivial) dX4_goes_344
                    · refine x_iload_n hx hb dX4_goes_305 rfl (lv_at hl 0 rfl) ?_
                      refine x_bipush (v := 47) hx hb dX4_goes_306 (by decide) ?_
                      refine x_icmp_eq (tgt := 323) hx hb dX4_goes_308 (by decide) (fun hc => ?_) (fun hc => ?_)
                      · refine x_iconst (v := 3) hx hb dX4_goes_323 (by decide) ?_
                        refine x_goto (tgt := 328) hx hb dX4_goes_324 (by decide) ?_
                        refine pM_sort E hU hS dX4_goes_328 (fun S23 H locs hU hS => ?_)
                        refine x_aload_n hx hb dX4_goes_331 rfl (lv_at hl 1 rfl) ?_
                        refine x_aload_n hx hb dX4_goes_332 rfl (lv_at hl 1 rfl) ?_
                        refine gM_next0 E hU dX4_goes_333 ?_
                        refine x_aload_n hx hb dX4_goes_336 rfl (lv_at hl 1 rfl) ?_
                        refine gM_place E hU dX4_goes_337 ?_
                        refine x_isub hx hb dX4_goes_340 ?_
                        refine pM_long0 E hU hS dX4_goes_341 (fun S24 H locs hU hS => ?_)
                        exact x_vret hx hb hr hlk hS rfl (hU.to fun _ _ => trivial) dX4_goes_344
                      · refine x_iload_n hx hb dX4_goes_311 rfl (lv_at hl 0 rfl) ?_
                        refine x_bipush (v := 60) hx hb dX4_goes_312 (by decide) ?_
                        refine x_icmp_eq (tgt := 323) hx hb dX4_goes_314 (by decide) (fun hc => ?_) (fun hc => ?_)
                        · refine x_iconst (v := 3) hx hb dX4_goes_323 (by decide) ?_
                          refine x_goto (tgt := 328) hx hb dX4_goes_324 (by decide) ?_
                          refine pM_sort E hU hS dX4_goes_328 (fun S25 H locs hU hS => ?_)
                          refine x_aload_n hx hb dX4_goes_331 rfl (lv_at hl 1 rfl) ?_
                          refine x_aload_n hx hb dX4_goes_332 rfl (lv_at hl 1 rfl) ?_
                          refine gM_next0 E hU dX4_goes_333 ?_
                          refine x_aload_n hx hb dX4_goes_336 rfl (lv_at hl 1 rfl) ?_
                          refine gM_place E hU dX4_goes_337 ?_
                          refine x_isub hx hb dX4_goes_340 ?_
                          refine pM_long0 E hU hS dX4_goes_341 (fun S26 H locs hU hS => ?_)
                          exact x_vret hx hb hr hlk hS rfl (hU.to fun _ _ => trivial) dX4_goes_344
                        · refine x_iload_n hx hb dX4_goes_317 rfl (lv_at hl 0 rfl) ?_
                          refine x_bipush (v := 61) hx hb dX4_goes_318 (by decide) ?_
                          refine x_icmp_ne (tgt := 327) hx hb dX4_goes_320 (by decide) (fun hc => ?_) (fun hc => ?_)
                          · refine x_iconst (v := 4) hx hb dX4_goes_327 (by decide) ?_
                            refine pM_sort E hU hS dX4_goes_328 (fun S27 H locs hU hS => ?_)
                            refine x_aload_n hx hb dX4_goes_331 rfl (lv_at hl 1 rfl) ?_
                            refine x_aload_n hx hb dX4_goes_332 rfl (lv_at hl 1 rfl) ?_
                            refine gM_next0 E hU dX4_goes_333 ?_
                            refine x_aload_n hx hb dX4_goes_336 rfl (lv_at hl 1 rfl) ?_
                            refine gM_place E hU dX4_goes_337 ?_
                            refine x_isub hx hb dX4_goes_340 ?_
                            refine pM_long0 E hU hS dX4_goes_341 (fun S28 H locs hU hS => ?_)
                            exact x_vret hx hb hr hlk hS rfl (hU.to fun _ _ => trivial) dX4_goes_344
                          · refine x_iconst (v := 3) hx hb dX4_goes_323 (by decide) ?_
                            refine x_goto (tgt := 328) hx hb dX4_goes_324 (by decide) ?_
                            refine pM_sort E hU hS dX4_goes_328 (fun S29 H locs hU hS => ?_)
                            refine x_aload_n hx hb dX4_goes_331 rfl (lv_at hl 1 rfl) ?_
                            refine x_aload_n hx hb dX4_goes_332 rfl (lv_at hl 1 rfl) ?_
                            refine gM_next0 E hU dX4_goes_333 ?_
                            refine x_aload_n hx hb dX4_goes_336 rfl (lv_at hl 1 rfl) ?_
                            refine gM_place E hU dX4_goes_337 ?_
                            refine x_isub hx hb dX4_goes_340 ?_
                            refine pM_long0 E hU hS dX4_goes_341 (fun S30 H locs hU hS => ?_)
                            exact x_vret hx hb hr hlk hS rfl (hU.to fun _ _ => trivial) dX4_goes_344
        · refine X.loop (I := fun (x : US) g H locs => UM D ct ad (uA 31 ad s.heap.size) x w4 H ∧ va_S (uA 31 ad s.heap.size) s.heap H locs ∧ ∃ ls : Array Slot, g = F0 m 187 ls [] ∧ lv_has ls 2 [(0, .ref (ad (0)))]) (fun rc32 ih32 => ?_) FUEL _ _ _ _ ⟨hU, hS, _, rfl, lv_sub hl [1] rfl⟩
          rintro S31 _ H locs ⟨hU, hS, ls, rfl, hl⟩
          refine X.eqs (sp2 := sM_goes_L187 w4 rc32 S31) rfl ?_
          unfold sM_goes_L187
          refine x_aload_n hx hb dX4_goes_187 rfl (lv_at hl 0 rfl) ?_
          refine x_aload_n hx hb dX4_goes_188 rfl (lv_at hl 0 rfl) ?_
          refine gM_next0 E hU dX4_goes_189 ?_
          refine kM_byteAt E hU hS hA0 ⟨by decide, by decide⟩ hl.1 (Nat.le_of_ble_eq_true rfl) dX4_goes_192 ⟨Nat.le_refl _, Nat.le_refl _⟩ (fun o33 H locs hU hS => ?_)
          refine kM_isDigit E hS hA0 ⟨by decide, by decide⟩ hl.1 (Nat.le_of_ble_eq_true rfl) dX4_goes_195 ⟨Nat.le_refl _, Nat.le_refl _⟩ (fun o34 H locs hk hS => ?_)
          replace hU := hU.kept (fun i hi => hk _ (hU.lt hi))
          refine x_if_eq (tgt := 250) hx hb dX4_goes_198 (by decide) (fun hc => ?_) (fun hc => ?_)
          · refine x_aload_n hx hb dX4_goes_250 rfl (lv_at hl 0 rfl) ?_
            refine x_iconst (v := 2) hx hb dX4_goes_251 (by decide) ?_
            refine pM_sort E hU hS dX4_goes_252 (fun S35 H locs hU hS => ?_)
            refine x_goto (tgt := 331) hx hb dX4_goes_255 (by decide) ?_
            refine x_aload_n hx hb dX4_goes_331 rfl (lv_at hl 0 rfl) ?_
            refine x_aload_n hx hb dX4_goes_332 rfl (lv_at hl 0 rfl) ?_
            refine gM_next0 E hU dX4_goes_333 ?_
            refine x_aload_n hx hb dX4_goes_336 rfl (lv_at hl 0 rfl) ?_
            refine gM_place E hU dX4_goes_337 ?_
            refine x_isub hx hb dX4_goes_340 ?_
            refine pM_long0 E hU hS dX4_goes_341 (fun S36 H locs hU hS => ?_)
            exact x_vret hx hb hr hlk hS rfl (hU.to fun _ _ => trivial) dX4_goes_344
          · refine x_aload_n hx hb dX4_goes_201 rfl (lv_at hl 0 rfl) ?_
            refine gM_next0 E hU dX4_goes_202 ?_
            refine x_aload_n hx hb dX4_goes_205 rfl (lv_at hl 0 rfl) ?_
            refine gM_place E hU dX4_goes_206 ?_
            refine x_isub hx hb dX4_goes_209 ?_
            refine x_iconst (v := 4) hx hb dX4_goes_210 (by decide) ?_
            refine x_icmp_ge (tgt := 237) hx hb dX4_goes_211 (by decide) (fun hc => ?_) (fun hc => ?_)
            · refine x_aload_n hx hb dX4_goes_237 rfl (lv_at hl 0 rfl) ?_
              refine x_dup hx hb dX4_goes_238 rfl ?_
              refine gM_next0 E hU dX4_goes_239 ?_
              refine x_iconst (v := 1) hx hb dX4_goes_242 (by decide) ?_
              refine x_iadd hx hb dX4_goes_243 ?_
              refine pM_next0 E hU hS dX4_goes_244 (fun S37 H locs hU hS => ?_)
              refine x_goto (tgt := 187) hx hb dX4_goes_247 (by decide) ?_
              exact ih32 S37 _ _ _ ⟨hU, hS, _, rfl, lv_sub hl [0] rfl⟩
            · refine x_aload_n hx hb dX4_goes_214 rfl (lv_at hl 0 rfl) ?_
              refine x_bipush (v := 10) hx hb dX4_goes_215 (by decide) ?_
              refine x_aload_n hx hb dX4_goes_217 rfl (lv_at hl 0 rfl) ?_
              refine gM_value E hU dX4_goes_218 ?_
              refine x_imul hx hb dX4_goes_221 ?_
              refine x_aload_n hx hb dX4_goes_222 rfl (lv_at hl 0 rfl) ?_
              refine x_aload_n hx hb dX4_goes_223 rfl (lv_at hl 0 rfl) ?_
              refine gM_next0 E hU dX4_goes_224 ?_
              refine kM_byteAt E hU hS hA0 ⟨by decide, by decide⟩ hl.1 (Nat.le_of_ble_eq_true rfl) dX4_goes_227 ⟨Nat.le_refl _, Nat.le_refl _⟩ (fun o38 H locs hU hS => ?_)
              refine x_iadd hx hb dX4_goes_230 ?_
              refine x_bipush (v := 48) hx hb dX4_goes_231 (by decide) ?_
              refine x_isub hx hb dX4_goes_233 ?_
              refine pM_value E hU hS dX4_goes_234 (fun S39 H locs hU hS => ?_)
              refine x_aload_n hx hb dX4_goes_237 rfl (lv_at hl 0 rfl) ?_
              refine x_dup hx hb dX4_goes_238 rfl ?_
              refine gM_next0 E hU dX4_goes_239 ?_
              refine x_iconst (v := 1) hx hb dX4_goes_242 (by decide) ?_
              refine x_iadd hx hb dX4_goes_243 ?_
              refine pM_next0 E hU hS dX4_goes_244 (fun S40 H locs hU hS => ?_)
              refine x_goto (tgt := 187) hx hb dX4_goes_247 (by decide) ?_
              exact ih32 S40 _ _ _ ⟨hU, hS, _, rfl, lv_sub hl [0] rfl⟩
      · refine X.loop (I := fun (x : (US × Int64)) g H locs => UM D ct ad (uA 31 ad s.heap.size) x.1 x.2 H ∧ va_S (uA 31 ad s.heap.size) s.heap H locs ∧ ∃ ls : Array Slot, g = F0 m 108 ls [] ∧ lv_has ls 2 [(0, .ref (ad (0)))]) (fun rc43 ih43 => ?_) FUEL _ _ _ _ ⟨hU, hS, _, rfl, lv_sub hl [1] rfl⟩
        rintro ⟨S41, w42⟩ _ H locs ⟨hU, hS, ls, rfl, hl⟩
        have hU : UM D ct ad (uA 31 ad s.heap.size) S41 w42 H := hU
        have hl : lv_has ls 2 [(0, .ref (ad (0)))] := hl
        refine X.eqs (sp2 := sM_goes_L108 rc43 S41 w42) rfl ?_
        unfold sM_goes_L108
        refine x_aload_n hx hb dX4_goes_108 rfl (lv_at hl 0 rfl) ?_
        refine x_aload_n hx hb dX4_goes_109 rfl (lv_at hl 0 rfl) ?_
        refine gM_next0 E hU dX4_goes_110 ?_
        refine kM_byteAt E hU hS hA0 ⟨by decide, by decide⟩ hl.1 (Nat.le_of_ble_eq_true rfl) dX4_goes_113 ⟨Nat.le_refl _, Nat.le_refl _⟩ (fun o44 H locs hU hS => ?_)
        refine kM_isLetter E hS hA0 ⟨by decide, by decide⟩ hl.1 (Nat.le_of_ble_eq_true rfl) dX4_goes_116 ⟨Nat.le_refl _, Nat.le_refl _⟩ (fun o45 H locs hk hS => ?_)
        replace hU := hU.kept (fun i hi => hk _ (hU.lt hi))
        refine x_if_eq (tgt := 172) hx hb dX4_goes_119 (by decide) (fun hc => ?_) (fun hc => ?_)
        · refine x_aload_n hx hb dX4_goes_172 rfl (lv_at hl 0 rfl) ?_
          refine x_iconst (v := 1) hx hb dX4_goes_173 (by decide) ?_
          refine pM_sort E hU hS dX4_goes_174 (fun S46 H locs hU hS => ?_)
          refine x_goto (tgt := 331) hx hb dX4_goes_177 (by decide) ?_
          refine x_aload_n hx hb dX4_goes_331 rfl (lv_at hl 0 rfl) ?_
          refine x_aload_n hx hb dX4_goes_332 rfl (lv_at hl 0 rfl) ?_
          refine gM_next0 E hU dX4_goes_333 ?_
          refine x_aload_n hx hb dX4_goes_336 rfl (lv_at hl 0 rfl) ?_
          refine gM_place E hU dX4_goes_337 ?_
          refine x_isub hx hb dX4_goes_340 ?_
          refine pM_long0 E hU hS dX4_goes_341 (fun S47 H locs hU hS => ?_)
          exact x_vret hx hb hr hlk hS rfl (hU.to fun _ _ => trivial) dX4_goes_344
        · refine x_aload_n hx hb dX4_goes_122 rfl (lv_at hl 0 rfl) ?_
          refine gM_next0 E hU dX4_goes_123 ?_
          refine x_aload_n hx hb dX4_goes_126 rfl (lv_at hl 0 rfl) ?_
          refine gM_place E hU dX4_goes_127 ?_
          refine x_isub hx hb dX4_goes_130 ?_
          refine x_bipush (v := 7) hx hb dX4_goes_131 (by decide) ?_
          refine x_icmp_ge (tgt := 159) hx hb dX4_goes_133 (by decide) (fun hc => ?_) (fun hc => ?_)
          · refine x_aload_n hx hb dX4_goes_159 rfl (lv_at hl 0 rfl) ?_
            refine x_dup hx hb dX4_goes_160 rfl ?_
            refine gM_next0 E hU dX4_goes_161 ?_
            refine x_iconst (v := 1) hx hb dX4_goes_164 (by decide) ?_
            refine x_iadd hx hb dX4_goes_165 ?_
            refine pM_next0 E hU hS dX4_goes_166 (fun S48 H locs hU hS => ?_)
            refine x_goto (tgt := 108) hx hb dX4_goes_169 (by decide) ?_
            exact ih43 (S48, w42) _ _ _ ⟨hU, hS, _, rfl, lv_sub hl [0] rfl⟩
          · refine x_aload_n hx hb dX4_goes_136 rfl (lv_at hl 0 rfl) ?_
            refine x_aload_n hx hb dX4_goes_137 rfl (lv_at hl 0 rfl) ?_
            refine gM_word E hU dX4_goes_138 ?_
            refine x_iconst (v := 5) hx hb dX4_goes_141 (by decide) ?_
            refine x_lshl hx hb dX4_goes_142 rfl ?_
            refine x_aload_n hx hb dX4_goes_143 rfl (lv_at hl 0 rfl) ?_
            refine x_aload_n hx hb dX4_goes_144 rfl (lv_at hl 0 rfl) ?_
            refine gM_next0 E hU dX4_goes_145 ?_
            refine kM_byteAt E hU hS hA0 ⟨by decide, by decide⟩ hl.1 (Nat.le_of_ble_eq_true rfl) dX4_goes_148 ⟨Nat.le_refl _, Nat.le_refl _⟩ (fun o49 H locs hU hS => ?_)
            refine x_bipush (v := 96) hx hb dX4_goes_151 (by decide) ?_
            refine x_isub hx hb dX4_goes_153 ?_
            refine x_i2l hx hb dX4_goes_154 rfl ?_
            refine x_lor hx hb dX4_goes_155 ?_
            refine pM_word E hU hS dX4_goes_156 (fun w50 H locs hU hS => ?_)
            refine x_aload_n hx hb dX4_goes_159 rfl (lv_at hl 0 rfl) ?_
            refine x_dup hx hb dX4_goes_160 rfl ?_
            refine gM_next0 E hU dX4_goes_161 ?_
            refine x_iconst (v := 1) hx hb dX4_goes_164 (by decide) ?_
            refine x_iadd hx hb dX4_goes_165 ?_
            refine pM_next0 E hU hS dX4_goes_166 (fun S51 H locs hU hS => ?_)
            refine x_goto (tgt := 108) hx hb dX4_goes_169 (by decide) ?_
            exact ih43 (S51, w50) _ _ _ ⟨hU, hS, _, rfl, lv_sub hl [0] rfl⟩
    · refine x_aload_n hx hb dX4_goes_93 rfl (lv_at hl 1 rfl) ?_
      refine x_iconst (v := 0) hx hb dX4_goes_94 (by decide) ?_
      refine pM_sort E hU hS dX4_goes_95 (fun S52 H locs hU hS => ?_)
      refine x_goto (tgt := 331) hx hb dX4_goes_98 (by decide) ?_
      refine x_aload_n hx hb dX4_goes_331 rfl (lv_at hl 1 rfl) ?_
      refine x_aload_n hx hb dX4_goes_332 rfl (lv_at hl 1 rfl) ?_
      refine gM_next0 E hU dX4_goes_333 ?_
      refine x_aload_n hx hb dX4_goes_336 rfl (lv_at hl 1 rfl) ?_
      refine gM_place E hU dX4_goes_337 ?_
      refine x_isub hx hb dX4_goes_340 ?_
      refine pM_long0 E hU hS dX4_goes_341 (fun S53 H locs hU hS => ?_)
      exact x_vret hx hb hr hlk hS rfl (hU.to fun _ _ => trivial) dX4_goes_344
  · refine X.loop (I := fun (x : US) g H locs => UM D ct ad (uA 31 ad s.heap.size) x w H ∧ va_S (uA 31 ad s.heap.size) s.heap H locs ∧ ∃ ls : Array Slot, g = F0 m 0 ls [] ∧ lv_has ls 2 [(0, .ref (ad (0)))]) (fun rc55 ih55 => ?_) FUEL _ _ _ _ ⟨hU, hS, _, rfl, lv_sub hl [0] rfl⟩
    rintro S54 _ H locs ⟨hU, hS, ls, rfl, hl⟩
    refine X.eqs (sp2 := sM_goes_L0 j2 rc55 S54) rfl ?_
    unfold sM_goes_L0
    refine x_aload_n hx hb dX4_goes_0 rfl (lv_at hl 0 rfl) ?_
    refine gM_next0 E hU dX4_goes_1 ?_
    refine x_aload_n hx hb dX4_goes_4 rfl (lv_at hl 0 rfl) ?_
    refine gM_long1 E hU dX4_goes_5 ?_
    refine x_icmp_ge (tgt := 50) hx hb dX4_goes_8 (by decide) (fun hc => ?_) (fun hc => ?_)
    · exact hj2 S54 _ _ _ ⟨hU, hS, _, rfl, lv_sub hl [0] rfl⟩
    · refine x_aload_n hx hb dX4_goes_11 rfl (lv_at hl 0 rfl) ?_
      refine x_aload_n hx hb dX4_goes_12 rfl (lv_at hl 0 rfl) ?_
      refine gM_next0 E hU dX4_goes_13 ?_
      refine kM_byteAt E hU hS hA0 ⟨by decide, by decide⟩ hl.1 (Nat.le_of_ble_eq_true rfl) dX4_goes_16 ⟨Nat.le_refl _, Nat.le_refl _⟩ (fun o56 H locs hU hS => ?_)
      refine x_bipush (v := 32) hx hb dX4_goes_19 (by decide) ?_
      refine x_icmp_eq (tgt := 37) hx hb dX4_goes_21 (by decide) (fun hc => ?_) (fun hc => ?_)
      · refine x_aload_n hx hb dX4_goes_37 rfl (lv_at hl 0 rfl) ?_
        refine x_dup hx hb dX4_goes_38 rfl ?_
        refine gM_next0 E hU dX4_goes_39 ?_
        refine x_iconst (v := 1) hx hb dX4_goes_42 (by decide) ?_
        refine x_iadd hx hb dX4_goes_43 ?_
        refine pM_next0 E hU hS dX4_goes_44 (fun S57 H locs hU hS => ?_)
        refine x_goto (tgt := 0) hx hb dX4_goes_47 (by decide) ?_
        exact ih55 S57 _ _ _ ⟨hU, hS, _, rfl, lv_sub hl [0] rfl⟩
      · refine x_aload_n hx hb dX4_goes_24 rfl (lv_at hl 0 rfl) ?_
        refine x_aload_n hx hb dX4_goes_25 rfl (lv_at hl 0 rfl) ?_
        refine gM_next0 E hU dX4_goes_26 ?_
        refine kM_byteAt E hU hS hA0 ⟨by decide, by decide⟩ hl.1 (Nat.le_of_ble_eq_true rfl) dX4_goes_29 ⟨Nat.le_refl _, Nat.le_refl _⟩ (fun o58 H locs hU hS => ?_)
        refine x_bipush (v := 10) hx hb dX4_goes_32 (by decide) ?_
        refine x_icmp_ne (tgt := 50) hx hb dX4_goes_34 (by decide) (fun hc => ?_) (fun hc => ?_)
        · exact hj2 S54 _ _ _ ⟨hU, hS, _, rfl, lv_sub hl [0] rfl⟩
        · refine x_aload_n hx hb dX4_goes_37 rfl (lv_at hl 0 rfl) ?_
          refine x_dup hx hb dX4_goes_38 rfl ?_
          refine gM_next0 E hU dX4_goes_39 ?_
          refine x_iconst (v := 1) hx hb dX4_goes_42 (by decide) ?_
          refine x_iadd hx hb dX4_goes_43 ?_
          refine pM_next0 E hU hS dX4_goes_44 (fun S59 H locs hU hS => ?_)
          refine x_goto (tgt := 0) hx hb dX4_goes_47 (by decide) ?_
          exact ih55 S59 _ _ _ ⟨hU, hS, _, rfl, lv_sub hl [0] rfl⟩
section MK
variable {ρ : Type} {p : Program} {l : Launch} {e : Env} {R : Room} {s : State} {m : MethodId} {args : Array Value} {below : List Frame} {meth : Method} {c : Code} {H : Heap} {locs : List Loc} {cells slots : Nat} {Qf : ρ → State → Prop}
variable {cc : ByteArray} {pc nL : Nat} {ls : Array Slot} {rest : List Value}
variable {D : va_G} {ct : CT} {ad : Nat → Nat} {A A0 : Nat → Prop} {S : US} {w : Int64} {H0 : Heap}
theorem kM_goes (E : ME p m c cc nL s args RX4 D clW ct) (hU : UM D ct ad A S w H) (hS : va_S A H0 H locs) (hA0 : ∀ q, H0.size ≤ q → A q) (hR : 2 + 1 ≤ R.frames ∧ 8 + (2 + 11) + 53 ≤ R.locals) (hsize : ls.size = nL) (hW : (rest.map fun v => v.category).sum ≤ 8) (hdg : decode cc pc = .ok (.invokevirtual 180, 3)) (hf : cells ≤ R.cells ∧ slots ≤ R.slots) {kp : (US × Int64) → Option ρ} (kk : ∀ (o : (US × Int64)) (H1 : Heap) (locs1 : List Loc), UM D ct ad A o.1 o.2 H1 → va_S A H0 H1 locs1 → X p l e R s m args below meth c H1 locs1 cells slots Qf (kp o) (F0 m (pc + 3) ls (rest))) : X p l e R s m args below meth c H locs cells slots Qf (callK (sM_goes S w) kp) (F0 m pc ls (.ref (ad 0) :: rest)) := ucV_mod (i := 0) (So := fun (o : (US × Int64)) => o.1) (wo := fun (o : (US × Int64)) => o.2) (As := []) E hU hS hA0 (by decide) rfl rfl (fun sz o ho => mM_goes l D ct ad S w sz o ho) (cwV 0 E.1.2.2.2.2 (lw_V q2054 q2056 qs51 q119 q2057) rfl rfl rfl (by decide +kernel) hR) rfl hsize rfl hW hdg hf kk
end MK

set_option maxHeartbeats 4000000 in
theorem mM_isGood (l : Launch) (D : va_G) (ct : CT) (ad : Nat → Nat) (S : US) (w : Int64) (sz : Nat) (o : Bool) (ho : sM_isGood S = some o) : Met l yX4_isGood (ws_ yX4_isGood cX4_isGood 1 (some .boolean)) { frames := 1, cells := 0, slots := 0, locals := 32 } (mP D clW ct [.ref (ad (0))] sz (UM D ct ad (fun _ => True) S w)) (mC (some (.int (bI o))) (fun _ => True) (nA sz)) 0 0 (nA sz) := by
  refine X.start (val := fun (o : Bool) => some (.int (bI o))) (Bt := fun _ _ => True) (A := nA sz) ho (by decide) (Nat.le_of_ble_eq_true rfl) rfl ?_
  intro p e s m args below meth c E hr hlk hnm hsz hU ls hl
  subst hsz
  obtain ⟨⟨hx, hb, hml, hown, hts⟩, hK, hJ⟩ := id E
  have hA0 : ∀ q, s.heap.size ≤ q → (nA s.heap.size) q := fun q h => h
  have hS : va_S (nA s.heap.size) s.heap s.heap [] := va_S.rf
  unfold sM_isGood
  refine x_aload_n hx hb dX4_isGood_0 rfl (lv_at hl 0 rfl) ?_
  refine gM_faultKind E hU dX4_isGood_1 ?_
  refine x_if_ne (tgt := 11) hx hb dX4_isGood_4 (by decide) (fun hc => ?_) (fun hc => ?_)
  · refine x_iconst (v := 0) hx hb dX4_isGood_11 (by decide) ?_
    exact x_zret hx hb hr hlk hS rfl rfl trivial dX4_isGood_12
  · refine x_iconst (v := 1) hx hb dX4_isGood_7 (by decide) ?_
    refine x_goto (tgt := 12) hx hb dX4_isGood_8 (by decide) ?_
    exact x_zret hx hb hr hlk hS rfl rfl trivial dX4_isGood_12
section MK
variable {ρ : Type} {p : Program} {l : Launch} {e : Env} {R : Room} {s : State} {m : MethodId} {args : Array Value} {below : List Frame} {meth : Method} {c : Code} {H : Heap} {locs : List Loc} {cells slots : Nat} {Qf : ρ → State → Prop}
variable {cc : ByteArray} {pc nL : Nat} {ls : Array Slot} {rest : List Value}
variable {D : va_G} {ct : CT} {ad : Nat → Nat} {A A0 : Nat → Prop} {S : US} {w : Int64} {H0 : Heap}
theorem kM_isGood (E : ME p m c cc nL s args RX4 D clW ct) (hU : UM D ct ad A S w H) (hS : va_S A0 H0 H locs) (hA0 : ∀ q, H0.size ≤ q → A0 q) (hR : 1 + 1 ≤ R.frames ∧ 8 + (1 + 11) + 32 ≤ R.locals) (hsize : ls.size = nL) (hW : (rest.map fun v => v.category).sum ≤ 8) (hdg : decode cc pc = .ok (.invokevirtual 176, 3)) (hf : cells ≤ R.cells ∧ slots ≤ R.slots) {kp : Bool → Option ρ} (kk : ∀ (o : Bool) (H1 : Heap) (locs1 : List Loc), UM D ct ad A S w H1 → va_S A0 H0 H1 locs1 → X p l e R s m args below meth c H1 locs1 cells slots Qf (kp o) (F0 m (pc + 3) ls (.int (bI o) :: rest))) : X p l e R s m args below meth c H locs cells slots Qf (callK (sM_isGood S) kp) (F0 m pc ls (.ref (ad 0) :: rest)) := ucV_pure (i := 0) (As := []) E hU hS hA0 (by decide) rfl rfl (fun sz o ho => mM_isGood l D ct ad S w sz o ho) (cwV 0 E.1.2.2.2.2 (lw_V q2068 q2070 qs53 q119 q2071) rfl rfl rfl (by decide +kernel) hR) rfl hsize rfl hW hdg hf kk
end MK

set_option maxHeartbeats 4000000 in
theorem mM_wrong (l : Launch) (D : va_G) (ct : CT) (ad : Nat → Nat) (S : US) (w : Int64) (p1 : Int32) (sz : Nat) (o : US) (ho : sM_wrong S p1 = some o) : Met l yX4_wrong (ws_ yX4_wrong cX4_wrong 2 none) { frames := 1, cells := 0, slots := 0, locals := 32 } (mP D clW ct [.ref (ad (0)), .int p1] sz (UM D ct ad (fun _ => True) S w)) (mC (none) (UM D ct ad (fun _ => True) o w) (uA 31 ad sz)) 0 0 (uA 31 ad sz) := by
  refine X.start (val := fun (o : US) => none) (Bt := fun (o : US) => UM D ct ad (fun _ => True) o w) (A := uA 31 ad sz) ho (by decide) (Nat.le_of_ble_eq_true rfl) rfl ?_
  intro p e s m args below meth c E hr hlk hnm hsz hU ls hl
  subst hsz
  obtain ⟨⟨hx, hb, hml, hown, hts⟩, hK, hJ⟩ := id E
  replace hU := hU.to (B := uA 31 ad s.heap.size) (fun i hi => Or.inl ⟨i, hi, rfl⟩)
  have hA0 : ∀ q, s.heap.size ≤ q → (uA 31 ad s.heap.size) q := fun q h => Or.inr h
  have hS : va_S (uA 31 ad s.heap.size) s.heap s.heap [] := va_S.rf
  unfold sM_wrong
  refine x_aload_n hx hb dX4_wrong_0 rfl (lv_at hl 0 rfl) ?_
  refine gM_faultKind E hU dX4_wrong_1 ?_
  refine x_if_eq (tgt := 8) hx hb dX4_wrong_4 (by decide) (fun hc => ?_) (fun hc => ?_)
  · refine x_aload_n hx hb dX4_wrong_8 rfl (lv_at hl 0 rfl) ?_
    refine x_iload_n hx hb dX4_wrong_9 rfl (lv_at hl 1 rfl) ?_
    refine pM_faultKind E hU hS dX4_wrong_10 (fun S1 H locs hU hS => ?_)
    refine x_aload_n hx hb dX4_wrong_13 rfl (lv_at hl 0 rfl) ?_
    refine x_aload_n hx hb dX4_wrong_14 rfl (lv_at hl 0 rfl) ?_
    refine gM_place E hU dX4_wrong_15 ?_
    refine pM_faultPlace E hU hS dX4_wrong_18 (fun S2 H locs hU hS => ?_)
    exact x_vret hx hb hr hlk hS rfl (hU.to fun _ _ => trivial) dX4_wrong_21
  · exact x_vret hx hb hr hlk hS rfl (hU.to fun _ _ => trivial) dX4_wrong_7
section MK
variable {ρ : Type} {p : Program} {l : Launch} {e : Env} {R : Room} {s : State} {m : MethodId} {args : Array Value} {below : List Frame} {meth : Method} {c : Code} {H : Heap} {locs : List Loc} {cells slots : Nat} {Qf : ρ → State → Prop}
variable {cc : ByteArray} {pc nL : Nat} {ls : Array Slot} {rest : List Value}
variable {D : va_G} {ct : CT} {ad : Nat → Nat} {A A0 : Nat → Prop} {S : US} {w : Int64} {H0 : Heap}
theorem kM_wrong {p1 : Int32} (E : ME p m c cc nL s args RX4 D clW ct) (hU : UM D ct ad A S w H) (hS : va_S A H0 H locs) (hA0 : ∀ q, H0.size ≤ q → A q) (hR : 1 + 1 ≤ R.frames ∧ 8 + (2 + 11) + 32 ≤ R.locals) (hsize : ls.size = nL) (hW : (rest.map fun v => v.category).sum ≤ 8) (hdg : decode cc pc = .ok (.invokevirtual 183, 3)) (hf : cells ≤ R.cells ∧ slots ≤ R.slots) {kp : US → Option ρ} (kk : ∀ (o : US) (H1 : Heap) (locs1 : List Loc), UM D ct ad A o w H1 → va_S A H0 H1 locs1 → X p l e R s m args below meth c H1 locs1 cells slots Qf (kp o) (F0 m (pc + 3) ls (rest))) : X p l e R s m args below meth c H locs cells slots Qf (callK (sM_wrong S p1) kp) (F0 m pc ls (.int p1 :: .ref (ad 0) :: rest)) := ucV_mod (i := 0) (So := fun (o : US) => o) (wo := fun (o : US) => w) (As := [.int p1]) E hU hS hA0 (by decide) rfl rfl (fun sz o ho => mM_wrong l D ct ad S w p1 sz o ho) (cwV 1 E.1.2.2.2.2 (lw_V q2091 q2093 qs57 q119 q2094) rfl rfl rfl (by decide +kernel) hR) rfl hsize rfl hW hdg hf kk
end MK

set_option maxHeartbeats 4000000 in
theorem mM_begins (l : Launch) (D : va_G) (ct : CT) (ad : Nat → Nat) (S : US) (w : Int64) (p1 : Int32) (p2 : Int32) (sz : Nat) (o : (Bool × US × Int64)) (ho : sM_begins S w p1 p2 = some o) : Met l yX4_begins (ws_ yX4_begins cX4_begins 3 (some .boolean)) { frames := 3, cells := 0, slots := 0, locals := 74 } (mP D clW ct [.ref (ad (0)), .int p1, .int p2] sz (UM D ct ad (fun _ => True) S w)) (mC (some (.int (bI o.1))) (UM D ct ad (fun _ => True) o.2.1 o.2.2) (uA 31 ad sz)) 0 0 (uA 31 ad sz) := by
  refine X.start (val := fun (o : (Bool × US × Int64)) => some (.int (bI o.1))) (Bt := fun (o : (Bool × US × Int64)) => UM D ct ad (fun _ => True) o.2.1 o.2.2) (A := uA 31 ad sz) ho (by decide) (Nat.le_of_ble_eq_true rfl) rfl ?_
  intro p e s m args below meth c E hr hlk hnm hsz hU ls hl
  subst hsz
  obtain ⟨⟨hx, hb, hml, hown, hts⟩, hK, hJ⟩ := id E
  replace hU := hU.to (B := uA 31 ad s.heap.size) (fun i hi => Or.inl ⟨i, hi, rfl⟩)
  have hA0 : ∀ q, s.heap.size ≤ q → (uA 31 ad s.heap.size) q := fun q h => Or.inr h
  have hS : va_S (uA 31 ad s.heap.size) s.heap s.heap [] := va_S.rf
  unfold sM_begins
  refine x_iload_n hx hb dX4_begins_0 rfl (lv_at hl 1 rfl) ?_
  refine X.join2 (fun (x : US) g H locs => UM D ct ad (uA 31 ad s.heap.size) x w H ∧ va_S (uA 31 ad s.heap.size) s.heap H locs ∧ ∃ ls : Array Slot, g = F0 m 9 ls [] ∧ lv_has ls 3 [(0, .ref (ad (0))), (2, .int p2)]) ?_ (fun j2 hj2 => ?_)
  · rintro S1 _ H locs ⟨hU, hS, ls, rfl, hl⟩
    refine X.eqs (sp2 := sM_begins_J9 p2 w S1) rfl ?_
    unfold sM_begins_J9
    refine x_iload_n hx hb dX4_begins_9 rfl (lv_at hl 1 rfl) ?_
    refine X.join2 (fun (x : US) g H locs => UM D ct ad (uA 31 ad s.heap.size) x w H ∧ va_S (uA 31 ad s.heap.size) s.heap H locs ∧ ∃ ls : Array Slot, g = F0 m 18 ls [] ∧ lv_has ls 3 [(0, .ref (ad (0)))]) ?_ (fun j4 hj4 => ?_)
    · rintro S3 _ H locs ⟨hU, hS, ls, rfl, hl⟩
      refine X.eqs (sp2 := sM_begins_J18 w S3) rfl ?_
      unfold sM_begins_J18
      refine x_aload_n hx hb dX4_begins_18 rfl (lv_at hl 0 rfl) ?_
      refine kM_isGood E hU hS hA0 ⟨by decide, by decide⟩ hl.1 (Nat.le_of_ble_eq_true rfl) dX4_begins_19 ⟨Nat.le_refl _, Nat.le_refl _⟩ (fun o5 H locs hU hS => ?_)
      refine x_if_ne (tgt := 27) hx hb dX4_begins_22 (by decide) (fun hc => ?_) (fun hc => ?_)
      · refine x_aload_n hx hb dX4_begins_27 rfl (lv_at hl 0 rfl) ?_
        refine kM_goes E hU hS hA0 ⟨by decide, by decide⟩ hl.1 (Nat.le_of_ble_eq_true rfl) dX4_begins_28 ⟨Nat.le_refl _, Nat.le_refl _⟩ (fun o6 H locs hU hS => ?_)
        refine x_iconst (v := 1) hx hb dX4_begins_31 (by decide) ?_
        exact x_zret hx hb hr hlk hS rfl rfl (hU.to fun _ _ => trivial) dX4_begins_32
      · refine x_iconst (v := 0) hx hb dX4_begins_25 (by decide) ?_
        exact x_zret hx hb hr hlk hS rfl rfl (hU.to fun _ _ => trivial) dX4_begins_26
    · refine x_if_eq (tgt := 18) hx hb dX4_begins_10 (by decide) (fun hc => ?_) (fun hc => ?_)
      · exact hj4 S1 _ _ _ ⟨hU, hS, _, rfl, lv_sub hl [0] rfl⟩
      · refine x_aload_n hx hb dX4_begins_13 rfl (lv_at hl 0 rfl) ?_
        refine x_iconst (v := 5) hx hb dX4_begins_14 (by decide) ?_
        refine kM_wrong E hU hS hA0 ⟨by decide, by decide⟩ hl.1 (Nat.le_of_ble_eq_true rfl) dX4_begins_15 ⟨Nat.le_refl _, Nat.le_refl _⟩ (fun o7 H locs hU hS => ?_)
        exact hj4 o7 _ _ _ ⟨hU, hS, _, rfl, lv_sub hl [0] rfl⟩
  · refine x_if_eq (tgt := 9) hx hb dX4_begins_1 (by decide) (fun hc => ?_) (fun hc => ?_)
    · exact hj2 S _ _ _ ⟨hU, hS, _, rfl, lv_sub hl [0, 2] rfl⟩
    · refine x_aload_n hx hb dX4_begins_4 rfl (lv_at hl 0 rfl) ?_
      refine x_iconst (v := 2) hx hb dX4_begins_5 (by decide) ?_
      refine kM_wrong E hU hS hA0 ⟨by decide, by decide⟩ hl.1 (Nat.le_of_ble_eq_true rfl) dX4_begins_6 ⟨Nat.le_refl _, Nat.le_refl _⟩ (fun o8 H locs hU hS => ?_)
      exact hj2 o8 _ _ _ ⟨hU, hS, _, rfl, lv_sub hl [0, 2] rfl⟩
section MK
variable {ρ : Type} {p : Program} {l : Launch} {e : Env} {R : Room} {s : State} {m : MethodId} {args : Array Value} {below : List Frame} {meth : Method} {c : Code} {H : Heap} {locs : List Loc} {cells slots : Nat} {Qf : ρ → State → Prop}
variable {cc : ByteArray} {pc nL : Nat} {ls : Array Slot} {rest : List Value}
variable {D : va_G} {ct : CT} {ad : Nat → Nat} {A A0 : Nat → Prop} {S : US} {w : Int64} {H0 : Heap}
theorem kM_begins {p1 : Int32} {p2 : Int32} (E : ME p m c cc nL s args RX4 D clW ct) (hU : UM D ct ad A S w H) (hS : va_S A H0 H locs) (hA0 : ∀ q, H0.size ≤ q → A q) (hR : 3 + 1 ≤ R.frames ∧ 8 + (3 + 11) + 74 ≤ R.locals) (hsize : ls.size = nL) (hW : (rest.map fun v => v.category).sum ≤ 8) (hdg : decode cc pc = .ok (.invokevirtual 249, 3)) (hf : cells ≤ R.cells ∧ slots ≤ R.slots) {kp : (Bool × US × Int64) → Option ρ} (kk : ∀ (o : (Bool × US × Int64)) (H1 : Heap) (locs1 : List Loc), UM D ct ad A o.2.1 o.2.2 H1 → va_S A H0 H1 locs1 → X p l e R s m args below meth c H1 locs1 cells slots Qf (kp o) (F0 m (pc + 3) ls (.int (bI o.1) :: rest))) : X p l e R s m args below meth c H locs cells slots Qf (callK (sM_begins S w p1 p2) kp) (F0 m pc ls (.int p2 :: .int p1 :: .ref (ad 0) :: rest)) := ucV_mod (i := 0) (So := fun (o : (Bool × US × Int64)) => o.2.1) (wo := fun (o : (Bool × US × Int64)) => o.2.2) (As := [.int p1, .int p2]) E hU hS hA0 (by decide) rfl rfl (fun sz o ho => mM_begins l D ct ad S w p1 p2 sz o ho) (cwV 2 E.1.2.2.2.2 (lw_V q2087 q2089 qs56 q119 q2090) rfl rfl rfl (by decide +kernel) hR) rfl hsize rfl hW hdg hf kk
end MK

set_option maxHeartbeats 4000000 in
theorem mM_isOpen (l : Launch) (D : va_G) (ct : CT) (p1 : Int32) (sz : Nat) (o : Bool) (ho : sM_isOpen p1 = some o) : Met l yX4_isOpen (ws_ yX4_isOpen cX4_isOpen 1 (some .boolean)) { frames := 1, cells := 0, slots := 0, locals := 32 } (mP D clW ct [.int p1] sz (fun _ => True)) (mC (some (.int (bI o))) (fun _ => True) (nA sz)) 0 0 (nA sz) := by
  refine X.start (val := fun (o : Bool) => some (.int (bI o))) (Bt := fun _ _ => True) (A := nA sz) ho (by decide) (Nat.le_of_ble_eq_true rfl) rfl ?_
  intro p e s m args below meth c E hr hlk hnm hsz hU ls hl
  subst hsz
  obtain ⟨⟨hx, hb, hml, hown, hts⟩, hK, hJ⟩ := id E
  have hA0 : ∀ q, s.heap.size ≤ q → (nA s.heap.size) q := fun q h => h
  have hS : va_S (nA s.heap.size) s.heap s.heap [] := va_S.rf
  unfold sM_isOpen
  refine x_iload_n hx hb dX4_isOpen_0 rfl (lv_at hl 0 rfl) ?_
  refine x_bipush (v := 14) hx hb dX4_isOpen_1 (by decide) ?_
  refine x_icmp_lt (tgt := 10) hx hb dX4_isOpen_3 (by decide) (fun hc => ?_) (fun hc => ?_)
  · refine x_iconst (v := 0) hx hb dX4_isOpen_10 (by decide) ?_
    exact x_zret hx hb hr hlk hS rfl rfl trivial dX4_isOpen_11
  · refine x_iconst (v := 1) hx hb dX4_isOpen_6 (by decide) ?_
    refine x_goto (tgt := 11) hx hb dX4_isOpen_7 (by decide) ?_
    exact x_zret hx hb hr hlk hS rfl rfl trivial dX4_isOpen_11
section MK
variable {ρ : Type} {p : Program} {l : Launch} {e : Env} {R : Room} {s : State} {m : MethodId} {args : Array Value} {below : List Frame} {meth : Method} {c : Code} {H : Heap} {locs : List Loc} {cells slots : Nat} {Qf : ρ → State → Prop}
variable {cc : ByteArray} {pc nL : Nat} {ls : Array Slot} {rest : List Value}
variable {D : va_G} {ct : CT} {ad : Nat → Nat} {A A0 : Nat → Prop} {S : US} {w : Int64} {H0 : Heap}
theorem kM_isOpen {p1 : Int32} (E : ME p m c cc nL s args RX4 D clW ct) (hS : va_S A0 H0 H locs) (hA0 : ∀ q, H0.size ≤ q → A0 q) (hR : 1 + 1 ≤ R.frames ∧ 8 + (1 + 11) + 32 ≤ R.locals) (hsize : ls.size = nL) (hW : (rest.map fun v => v.category).sum ≤ 8) (hdg : decode cc pc = .ok (.invokestatic 192, 3)) (hf : cells ≤ R.cells ∧ slots ≤ R.slots) {kp : Bool → Option ρ} (kk : ∀ (o : Bool) (H1 : Heap) (locs1 : List Loc), (∀ q : Nat, q < H.size → H1[q]? = H[q]?) → va_S A0 H0 H1 locs1 → X p l e R s m args below meth c H1 locs1 cells slots Qf (kp o) (F0 m (pc + 3) ls (.int (bI o) :: rest))) : X p l e R s m args below meth c H locs cells slots Qf (callK (sM_isOpen p1) kp) (F0 m pc ls (.int p1 :: rest)) := ucS (As := [.int p1]) E hS hA0 (fun sz o ho => mM_isOpen l D ct p1 sz o ho) (va_cwS 1 E.1.2.2.2.2 (lw_S q2147 q2148 q119 q2149) rfl rfl rfl (by decide +kernel) hR) rfl hsize rfl hW hdg hf kk
end MK

set_option maxHeartbeats 4000000 in
theorem mM_puts (l : Launch) (D : va_G) (ct : CT) (ad : Nat → Nat) (S : US) (w : Int64) (p1 : Int32) (sz : Nat) (o : US) (ho : sM_puts S p1 = some o) : Met l yX4_puts (ws_ yX4_puts cX4_puts 2 none) { frames := 1, cells := 0, slots := 0, locals := 32 } (mP D clW ct [.ref (ad (0)), .int p1] sz (UM D ct ad (fun _ => True) S w)) (mC (none) (UM D ct ad (fun _ => True) o w) (uA 31 ad sz)) 0 0 (uA 31 ad sz) := by
  refine X.start (val := fun (o : US) => none) (Bt := fun (o : US) => UM D ct ad (fun _ => True) o w) (A := uA 31 ad sz) ho (by decide) (Nat.le_of_ble_eq_true rfl) rfl ?_
  intro p e s m args below meth c E hr hlk hnm hsz hU ls hl
  subst hsz
  obtain ⟨⟨hx, hb, hml, hown, hts⟩, hK, hJ⟩ := id E
  replace hU := hU.to (B := uA 31 ad s.heap.size) (fun i hi => Or.inl ⟨i, hi, rfl⟩)
  have hA0 : ∀ q, s.heap.size ≤ q → (uA 31 ad s.heap.size) q := fun q h => Or.inr h
  have hS : va_S (uA 31 ad s.heap.size) s.heap s.heap [] := va_S.rf
  unfold sM_puts
  refine x_aload_n hx hb dX4_puts_0 rfl (lv_at hl 0 rfl) ?_
  refine gM_readCode E hU dX4_puts_1 ?_
  refine x_aload_n hx hb dX4_puts_4 rfl (lv_at hl 0 rfl) ?_
  refine gM_top E hU dX4_puts_5 ?_
  refine x_iload_n hx hb dX4_puts_8 rfl (lv_at hl 1 rfl) ?_
  refine ux_ast (i := 11) (n := 1400) E hU hS (by decide) rfl dX4_puts_9 (fun S1 H locs hU hS => ?_)
  refine x_aload_n hx hb dX4_puts_10 rfl (lv_at hl 0 rfl) ?_
  refine x_dup hx hb dX4_puts_11 rfl ?_
  refine gM_top E hU dX4_puts_12 ?_
  refine x_iconst (v := 1) hx hb dX4_puts_15 (by decide) ?_
  refine x_iadd hx hb dX4_puts_16 ?_
  refine pM_top E hU hS dX4_puts_17 (fun S2 H locs hU hS => ?_)
  exact x_vret hx hb hr hlk hS rfl (hU.to fun _ _ => trivial) dX4_puts_20
section MK
variable {ρ : Type} {p : Program} {l : Launch} {e : Env} {R : Room} {s : State} {m : MethodId} {args : Array Value} {below : List Frame} {meth : Method} {c : Code} {H : Heap} {locs : List Loc} {cells slots : Nat} {Qf : ρ → State → Prop}
variable {cc : ByteArray} {pc nL : Nat} {ls : Array Slot} {rest : List Value}
variable {D : va_G} {ct : CT} {ad : Nat → Nat} {A A0 : Nat → Prop} {S : US} {w : Int64} {H0 : Heap}
theorem kM_puts {p1 : Int32} (E : ME p m c cc nL s args RX4 D clW ct) (hU : UM D ct ad A S w H) (hS : va_S A H0 H locs) (hA0 : ∀ q, H0.size ≤ q → A q) (hR : 1 + 1 ≤ R.frames ∧ 8 + (2 + 11) + 32 ≤ R.locals) (hsize : ls.size = nL) (hW : (rest.map fun v => v.category).sum ≤ 8) (hdg : decode cc pc = .ok (.invokevirtual 198, 3)) (hf : cells ≤ R.cells ∧ slots ≤ R.slots) {kp : US → Option ρ} (kk : ∀ (o : US) (H1 : Heap) (locs1 : List Loc), UM D ct ad A o w H1 → va_S A H0 H1 locs1 → X p l e R s m args below meth c H1 locs1 cells slots Qf (kp o) (F0 m (pc + 3) ls (rest))) : X p l e R s m args below meth c H locs cells slots Qf (callK (sM_puts S p1) kp) (F0 m pc ls (.int p1 :: .ref (ad 0) :: rest)) := ucV_mod (i := 0) (So := fun (o : US) => o) (wo := fun (o : US) => w) (As := [.int p1]) E hU hS hA0 (by decide) rfl rfl (fun sz o ho => mM_puts l D ct ad S w p1 sz o ho) (cwV 1 E.1.2.2.2.2 (lw_V q2139 q2141 qs69 q119 q2142) rfl rfl rfl (by decide +kernel) hR) rfl hsize rfl hW hdg hf kk
end MK

set_option maxHeartbeats 4000000 in
theorem mM_strength (l : Launch) (D : va_G) (ct : CT) (p1 : Int32) (sz : Nat) (o : Int32) (ho : sM_strength p1 = some o) : Met l yX4_strength (ws_ yX4_strength cX4_strength 1 (some .int)) { frames := 1, cells := 0, slots := 0, locals := 32 } (mP D clW ct [.int p1] sz (fun _ => True)) (mC (some (.int o)) (fun _ => True) (nA sz)) 0 0 (nA sz) := by
  refine X.start (val := fun (o : Int32) => some (.int o)) (Bt := fun _ _ => True) (A := nA sz) ho (by decide) (Nat.le_of_ble_eq_true rfl) rfl ?_
  intro p e s m args below meth c E hr hlk hnm hsz hU ls hl
  subst hsz
  obtain ⟨⟨hx, hb, hml, hown, hts⟩, hK, hJ⟩ := id E
  have hA0 : ∀ q, s.heap.size ≤ q → (nA s.heap.size) q := fun q h => h
  have hS : va_S (nA s.heap.size) s.heap s.heap [] := va_S.rf
  unfold sM_strength
  refine x_iload_n hx hb dX4_strength_0 rfl (lv_at hl 0 rfl) ?_
  refine x_iconst (v := 5) hx hb dX4_strength_1 (by decide) ?_
  refine x_icmp_ne (tgt := 9) hx hb dX4_strength_2 (by decide) (fun hc => ?_) (fun hc => ?_)
  · refine x_iload_n hx hb dX4_strength_9 rfl (lv_at hl 0 rfl) ?_
    refine x_iconst (v := 4) hx hb dX4_strength_10 (by decide) ?_
    refine x_icmp_ne (tgt := 18) hx hb dX4_strength_11 (by decide) (fun hc => ?_) (fun hc => ?_)
    · refine x_iload_n hx hb dX4_strength_18 rfl (lv_at hl 0 rfl) ?_
      refine x_iconst (v := 3) hx hb dX4_strength_19 (by decide) ?_
      refine x_icmp_ne (tgt := 27) hx hb dX4_strength_20 (by decide) (fun hc => ?_) (fun hc => ?_)
      · refine x_iload_n hx hb dX4_strength_27 rfl (lv_at hl 0 rfl) ?_
        refine x_bipush (v := 6) hx hb dX4_strength_28 (by decide) ?_
        refine x_icmp_eq (tgt := 39) hx hb dX4_strength_30 (by decide) (fun hc => ?_) (fun hc => ?_)
        · refine x_iconst (v := 4) hx hb dX4_strength_39 (by decide) ?_
          refine x_goto (tgt := 61) hx hb dX4_strength_40 (by decide) ?_
          exact x_iret hx hb hr hlk hS rfl trivial dX4_strength_61
        · refine x_iload_n hx hb dX4_strength_33 rfl (lv_at hl 0 rfl) ?_
          refine x_bipush (v := 7) hx hb dX4_strength_34 (by decide) ?_
          refine x_icmp_ne (tgt := 43) hx hb dX4_strength_36 (by decide) (fun hc => ?_) (fun hc => ?_)
          · refine x_iload_n hx hb dX4_strength_43 rfl (lv_at hl 0 rfl) ?_
            refine x_bipush (v := 8) hx hb dX4_strength_44 (by decide) ?_
            refine x_icmp_eq (tgt := 55) hx hb dX4_strength_46 (by decide) (fun hc => ?_) (fun hc => ?_)
            · refine x_iconst (v := 5) hx hb dX4_strength_55 (by decide) ?_
              refine x_goto (tgt := 61) hx hb dX4_strength_56 (by decide) ?_
              exact x_iret hx hb hr hlk hS rfl trivial dX4_strength_61
            · refine x_iload_n hx hb dX4_strength_49 rfl (lv_at hl 0 rfl) ?_
              refine x_bipush (v := 9) hx hb dX4_strength_50 (by decide) ?_
              refine x_icmp_ne (tgt := 59) hx hb dX4_strength_52 (by decide) (fun hc => ?_) (fun hc => ?_)
              · refine x_bipush (v := 6) hx hb dX4_strength_59 (by decide) ?_
                exact x_iret hx hb hr hlk hS rfl trivial dX4_strength_61
              · refine x_iconst (v := 5) hx hb dX4_strength_55 (by decide) ?_
                refine x_goto (tgt := 61) hx hb dX4_strength_56 (by decide) ?_
                exact x_iret hx hb hr hlk hS rfl trivial dX4_strength_61
          · refine x_iconst (v := 4) hx hb dX4_strength_39 (by decide) ?_
            refine x_goto (tgt := 61) hx hb dX4_strength_40 (by decide) ?_
            exact x_iret hx hb hr hlk hS rfl trivial dX4_strength_61
      · refine x_iconst (v := 3) hx hb dX4_strength_23 (by decide) ?_
        refine x_goto (tgt := 61) hx hb dX4_strength_24 (by decide) ?_
        exact x_iret hx hb hr hlk hS rfl trivial dX4_strength_61
    · refine x_iconst (v := 2) hx hb dX4_strength_14 (by decide) ?_
      refine x_goto (tgt := 61) hx hb dX4_strength_15 (by decide) ?_
      exact x_iret hx hb hr hlk hS rfl trivial dX4_strength_61
  · refine x_iconst (v := 1) hx hb dX4_strength_5 (by decide) ?_
    refine x_goto (tgt := 61) hx hb dX4_strength_6 (by decide) ?_
    exact x_iret hx hb hr hlk hS rfl trivial dX4_strength_61
section MK
variable {ρ : Type} {p : Program} {l : Launch} {e : Env} {R : Room} {s : State} {m : MethodId} {args : Array Value} {below : List Frame} {meth : Method} {c : Code} {H : Heap} {locs : List Loc} {cells slots : Nat} {Qf : ρ → State → Prop}
variable {cc : ByteArray} {pc nL : Nat} {ls : Array Slot} {rest : List Value}
variable {D : va_G} {ct : CT} {ad : Nat → Nat} {A A0 : Nat → Prop} {S : US} {w : Int64} {H0 : Heap}
theorem kM_strength {p1 : Int32} (E : ME p m c cc nL s args RX4 D clW ct) (hS : va_S A0 H0 H locs) (hA0 : ∀ q, H0.size ≤ q → A0 q) (hR : 1 + 1 ≤ R.frames ∧ 8 + (1 + 11) + 32 ≤ R.locals) (hsize : ls.size = nL) (hW : (rest.map fun v => v.category).sum ≤ 8) (hdg : decode cc pc = .ok (.invokestatic 195, 3)) (hf : cells ≤ R.cells ∧ slots ≤ R.slots) {kp : Int32 → Option ρ} (kk : ∀ (o : Int32) (H1 : Heap) (locs1 : List Loc), (∀ q : Nat, q < H.size → H1[q]? = H[q]?) → va_S A0 H0 H1 locs1 → X p l e R s m args below meth c H1 locs1 cells slots Qf (kp o) (F0 m (pc + 3) ls (.int o :: rest))) : X p l e R s m args below meth c H locs cells slots Qf (callK (sM_strength p1) kp) (F0 m pc ls (.int p1 :: rest)) := ucS (As := [.int p1]) E hS hA0 (fun sz o ho => mM_strength l D ct p1 sz o ho) (va_cwS 1 E.1.2.2.2.2 (lw_S q2150 q2151 q119 q2152) rfl rfl rfl (by decide +kernel) hR) rfl hsize rfl hW hdg hf kk
end MK

set_option maxHeartbeats 4000000 in
theorem mM_drops (l : Launch) (D : va_G) (ct : CT) (ad : Nat → Nat) (S : US) (w : Int64) (p1 : Int32) (sz : Nat) (o : US) (ho : sM_drops S p1 = some o) : Met l yX4_drops (ws_ yX4_drops cX4_drops 2 none) { frames := 2, cells := 0, slots := 0, locals := 53 } (mP D clW ct [.ref (ad (0)), .int p1] sz (UM D ct ad (fun _ => True) S w)) (mC (none) (UM D ct ad (fun _ => True) o w) (uA 31 ad sz)) 0 0 (uA 31 ad sz) := by
  refine X.start (val := fun (o : US) => none) (Bt := fun (o : US) => UM D ct ad (fun _ => True) o w) (A := uA 31 ad sz) ho (by decide) (Nat.le_of_ble_eq_true rfl) rfl ?_
  intro p e s m args below meth c E hr hlk hnm hsz hU ls hl
  subst hsz
  obtain ⟨⟨hx, hb, hml, hown, hts⟩, hK, hJ⟩ := id E
  replace hU := hU.to (B := uA 31 ad s.heap.size) (fun i hi => Or.inl ⟨i, hi, rfl⟩)
  have hA0 : ∀ q, s.heap.size ≤ q → (uA 31 ad s.heap.size) q := fun q h => Or.inr h
  have hS : va_S (uA 31 ad s.heap.size) s.heap s.heap [] := va_S.rf
  unfold sM_drops
  refine X.loop (I := fun (x : US) g H locs => UM D ct ad (uA 31 ad s.heap.size) x w H ∧ va_S (uA 31 ad s.heap.size) s.heap H locs ∧ ∃ ls : Array Slot, g = F0 m 0 ls [] ∧ lv_has ls 2 [(0, .ref (ad (0))), (1, .int p1)]) (fun rc2 ih2 => ?_) FUEL _ _ _ _ ⟨hU, hS, _, rfl, lv_sub hl [0, 1] rfl⟩
  rintro S1 _ H locs ⟨hU, hS, ls, rfl, hl⟩
  refine X.eqs (sp2 := sM_drops_L0 p1 rc2 S1) rfl ?_
  unfold sM_drops_L0
  refine x_aload_n hx hb dX4_drops_0 rfl (lv_at hl 0 rfl) ?_
  refine gM_waiting E hU dX4_drops_1 ?_
  refine x_if_le (tgt := 68) hx hb dX4_drops_4 (by decide) (fun hc => ?_) (fun hc => ?_)
  · exact x_vret hx hb hr hlk hS rfl (hU.to fun _ _ => trivial) dX4_drops_68
  · refine x_aload_n hx hb dX4_drops_7 rfl (lv_at hl 0 rfl) ?_
    refine gM_waits E hU dX4_drops_8 ?_
    refine x_aload_n hx hb dX4_drops_11 rfl (lv_at hl 0 rfl) ?_
    refine gM_waiting E hU dX4_drops_12 ?_
    refine x_iconst (v := 1) hx hb dX4_drops_15 (by decide) ?_
    refine x_isub hx hb dX4_drops_16 ?_
    refine ux_ald (i := 12) (n := 950) E hU (by decide) rfl dX4_drops_17 ?_
    refine kM_isOpen E hS hA0 ⟨by decide, by decide⟩ hl.1 (Nat.le_of_ble_eq_true rfl) dX4_drops_18 ⟨Nat.le_refl _, Nat.le_refl _⟩ (fun o3 H locs hk hS => ?_)
    replace hU := hU.kept (fun i hi => hk _ (hU.lt hi))
    refine x_if_ne (tgt := 68) hx hb dX4_drops_21 (by decide) (fun hc => ?_) (fun hc => ?_)
    · exact x_vret hx hb hr hlk hS rfl (hU.to fun _ _ => trivial) dX4_drops_68
    · refine x_aload_n hx hb dX4_drops_24 rfl (lv_at hl 0 rfl) ?_
      refine gM_waits E hU dX4_drops_25 ?_
      refine x_aload_n hx hb dX4_drops_28 rfl (lv_at hl 0 rfl) ?_
      refine gM_waiting E hU dX4_drops_29 ?_
      refine x_iconst (v := 1) hx hb dX4_drops_32 (by decide) ?_
      refine x_isub hx hb dX4_drops_33 ?_
      refine ux_ald (i := 12) (n := 950) E hU (by decide) rfl dX4_drops_34 ?_
      refine kM_strength E hS hA0 ⟨by decide, by decide⟩ hl.1 (Nat.le_of_ble_eq_true rfl) dX4_drops_35 ⟨Nat.le_refl _, Nat.le_refl _⟩ (fun o4 H locs hk hS => ?_)
      replace hU := hU.kept (fun i hi => hk _ (hU.lt hi))
      refine x_iload_n hx hb dX4_drops_38 rfl (lv_at hl 1 rfl) ?_
      refine x_icmp_lt (tgt := 68) hx hb dX4_drops_39 (by decide) (fun hc => ?_) (fun hc => ?_)
      · exact x_vret hx hb hr hlk hS rfl (hU.to fun _ _ => trivial) dX4_drops_68
      · refine x_aload_n hx hb dX4_drops_42 rfl (lv_at hl 0 rfl) ?_
        refine x_dup hx hb dX4_drops_43 rfl ?_
        refine gM_waiting E hU dX4_drops_44 ?_
        refine x_iconst (v := 1) hx hb dX4_drops_47 (by decide) ?_
        refine x_isub hx hb dX4_drops_48 ?_
        refine pM_waiting E hU hS dX4_drops_49 (fun S5 H locs hU hS => ?_)
        refine x_aload_n hx hb dX4_drops_52 rfl (lv_at hl 0 rfl) ?_
        refine x_aload_n hx hb dX4_drops_53 rfl (lv_at hl 0 rfl) ?_
        refine gM_waits E hU dX4_drops_54 ?_
        refine x_aload_n hx hb dX4_drops_57 rfl (lv_at hl 0 rfl) ?_
        refine gM_waiting E hU dX4_drops_58 ?_
        refine ux_ald (i := 12) (n := 950) E hU (by decide) rfl dX4_drops_61 ?_
        refine kM_puts E hU hS hA0 ⟨by decide, by decide⟩ hl.1 (Nat.le_of_ble_eq_true rfl) dX4_drops_62 ⟨Nat.le_refl _, Nat.le_refl _⟩ (fun o6 H locs hU hS => ?_)
        refine x_goto (tgt := 0) hx hb dX4_drops_65 (by decide) ?_
        exact ih2 o6 _ _ _ ⟨hU, hS, _, rfl, lv_sub hl [0, 1] rfl⟩
section MK
variable {ρ : Type} {p : Program} {l : Launch} {e : Env} {R : Room} {s : State} {m : MethodId} {args : Array Value} {below : List Frame} {meth : Method} {c : Code} {H : Heap} {locs : List Loc} {cells slots : Nat} {Qf : ρ → State → Prop}
variable {cc : ByteArray} {pc nL : Nat} {ls : Array Slot} {rest : List Value}
variable {D : va_G} {ct : CT} {ad : Nat → Nat} {A A0 : Nat → Prop} {S : US} {w : Int64} {H0 : Heap}
theorem kM_drops {p1 : Int32} (E : ME p m c cc nL s args RX4 D clW ct) (hU : UM D ct ad A S w H) (hS : va_S A H0 H locs) (hA0 : ∀ q, H0.size ≤ q → A q) (hR : 2 + 1 ≤ R.frames ∧ 8 + (2 + 11) + 53 ≤ R.locals) (hsize : ls.size = nL) (hW : (rest.map fun v => v.category).sum ≤ 8) (hdg : decode cc pc = .ok (.invokevirtual 220, 3)) (hf : cells ≤ R.cells ∧ slots ≤ R.slots) {kp : US → Option ρ} (kk : ∀ (o : US) (H1 : Heap) (locs1 : List Loc), UM D ct ad A o w H1 → va_S A H0 H1 locs1 → X p l e R s m args below meth c H1 locs1 cells slots Qf (kp o) (F0 m (pc + 3) ls (rest))) : X p l e R s m args below meth c H locs cells slots Qf (callK (sM_drops S p1) kp) (F0 m pc ls (.int p1 :: .ref (ad 0) :: rest)) := ucV_mod (i := 0) (So := fun (o : US) => o) (wo := fun (o : US) => w) (As := [.int p1]) E hU hS hA0 (by decide) rfl rfl (fun sz o ho => mM_drops l D ct ad S w p1 sz o ho) (cwV 1 E.1.2.2.2.2 (lw_V q2143 q2145 qs70 q119 q2146) rfl rfl rfl (by decide +kernel) hR) rfl hsize rfl hW hdg hf kk
end MK

set_option maxHeartbeats 4000000 in
theorem mM_closes (l : Launch) (D : va_G) (ct : CT) (ad : Nat → Nat) (S : US) (w : Int64) (sz : Nat) (o : (US × Int64)) (ho : sM_closes S w = some o) : Met l yX4_closes (ws_ yX4_closes cX4_closes 1 none) { frames := 3, cells := 0, slots := 0, locals := 74 } (mP D clW ct [.ref (ad (0))] sz (UM D ct ad (fun _ => True) S w)) (mC (none) (UM D ct ad (fun _ => True) o.1 o.2) (uA 31 ad sz)) 0 0 (uA 31 ad sz) := by
  refine X.start (val := fun (o : (US × Int64)) => none) (Bt := fun (o : (US × Int64)) => UM D ct ad (fun _ => True) o.1 o.2) (A := uA 31 ad sz) ho (by decide) (Nat.le_of_ble_eq_true rfl) rfl ?_
  intro p e s m args below meth c E hr hlk hnm hsz hU ls hl
  subst hsz
  obtain ⟨⟨hx, hb, hml, hown, hts⟩, hK, hJ⟩ := id E
  replace hU := hU.to (B := uA 31 ad s.heap.size) (fun i hi => Or.inl ⟨i, hi, rfl⟩)
  have hA0 : ∀ q, s.heap.size ≤ q → (uA 31 ad s.heap.size) q := fun q h => Or.inr h
  have hS : va_S (uA 31 ad s.heap.size) s.heap s.heap [] := va_S.rf
  unfold sM_closes
  refine x_aload_n hx hb dX4_closes_0 rfl (lv_at hl 0 rfl) ?_
  refine x_iconst (v := 0) hx hb dX4_closes_1 (by decide) ?_
  refine kM_drops E hU hS hA0 ⟨by decide, by decide⟩ hl.1 (Nat.le_of_ble_eq_true rfl) dX4_closes_2 ⟨Nat.le_refl _, Nat.le_refl _⟩ (fun o1 H locs hU hS => ?_)
  refine x_aload_n hx hb dX4_closes_5 rfl (lv_at hl 0 rfl) ?_
  refine x_dup hx hb dX4_closes_6 rfl ?_
  refine gM_waiting E hU dX4_closes_7 ?_
  refine x_iconst (v := 1) hx hb dX4_closes_10 (by decide) ?_
  refine x_isub hx hb dX4_closes_11 ?_
  refine pM_waiting E hU hS dX4_closes_12 (fun S2 H locs hU hS => ?_)
  refine x_aload_n hx hb dX4_closes_15 rfl (lv_at hl 0 rfl) ?_
  refine x_dup hx hb dX4_closes_16 rfl ?_
  refine gM_depth E hU dX4_closes_17 ?_
  refine x_iconst (v := 1) hx hb dX4_closes_20 (by decide) ?_
  refine x_isub hx hb dX4_closes_21 ?_
  refine pM_depth E hU hS dX4_closes_22 (fun S3 H locs hU hS => ?_)
  refine x_aload_n hx hb dX4_closes_25 rfl (lv_at hl 0 rfl) ?_
  refine kM_goes E hU hS hA0 ⟨by decide, by decide⟩ hl.1 (Nat.le_of_ble_eq_true rfl) dX4_closes_26 ⟨Nat.le_refl _, Nat.le_refl _⟩ (fun o4 H locs hU hS => ?_)
  exact x_vret hx hb hr hlk hS rfl (hU.to fun _ _ => trivial) dX4_closes_29
section MK
variable {ρ : Type} {p : Program} {l : Launch} {e : Env} {R : Room} {s : State} {m : MethodId} {args : Array Value} {below : List Frame} {meth : Method} {c : Code} {H : Heap} {locs : List Loc} {cells slots : Nat} {Qf : ρ → State → Prop}
variable {cc : ByteArray} {pc nL : Nat} {ls : Array Slot} {rest : List Value}
variable {D : va_G} {ct : CT} {ad : Nat → Nat} {A A0 : Nat → Prop} {S : US} {w : Int64} {H0 : Heap}
theorem kM_closes (E : ME p m c cc nL s args RX4 D clW ct) (hU : UM D ct ad A S w H) (hS : va_S A H0 H locs) (hA0 : ∀ q, H0.size ≤ q → A q) (hR : 3 + 1 ≤ R.frames ∧ 8 + (1 + 11) + 74 ≤ R.locals) (hsize : ls.size = nL) (hW : (rest.map fun v => v.category).sum ≤ 8) (hdg : decode cc pc = .ok (.invokevirtual 230, 3)) (hf : cells ≤ R.cells ∧ slots ≤ R.slots) {kp : (US × Int64) → Option ρ} (kk : ∀ (o : (US × Int64)) (H1 : Heap) (locs1 : List Loc), UM D ct ad A o.1 o.2 H1 → va_S A H0 H1 locs1 → X p l e R s m args below meth c H1 locs1 cells slots Qf (kp o) (F0 m (pc + 3) ls (rest))) : X p l e R s m args below meth c H locs cells slots Qf (callK (sM_closes S w) kp) (F0 m pc ls (.ref (ad 0) :: rest)) := ucV_mod (i := 0) (So := fun (o : (US × Int64)) => o.1) (wo := fun (o : (US × Int64)) => o.2) (As := []) E hU hS hA0 (by decide) rfl rfl (fun sz o ho => mM_closes l D ct ad S w sz o ho) (cwV 0 E.1.2.2.2.2 (lw_V q2157 q2159 qs72 q119 q2160) rfl rfl rfl (by decide +kernel) hR) rfl hsize rfl hW hdg hf kk
end MK

set_option maxHeartbeats 4000000 in
theorem mM_isSign (l : Launch) (D : va_G) (ct : CT) (ad : Nat → Nat) (S : US) (w : Int64) (p1 : Int32) (sz : Nat) (o : Bool) (ho : sM_isSign S p1 = some o) : Met l yX4_isSign (ws_ yX4_isSign cX4_isSign 2 (some .boolean)) { frames := 1, cells := 0, slots := 0, locals := 32 } (mP D clW ct [.ref (ad (0)), .int p1] sz (UM D ct ad (fun _ => True) S w)) (mC (some (.int (bI o))) (fun _ => True) (nA sz)) 0 0 (nA sz) := by
  refine X.start (val := fun (o : Bool) => some (.int (bI o))) (Bt := fun _ _ => True) (A := nA sz) ho (by decide) (Nat.le_of_ble_eq_true rfl) rfl ?_
  intro p e s m args below meth c E hr hlk hnm hsz hU ls hl
  subst hsz
  obtain ⟨⟨hx, hb, hml, hown, hts⟩, hK, hJ⟩ := id E
  have hA0 : ∀ q, s.heap.size ≤ q → (nA s.heap.size) q := fun q h => h
  have hS : va_S (nA s.heap.size) s.heap s.heap [] := va_S.rf
  unfold sM_isSign
  refine x_aload_n hx hb dX4_isSign_0 rfl (lv_at hl 0 rfl) ?_
  refine gM_sort E hU dX4_isSign_1 ?_
  refine x_iconst (v := 3) hx hb dX4_isSign_4 (by decide) ?_
  refine x_icmp_ne (tgt := 20) hx hb dX4_isSign_5 (by decide) (fun hc => ?_) (fun hc => ?_)
  · refine x_iconst (v := 0) hx hb dX4_isSign_20 (by decide) ?_
    exact x_zret hx hb hr hlk hS rfl rfl trivial dX4_isSign_21
  · refine x_aload_n hx hb dX4_isSign_8 rfl (lv_at hl 0 rfl) ?_
    refine gM_sign E hU dX4_isSign_9 ?_
    refine x_iload_n hx hb dX4_isSign_12 rfl (lv_at hl 1 rfl) ?_
    refine x_icmp_ne (tgt := 20) hx hb dX4_isSign_13 (by decide) (fun hc => ?_) (fun hc => ?_)
    · refine x_iconst (v := 0) hx hb dX4_isSign_20 (by decide) ?_
      exact x_zret hx hb hr hlk hS rfl rfl trivial dX4_isSign_21
    · refine x_iconst (v := 1) hx hb dX4_isSign_16 (by decide) ?_
      refine x_goto (tgt := 21) hx hb dX4_isSign_17 (by decide) ?_
      exact x_zret hx hb hr hlk hS rfl rfl trivial dX4_isSign_21
section MK
variable {ρ : Type} {p : Program} {l : Launch} {e : Env} {R : Room} {s : State} {m : MethodId} {args : Array Value} {below : List Frame} {meth : Method} {c : Code} {H : Heap} {locs : List Loc} {cells slots : Nat} {Qf : ρ → State → Prop}
variable {cc : ByteArray} {pc nL : Nat} {ls : Array Slot} {rest : List Value}
variable {D : va_G} {ct : CT} {ad : Nat → Nat} {A A0 : Nat → Prop} {S : US} {w : Int64} {H0 : Heap}
theorem kM_isSign {p1 : Int32} (E : ME p m c cc nL s args RX4 D clW ct) (hU : UM D ct ad A S w H) (hS : va_S A0 H0 H locs) (hA0 : ∀ q, H0.size ≤ q → A0 q) (hR : 1 + 1 ≤ R.frames ∧ 8 + (2 + 11) + 32 ≤ R.locals) (hsize : ls.size = nL) (hW : (rest.map fun v => v.category).sum ≤ 8) (hdg : decode cc pc = .ok (.invokevirtual 208, 3)) (hf : cells ≤ R.cells ∧ slots ≤ R.slots) {kp : Bool → Option ρ} (kk : ∀ (o : Bool) (H1 : Heap) (locs1 : List Loc), UM D ct ad A S w H1 → va_S A0 H0 H1 locs1 → X p l e R s m args below meth c H1 locs1 cells slots Qf (kp o) (F0 m (pc + 3) ls (.int (bI o) :: rest))) : X p l e R s m args below meth c H locs cells slots Qf (callK (sM_isSign S p1) kp) (F0 m pc ls (.int p1 :: .ref (ad 0) :: rest)) := ucV_pure (i := 0) (As := [.int p1]) E hU hS hA0 (by decide) rfl rfl (fun sz o ho => mM_isSign l D ct ad S w p1 sz o ho) (cwV 1 E.1.2.2.2.2 (lw_V q2123 q2125 qs65 q119 q2126) rfl rfl rfl (by decide +kernel) hR) rfl hsize rfl hW hdg hf kk
end MK

set_option maxHeartbeats 4000000 in
theorem mM_deeper (l : Launch) (D : va_G) (ct : CT) (ad : Nat → Nat) (S : US) (w : Int64) (sz : Nat) (o : US) (ho : sM_deeper S = some o) : Met l yX4_deeper (ws_ yX4_deeper cX4_deeper 1 none) { frames := 2, cells := 0, slots := 0, locals := 53 } (mP D clW ct [.ref (ad (0))] sz (UM D ct ad (fun _ => True) S w)) (mC (none) (UM D ct ad (fun _ => True) o w) (uA 31 ad sz)) 0 0 (uA 31 ad sz) := by
  refine X.start (val := fun (o : US) => none) (Bt := fun (o : US) => UM D ct ad (fun _ => True) o w) (A := uA 31 ad sz) ho (by decide) (Nat.le_of_ble_eq_true rfl) rfl ?_
  intro p e s m args below meth c E hr hlk hnm hsz hU ls hl
  subst hsz
  obtain ⟨⟨hx, hb, hml, hown, hts⟩, hK, hJ⟩ := id E
  replace hU := hU.to (B := uA 31 ad s.heap.size) (fun i hi => Or.inl ⟨i, hi, rfl⟩)
  have hA0 : ∀ q, s.heap.size ≤ q → (uA 31 ad s.heap.size) q := fun q h => Or.inr h
  have hS : va_S (uA 31 ad s.heap.size) s.heap s.heap [] := va_S.rf
  unfold sM_deeper
  refine x_aload_n hx hb dX4_deeper_0 rfl (lv_at hl 0 rfl) ?_
  refine gM_depth E hU dX4_deeper_1 ?_
  refine x_bipush (v := 6) hx hb dX4_deeper_4 (by decide) ?_
  refine x_icmp_ge (tgt := 30) hx hb dX4_deeper_6 (by decide) (fun hc => ?_) (fun hc => ?_)
  · refine x_aload_n hx hb dX4_deeper_30 rfl (lv_at hl 0 rfl) ?_
    refine x_aload_n hx hb dX4_deeper_31 rfl (lv_at hl 0 rfl) ?_
    refine gM_sort E hU dX4_deeper_32 ?_
    refine x_iconst (v := 2) hx hb dX4_deeper_35 (by decide) ?_
    refine x_icmp_eq (tgt := 56) hx hb dX4_deeper_36 (by decide) (fun hc => ?_) (fun hc => ?_)
    · refine x_iconst (v := 2) hx hb dX4_deeper_56 (by decide) ?_
      refine x_goto (tgt := 61) hx hb dX4_deeper_57 (by decide) ?_
      refine kM_wrong E hU hS hA0 ⟨by decide, by decide⟩ hl.1 (Nat.le_of_ble_eq_true rfl) dX4_deeper_61 ⟨Nat.le_refl _, Nat.le_refl _⟩ (fun o1 H locs hU hS => ?_)
      exact x_vret hx hb hr hlk hS rfl (hU.to fun _ _ => trivial) dX4_deeper_64
    · refine x_aload_n hx hb dX4_deeper_39 rfl (lv_at hl 0 rfl) ?_
      refine gM_sort E hU dX4_deeper_40 ?_
      refine x_iconst (v := 1) hx hb dX4_deeper_43 (by decide) ?_
      refine x_icmp_eq (tgt := 56) hx hb dX4_deeper_44 (by decide) (fun hc => ?_) (fun hc => ?_)
      · refine x_iconst (v := 2) hx hb dX4_deeper_56 (by decide) ?_
        refine x_goto (tgt := 61) hx hb dX4_deeper_57 (by decide) ?_
        refine kM_wrong E hU hS hA0 ⟨by decide, by decide⟩ hl.1 (Nat.le_of_ble_eq_true rfl) dX4_deeper_61 ⟨Nat.le_refl _, Nat.le_refl _⟩ (fun o2 H locs hU hS => ?_)
        exact x_vret hx hb hr hlk hS rfl (hU.to fun _ _ => trivial) dX4_deeper_64
      · refine x_aload_n hx hb dX4_deeper_47 rfl (lv_at hl 0 rfl) ?_
        refine x_bipush (v := 40) hx hb dX4_deeper_48 (by decide) ?_
        refine kM_isSign E hU hS hA0 ⟨by decide, by decide⟩ hl.1 (Nat.le_of_ble_eq_true rfl) dX4_deeper_50 ⟨Nat.le_refl _, Nat.le_refl _⟩ (fun o3 H locs hU hS => ?_)
        refine x_if_eq (tgt := 60) hx hb dX4_deeper_53 (by decide) (fun hc => ?_) (fun hc => ?_)
        · refine x_iconst (v := 1) hx hb dX4_deeper_60 (by decide) ?_
          refine kM_wrong E hU hS hA0 ⟨by decide, by decide⟩ hl.1 (Nat.le_of_ble_eq_true rfl) dX4_deeper_61 ⟨Nat.le_refl _, Nat.le_refl _⟩ (fun o4 H locs hU hS => ?_)
          exact x_vret hx hb hr hlk hS rfl (hU.to fun _ _ => trivial) dX4_deeper_64
        · refine x_iconst (v := 2) hx hb dX4_deeper_56 (by decide) ?_
          refine x_goto (tgt := 61) hx hb dX4_deeper_57 (by decide) ?_
          refine kM_wrong E hU hS hA0 ⟨by decide, by decide⟩ hl.1 (Nat.le_of_ble_eq_true rfl) dX4_deeper_61 ⟨Nat.le_refl _, Nat.le_refl _⟩ (fun o5 H locs hU hS => ?_)
          exact x_vret hx hb hr hlk hS rfl (hU.to fun _ _ => trivial) dX4_deeper_64
  · refine x_aload_n hx hb dX4_deeper_9 rfl (lv_at hl 0 rfl) ?_
    refine x_dup hx hb dX4_deeper_10 rfl ?_
    refine gM_depth E hU dX4_deeper_11 ?_
    refine x_iconst (v := 1) hx hb dX4_deeper_14 (by decide) ?_
    refine x_iadd hx hb dX4_deeper_15 ?_
    refine pM_depth E hU hS dX4_deeper_16 (fun S6 H locs hU hS => ?_)
    refine x_aload_n hx hb dX4_deeper_19 rfl (lv_at hl 0 rfl) ?_
    refine gM_tested E hU dX4_deeper_20 ?_
    refine x_aload_n hx hb dX4_deeper_23 rfl (lv_at hl 0 rfl) ?_
    refine gM_depth E hU dX4_deeper_24 ?_
    refine x_iconst (v := 0) hx hb dX4_deeper_27 (by decide) ?_
    refine ux_zast (i := 13) (n := 9) E hU hS (by decide) rfl dX4_deeper_28 (fun S7 H locs hU hS => ?_)
    exact x_vret hx hb hr hlk hS rfl (hU.to fun _ _ => trivial) dX4_deeper_29
section MK
variable {ρ : Type} {p : Program} {l : Launch} {e : Env} {R : Room} {s : State} {m : MethodId} {args : Array Value} {below : List Frame} {meth : Method} {c : Code} {H : Heap} {locs : List Loc} {cells slots : Nat} {Qf : ρ → State → Prop}
variable {cc : ByteArray} {pc nL : Nat} {ls : Array Slot} {rest : List Value}
variable {D : va_G} {ct : CT} {ad : Nat → Nat} {A A0 : Nat → Prop} {S : US} {w : Int64} {H0 : Heap}
theorem kM_deeper (E : ME p m c cc nL s args RX4 D clW ct) (hU : UM D ct ad A S w H) (hS : va_S A H0 H locs) (hA0 : ∀ q, H0.size ≤ q → A q) (hR : 2 + 1 ≤ R.frames ∧ 8 + (1 + 11) + 53 ≤ R.locals) (hsize : ls.size = nL) (hW : (rest.map fun v => v.category).sum ≤ 8) (hdg : decode cc pc = .ok (.invokevirtual 214, 3)) (hf : cells ≤ R.cells ∧ slots ≤ R.slots) {kp : US → Option ρ} (kk : ∀ (o : US) (H1 : Heap) (locs1 : List Loc), UM D ct ad A o w H1 → va_S A H0 H1 locs1 → X p l e R s m args below meth c H1 locs1 cells slots Qf (kp o) (F0 m (pc + 3) ls (rest))) : X p l e R s m args below meth c H locs cells slots Qf (callK (sM_deeper S) kp) (F0 m pc ls (.ref (ad 0) :: rest)) := ucV_mod (i := 0) (So := fun (o : US) => o) (wo := fun (o : US) => w) (As := []) E hU hS hA0 (by decide) rfl rfl (fun sz o ho => mM_deeper l D ct ad S w sz o ho) (cwV 0 E.1.2.2.2.2 (lw_V q2119 q2121 qs64 q119 q2122) rfl rfl rfl (by decide +kernel) hR) rfl hsize rfl hW hdg hf kk
end MK

set_option maxHeartbeats 4000000 in
theorem mM_isOpened (l : Launch) (D : va_G) (ct : CT) (ad : Nat → Nat) (S : US) (w : Int64) (sz : Nat) (o : Bool) (ho : sM_isOpened S = some o) : Met l yX4_isOpened (ws_ yX4_isOpened cX4_isOpened 2 (some .boolean)) { frames := 2, cells := 0, slots := 0, locals := 52 } (mP D clW ct [.ref (ad (0))] sz (UM D ct ad (fun _ => True) S w)) (mC (some (.int (bI o))) (fun _ => True) (nA sz)) 0 0 (nA sz) := by
  refine X.start (val := fun (o : Bool) => some (.int (bI o))) (Bt := fun _ _ => True) (A := nA sz) ho (by decide) (Nat.le_of_ble_eq_true rfl) rfl ?_
  intro p e s m args below meth c E hr hlk hnm hsz hU ls hl
  subst hsz
  obtain ⟨⟨hx, hb, hml, hown, hts⟩, hK, hJ⟩ := id E
  have hA0 : ∀ q, s.heap.size ≤ q → (nA s.heap.size) q := fun q h => h
  have hS : va_S (nA s.heap.size) s.heap s.heap [] := va_S.rf
  unfold sM_isOpened
  refine x_aload_n hx hb dX4_isOpened_0 rfl (lv_at hl 0 rfl) ?_
  refine gM_waiting E hU dX4_isOpened_1 ?_
  refine x_iconst (v := 1) hx hb dX4_isOpened_4 (by decide) ?_
  refine x_isub hx hb dX4_isOpened_5 ?_
  refine x_istore_n (lv' := [(1, .int ((S 0 31) - (1 : Int32))), (0, .ref (ad (0)))]) hx hb dX4_isOpened_6 rfl hl (by decide) rfl (fun ls hl => ?_)
  refine X.join2 (fun (x : Int32) g H locs => UM D ct ad (fun _ => True) S w H ∧ va_S (nA s.heap.size) s.heap H locs ∧ ∃ ls : Array Slot, g = F0 m 29 ls [] ∧ lv_has ls 2 [(1, .int x)]) ?_ (fun j2 hj2 => ?_)
  · rintro v1 _ H locs ⟨hU, hS, ls, rfl, hl⟩
    refine X.eqs (sp2 := sM_isOpened_J29 v1) rfl ?_
    unfold sM_isOpened_J29
    refine x_iload_n hx hb dX4_isOpened_29 rfl (lv_at hl 0 rfl) ?_
    refine x_if_lt (tgt := 37) hx hb dX4_isOpened_30 (by decide) (fun hc => ?_) (fun hc => ?_)
    · refine x_iconst (v := 0) hx hb dX4_isOpened_37 (by decide) ?_
      exact x_zret hx hb hr hlk hS rfl rfl trivial dX4_isOpened_38
    · refine x_iconst (v := 1) hx hb dX4_isOpened_33 (by decide) ?_
      refine x_goto (tgt := 38) hx hb dX4_isOpened_34 (by decide) ?_
      exact x_zret hx hb hr hlk hS rfl rfl trivial dX4_isOpened_38
  · refine X.loop (I := fun (x : Int32) g H locs => UM D ct ad (fun _ => True) S w H ∧ va_S (nA s.heap.size) s.heap H locs ∧ ∃ ls : Array Slot, g = F0 m 7 ls [] ∧ lv_has ls 2 [(0, .ref (ad (0))), (1, .int x)]) (fun rc4 ih4 => ?_) FUEL _ _ _ _ ⟨hU, hS, _, rfl, lv_sub hl [1, 0] rfl⟩
    rintro v3 _ H locs ⟨hU, hS, ls, rfl, hl⟩
    refine X.eqs (sp2 := sM_isOpened_L7 S j2 rc4 v3) rfl ?_
    unfold sM_isOpened_L7
    refine x_iload_n hx hb dX4_isOpened_7 rfl (lv_at hl 1 rfl) ?_
    refine x_if_lt (tgt := 29) hx hb dX4_isOpened_8 (by decide) (fun hc => ?_) (fun hc => ?_)
    · exact hj2 v3 _ _ _ ⟨hU, hS, _, rfl, lv_sub hl [1] rfl⟩
    · refine x_aload_n hx hb dX4_isOpened_11 rfl (lv_at hl 0 rfl) ?_
      refine gM_waits E hU dX4_isOpened_12 ?_
      refine x_iload_n hx hb dX4_isOpened_15 rfl (lv_at hl 1 rfl) ?_
      refine ux_ald (i := 12) (n := 950) E hU (by decide) rfl dX4_isOpened_16 ?_
      refine kM_isOpen E hS hA0 ⟨by decide, by decide⟩ hl.1 (Nat.le_of_ble_eq_true rfl) dX4_isOpened_17 ⟨Nat.le_refl _, Nat.le_refl _⟩ (fun o5 H locs hk hS => ?_)
      replace hU := hU.kept (fun i hi => hk _ (hU.lt hi))
      refine x_if_ne (tgt := 29) hx hb dX4_isOpened_20 (by decide) (fun hc => ?_) (fun hc => ?_)
      · exact hj2 v3 _ _ _ ⟨hU, hS, _, rfl, lv_sub hl [1] rfl⟩
      · refine x_iinc (v := (v3 + (-1 : Int32))) (lv' := [(1, .int (v3 + (-1 : Int32))), (0, .ref (ad (0)))]) (k := 1) hx hb dX4_isOpened_23 hl rfl rfl (by decide) rfl (fun ls hl => ?_)
        refine x_goto (tgt := 7) hx hb dX4_isOpened_26 (by decide) ?_
        exact ih4 (v3 + (-1 : Int32)) _ _ _ ⟨hU, hS, _, rfl, lv_sub hl [1, 0] rfl⟩
section MK
variable {ρ : Type} {p : Program} {l : Launch} {e : Env} {R : Room} {s : State} {m : MethodId} {args : Array Value} {below : List Frame} {meth : Method} {c : Code} {H : Heap} {locs : List Loc} {cells slots : Nat} {Qf : ρ → State → Prop}
variable {cc : ByteArray} {pc nL : Nat} {ls : Array Slot} {rest : List Value}
variable {D : va_G} {ct : CT} {ad : Nat → Nat} {A A0 : Nat → Prop} {S : US} {w : Int64} {H0 : Heap}
theorem kM_isOpened (E : ME p m c cc nL s args RX4 D clW ct) (hU : UM D ct ad A S w H) (hS : va_S A0 H0 H locs) (hA0 : ∀ q, H0.size ≤ q → A0 q) (hR : 2 + 1 ≤ R.frames ∧ 8 + (2 + 11) + 52 ≤ R.locals) (hsize : ls.size = nL) (hW : (rest.map fun v => v.category).sum ≤ 8) (hdg : decode cc pc = .ok (.invokevirtual 227, 3)) (hf : cells ≤ R.cells ∧ slots ≤ R.slots) {kp : Bool → Option ρ} (kk : ∀ (o : Bool) (H1 : Heap) (locs1 : List Loc), UM D ct ad A S w H1 → va_S A0 H0 H1 locs1 → X p l e R s m args below meth c H1 locs1 cells slots Qf (kp o) (F0 m (pc + 3) ls (.int (bI o) :: rest))) : X p l e R s m args below meth c H locs cells slots Qf (callK (sM_isOpened S) kp) (F0 m pc ls (.ref (ad 0) :: rest)) := ucV_pure (i := 0) (As := []) E hU hS hA0 (by decide) rfl rfl (fun sz o ho => mM_isOpened l D ct ad S w sz o ho) (cwV 0 E.1.2.2.2.2 (lw_V q2153 q2155 qs71 q119 q2156) rfl rfl rfl (by decide +kernel) hR) rfl hsize rfl hW hdg hf kk
end MK

set_option maxHeartbeats 4000000 in
theorem mM_spelled (l : Launch) (D : va_G) (ct : CT) (p1 : Int32) (p2 : Int32) (p3 : Int32) (p4 : Int32) (p5 : Int32) (p6 : Int32) (p7 : Int32) (sz : Nat) (o : Int64) (ho : sM_spelled p1 p2 p3 p4 p5 p6 p7 = some o) : Met l yX4_spelled (ws_ yX4_spelled cX4_spelled 9 (some .long)) { frames := 1, cells := 0, slots := 0, locals := 32 } (mP D clW ct [.int p1, .int p2, .int p3, .int p4, .int p5, .int p6, .int p7] sz (fun _ => True)) (mC (some (.long o)) (fun _ => True) (nA sz)) 0 0 (nA sz) := by
  refine X.start (val := fun (o : Int64) => some (.long o)) (Bt := fun _ _ => True) (A := nA sz) ho (by decide) (Nat.le_of_ble_eq_true rfl) rfl ?_
  intro p e s m args below meth c E hr hlk hnm hsz hU ls hl
  subst hsz
  obtain ⟨⟨hx, hb, hml, hown, hts⟩, hK, hJ⟩ := id E
  have hA0 : ∀ q, s.heap.size ≤ q → (nA s.heap.size) q := fun q h => h
  have hS : va_S (nA s.heap.size) s.heap s.heap [] := va_S.rf
  unfold sM_spelled
  refine x_iload_n hx hb dX4_spelled_0 rfl (lv_at hl 0 rfl) ?_
  refine x_i2l hx hb dX4_spelled_1 rfl ?_
  refine x_ldc2 hx hb hown (hts _ q2086) dX4_spelled_2 ?_
  refine x_lsub hx hb dX4_spelled_5 ?_
  refine x_iconst (v := 5) hx hb dX4_spelled_6 (by decide) ?_
  refine x_lshl hx hb dX4_spelled_7 rfl ?_
  refine x_iload_n hx hb dX4_spelled_8 rfl (lv_at hl 1 rfl) ?_
  refine x_bipush (v := 96) hx hb dX4_spelled_9 (by decide) ?_
  refine x_isub hx hb dX4_spelled_11 ?_
  refine x_i2l hx hb dX4_spelled_12 rfl ?_
  refine x_lor hx hb dX4_spelled_13 ?_
  refine x_topl (fun e1 => ?_)
  refine x_lstore (lv' := [(7, .long e1), (0, .int p1), (1, .int p2), (2, .int p3), (3, .int p4), (4, .int p5), (5, .int p6), (6, .int p7)]) hx hb dX4_spelled_14 hl (by decide) rfl (fun ls hl => ?_)
  refine x_iload_n hx hb dX4_spelled_16 rfl (lv_at hl 3 rfl) ?_
  refine X.join2 (fun (x : Int64) g H locs => va_S (nA s.heap.size) s.heap H locs ∧ ∃ ls : Array Slot, g = F0 m 32 ls [] ∧ lv_has ls 9 [(3, .int p4), (4, .int p5), (5, .int p6), (6, .int p7), (7, .long x)]) ?_ (fun j3 hj3 => ?_)
  · rintro v2 _ H locs ⟨hS, ls, rfl, hl⟩
    refine X.eqs (sp2 := sM_spelled_J32 p4 p5 p6 p7 v2) rfl ?_
    unfold sM_spelled_J32
    refine x_iload_n hx hb dX4_spelled_32 rfl (lv_at hl 0 rfl) ?_
    refine X.join2 (fun (x : Int64) g H locs => va_S (nA s.heap.size) s.heap H locs ∧ ∃ ls : Array Slot, g = F0 m 48 ls [] ∧ lv_has ls 9 [(4, .int p5), (5, .int p6), (6, .int p7), (7, .long x)]) ?_ (fun j5 hj5 => ?_)
    · rintro v4 _ H locs ⟨hS, ls, rfl, hl⟩
      refine X.eqs (sp2 := sM_spelled_J48 p5 p6 p7 v4) rfl ?_
      unfold sM_spelled_J48
      refine x_iload hx hb dX4_spelled_48 (lv_at hl 0 rfl) ?_
      refine X.join2 (fun (x : Int64) g H locs => va_S (nA s.heap.size) s.heap H locs ∧ ∃ ls : Array Slot, g = F0 m 66 ls [] ∧ lv_has ls 9 [(5, .int p6), (6, .int p7), (7, .long x)]) ?_ (fun j7 hj7 => ?_)
      · rintro v6 _ H locs ⟨hS, ls, rfl, hl⟩
        refine X.eqs (sp2 := sM_spelled_J66 p6 p7 v6) rfl ?_
        unfold sM_spelled_J66
        refine x_iload hx hb dX4_spelled_66 (lv_at hl 0 rfl) ?_
        refine X.join2 (fun (x : Int64) g H locs => va_S (nA s.heap.size) s.heap H locs ∧ ∃ ls : Array Slot, g = F0 m 84 ls [] ∧ lv_has ls 9 [(6, .int p7), (7, .long x)]) ?_ (fun j9 hj9 => ?_)
        · rintro v8 _ H locs ⟨hS, ls, rfl, hl⟩
          refine X.eqs (sp2 := sM_spelled_J84 p7 v8) rfl ?_
          unfold sM_spelled_J84
          refine x_iload hx hb dX4_spelled_84 (lv_at hl 0 rfl) ?_
          refine x_if_eq (tgt := 102) hx hb dX4_spelled_86 (by decide) (fun hc => ?_) (fun hc => ?_)
          · refine x_lload hx hb dX4_spelled_102 (lv_at hl 1 rfl) ?_
            exact x_lret hx hb hr hlk hS rfl trivial dX4_spelled_104
          · refine x_lload hx hb dX4_spelled_89 (lv_at hl 1 rfl) ?_
            refine x_iconst (v := 5) hx hb dX4_spelled_91 (by decide) ?_
            refine x_lshl hx hb dX4_spelled_92 rfl ?_
            refine x_iload hx hb dX4_spelled_93 (lv_at hl 0 rfl) ?_
            refine x_bipush (v := 96) hx hb dX4_spelled_95 (by decide) ?_
            refine x_isub hx hb dX4_spelled_97 ?_
            refine x_i2l hx hb dX4_spelled_98 rfl ?_
            refine x_lor hx hb dX4_spelled_99 ?_
            refine x_topl (fun e10 => ?_)
            refine x_lstore (lv' := [(7, .long e10), (6, .int p7)]) hx hb dX4_spelled_100 hl (by decide) rfl (fun ls hl => ?_)
            refine x_lload hx hb dX4_spelled_102 (lv_at hl 0 rfl) ?_
            exact x_lret hx hb hr hlk hS rfl trivial dX4_spelled_104
        · refine x_if_eq (tgt := 84) hx hb dX4_spelled_68 (by decide) (fun hc => ?_) (fun hc => ?_)
          · exact hj9 v6 _ _ _ ⟨hS, _, rfl, lv_sub hl [1, 2] rfl⟩
          · refine x_lload hx hb dX4_spelled_71 (lv_at hl 2 rfl) ?_
            refine x_iconst (v := 5) hx hb dX4_spelled_73 (by decide) ?_
            refine x_lshl hx hb dX4_spelled_74 rfl ?_
            refine x_iload hx hb dX4_spelled_75 (lv_at hl 0 rfl) ?_
            refine x_bipush (v := 96) hx hb dX4_spelled_77 (by decide) ?_
            refine x_isub hx hb dX4_spelled_79 ?_
            refine x_i2l hx hb dX4_spelled_80 rfl ?_
            refine x_lor hx hb dX4_spelled_81 ?_
            refine x_topl (fun e11 => ?_)
            refine x_lstore (lv' := [(7, .long e11), (5, .int p6), (6, .int p7)]) hx hb dX4_spelled_82 hl (by decide) rfl (fun ls hl => ?_)
            exact hj9 e11 _ _ _ ⟨hS, _, rfl, lv_sub hl [2, 0] rfl⟩
      · refine x_if_eq (tgt := 66) hx hb dX4_spelled_50 (by decide) (fun hc => ?_) (fun hc => ?_)
        · exact hj7 v4 _ _ _ ⟨hS, _, rfl, lv_sub hl [1, 2, 3] rfl⟩
        · refine x_lload hx hb dX4_spelled_53 (lv_at hl 3 rfl) ?_
          refine x_iconst (v := 5) hx hb dX4_spelled_55 (by decide) ?_
          refine x_lshl hx hb dX4_spelled_56 rfl ?_
          refine x_iload hx hb dX4_spelled_57 (lv_at hl 0 rfl) ?_
          refine x_bipush (v := 96) hx hb dX4_spelled_59 (by decide) ?_
          refine x_isub hx hb dX4_spelled_61 ?_
          refine x_i2l hx hb dX4_spelled_62 rfl ?_
          refine x_lor hx hb dX4_spelled_63 ?_
          refine x_topl (fun e12 => ?_)
          refine x_lstore (lv' := [(7, .long e12), (4, .int p5), (5, .int p6), (6, .int p7)]) hx hb dX4_spelled_64 hl (by decide) rfl (fun ls hl => ?_)
          exact hj7 e12 _ _ _ ⟨hS, _, rfl, lv_sub hl [2, 3, 0] rfl⟩
    · refine x_if_eq (tgt := 48) hx hb dX4_spelled_33 (by decide) (fun hc => ?_) (fun hc => ?_)
      · exact hj5 v2 _ _ _ ⟨hS, _, rfl, lv_sub hl [1, 2, 3, 4] rfl⟩
      · refine x_lload hx hb dX4_spelled_36 (lv_at hl 4 rfl) ?_
        refine x_iconst (v := 5) hx hb dX4_spelled_38 (by decide) ?_
        refine x_lshl hx hb dX4_spelled_39 rfl ?_
        refine x_iload_n hx hb dX4_spelled_40 rfl (lv_at hl 0 rfl) ?_
        refine x_bipush (v := 96) hx hb dX4_spelled_41 (by decide) ?_
        refine x_isub hx hb dX4_spelled_43 ?_
        refine x_i2l hx hb dX4_spelled_44 rfl ?_
        refine x_lor hx hb dX4_spelled_45 ?_
        refine x_topl (fun e13 => ?_)
        refine x_lstore (lv' := [(7, .long e13), (3, .int p4), (4, .int p5), (5, .int p6), (6, .int p7)]) hx hb dX4_spelled_46 hl (by decide) rfl (fun ls hl => ?_)
        exact hj5 e13 _ _ _ ⟨hS, _, rfl, lv_sub hl [2, 3, 4, 0] rfl⟩
  · refine x_if_eq (tgt := 32) hx hb dX4_spelled_17 (by decide) (fun hc => ?_) (fun hc => ?_)
    · exact hj3 e1 _ _ _ ⟨hS, _, rfl, lv_sub hl [4, 5, 6, 7, 0] rfl⟩
    · refine x_lload hx hb dX4_spelled_20 (lv_at hl 0 rfl) ?_
      refine x_iconst (v := 5) hx hb dX4_spelled_22 (by decide) ?_
      refine x_lshl hx hb dX4_spelled_23 rfl ?_
      refine x_iload_n hx hb dX4_spelled_24 rfl (lv_at hl 3 rfl) ?_
      refine x_bipush (v := 96) hx hb dX4_spelled_25 (by decide) ?_
      refine x_isub hx hb dX4_spelled_27 ?_
      refine x_i2l hx hb dX4_spelled_28 rfl ?_
      refine x_lor hx hb dX4_spelled_29 ?_
      refine x_topl (fun e14 => ?_)
      refine x_lstore (lv' := [(7, .long e14), (0, .int p1), (1, .int p2), (2, .int p3), (3, .int p4), (4, .int p5), (5, .int p6), (6, .int p7)]) hx hb dX4_spelled_30 hl (by decide) rfl (fun ls hl => ?_)
      exact hj3 e14 _ _ _ ⟨hS, _, rfl, lv_sub hl [4, 5, 6, 7, 0] rfl⟩
section MK
variable {ρ : Type} {p : Program} {l : Launch} {e : Env} {R : Room} {s : State} {m : MethodId} {args : Array Value} {below : List Frame} {meth : Method} {c : Code} {H : Heap} {locs : List Loc} {cells slots : Nat} {Qf : ρ → State → Prop}
variable {cc : ByteArray} {pc nL : Nat} {ls : Array Slot} {rest : List Value}
variable {D : va_G} {ct : CT} {ad : Nat → Nat} {A A0 : Nat → Prop} {S : US} {w : Int64} {H0 : Heap}
theorem kM_spelled {p1 : Int32} {p2 : Int32} {p3 : Int32} {p4 : Int32} {p5 : Int32} {p6 : Int32} {p7 : Int32} (E : ME p m c cc nL s args RX4 D clW ct) (hS : va_S A0 H0 H locs) (hA0 : ∀ q, H0.size ≤ q → A0 q) (hR : 1 + 1 ≤ R.frames ∧ 8 + (9 + 11) + 32 ≤ R.locals) (hsize : ls.size = nL) (hW : (rest.map fun v => v.category).sum ≤ 8) (hdg : decode cc pc = .ok (.invokestatic 165, 3)) (hf : cells ≤ R.cells ∧ slots ≤ R.slots) {kp : Int64 → Option ρ} (kk : ∀ (o : Int64) (H1 : Heap) (locs1 : List Loc), (∀ q : Nat, q < H.size → H1[q]? = H[q]?) → va_S A0 H0 H1 locs1 → X p l e R s m args below meth c H1 locs1 cells slots Qf (kp o) (F0 m (pc + 3) ls (.long o :: rest))) : X p l e R s m args below meth c H locs cells slots Qf (callK (sM_spelled p1 p2 p3 p4 p5 p6 p7) kp) (F0 m pc ls (.int p7 :: .int p6 :: .int p5 :: .int p4 :: .int p3 :: .int p2 :: .int p1 :: rest)) := ucS (As := [.int p1, .int p2, .int p3, .int p4, .int p5, .int p6, .int p7]) E hS hA0 (fun sz o ho => mM_spelled l D ct p1 p2 p3 p4 p5 p6 p7 sz o ho) (va_cwS 7 E.1.2.2.2.2 (lw_S q2083 q2084 q119 q2085) rfl rfl rfl (by decide +kernel) hR) rfl hsize rfl hW hdg hf kk
end MK

set_option maxHeartbeats 4000000 in
theorem mM_letters (l : Launch) (D : va_G) (ct : CT) (p1 : Int32) (sz : Nat) (o : Int64) (ho : sM_letters p1 = some o) : Met l yX4_letters (ws_ yX4_letters cX4_letters 1 (some .long)) { frames := 2, cells := 0, slots := 0, locals := 60 } (mP D clW ct [.int p1] sz (fun _ => True)) (mC (some (.long o)) (fun _ => True) (nA sz)) 0 0 (nA sz) := by
  refine X.start (val := fun (o : Int64) => some (.long o)) (Bt := fun _ _ => True) (A := nA sz) ho (by decide) (Nat.le_of_ble_eq_true rfl) rfl ?_
  intro p e s m args below meth c E hr hlk hnm hsz hU ls hl
  subst hsz
  obtain ⟨⟨hx, hb, hml, hown, hts⟩, hK, hJ⟩ := id E
  have hA0 : ∀ q, s.heap.size ≤ q → (nA s.heap.size) q := fun q h => h
  have hS : va_S (nA s.heap.size) s.heap s.heap [] := va_S.rf
  unfold sM_letters
  refine x_iload_n hx hb dX4_letters_0 rfl (lv_at hl 0 rfl) ?_
  refine X.ite (fun hc => ?_) (fun hc0 => ?_)
  · refine x_tabEq (tgt := 72) hx hb hc dX4_letters_1 (by decide) (by decide) rfl (by decide) ?_
    refine x_bipush (v := 115) hx hb dX4_letters_72 (by decide) ?_
    refine x_bipush (v := 116) hx hb dX4_letters_74 (by decide) ?_
    refine x_bipush (v := 114) hx hb dX4_letters_76 (by decide) ?_
    refine x_bipush (v := 97) hx hb dX4_letters_78 (by decide) ?_
    refine x_bipush (v := 105) hx hb dX4_letters_80 (by decide) ?_
    refine x_bipush (v := 110) hx hb dX4_letters_82 (by decide) ?_
    refine x_iconst (v := 0) hx hb dX4_letters_84 (by decide) ?_
    refine kM_spelled E hS hA0 ⟨by decide, by decide⟩ hl.1 (Nat.le_of_ble_eq_true rfl) dX4_letters_85 ⟨Nat.le_refl _, Nat.le_refl _⟩ (fun o1 H locs hk hS => ?_)
    exact x_lret hx hb hr hlk hS rfl trivial dX4_letters_88
  refine X.ite (fun hc => ?_) (fun hc1 => ?_)
  · refine x_tabEq (tgt := 89) hx hb hc dX4_letters_1 (by decide) (by decide) rfl (by decide) ?_
    refine x_bipush (v := 115) hx hb dX4_letters_89 (by decide) ?_
    refine x_bipush (v := 101) hx hb dX4_letters_91 (by decide) ?_
    refine x_bipush (v := 97) hx hb dX4_letters_93 (by decide) ?_
    refine x_bipush (v := 109) hx hb dX4_letters_95 (by decide) ?_
    refine x_iconst (v := 0) hx hb dX4_letters_97 (by decide) ?_
    refine x_iconst (v := 0) hx hb dX4_letters_98 (by decide) ?_
    refine x_iconst (v := 0) hx hb dX4_letters_99 (by decide) ?_
    refine kM_spelled E hS hA0 ⟨by decide, by decide⟩ hl.1 (Nat.le_of_ble_eq_true rfl) dX4_letters_100 ⟨Nat.le_refl _, Nat.le_refl _⟩ (fun o2 H locs hk hS => ?_)
    exact x_lret hx hb hr hlk hS rfl trivial dX4_letters_103
  refine X.ite (fun hc => ?_) (fun hc2 => ?_)
  · refine x_tabEq (tgt := 104) hx hb hc dX4_letters_1 (by decide) (by decide) rfl (by decide) ?_
    refine x_bipush (v := 115) hx hb dX4_letters_104 (by decide) ?_
    refine x_bipush (v := 116) hx hb dX4_letters_106 (by decide) ?_
    refine x_bipush (v := 105) hx hb dX4_letters_108 (by decide) ?_
    refine x_bipush (v := 116) hx hb dX4_letters_110 (by decide) ?_
    refine x_bipush (v := 99) hx hb dX4_letters_112 (by decide) ?_
    refine x_bipush (v := 104) hx hb dX4_letters_114 (by decide) ?_
    refine x_iconst (v := 0) hx hb dX4_letters_116 (by decide) ?_
    refine kM_spelled E hS hA0 ⟨by decide, by decide⟩ hl.1 (Nat.le_of_ble_eq_true rfl) dX4_letters_117 ⟨Nat.le_refl _, Nat.le_refl _⟩ (fun o3 H locs hk hS => ?_)
    exact x_lret hx hb hr hlk hS rfl trivial dX4_letters_120
  refine X.ite (fun hc => ?_) (fun hc3 => ?_)
  · refine x_tabEq (tgt := 121) hx hb hc dX4_letters_1 (by decide) (by decide) rfl (by decide) ?_
    refine x_bipush (v := 98) hx hb dX4_letters_121 (by decide) ?_
    refine x_bipush (v := 101) hx hb dX4_letters_123 (by decide) ?_
    refine x_bipush (v := 115) hx hb dX4_letters_125 (by decide) ?_
    refine x_bipush (v := 105) hx hb dX4_letters_127 (by decide) ?_
    refine x_bipush (v := 100) hx hb dX4_letters_129 (by decide) ?_
    refine x_bipush (v := 101) hx hb dX4_letters_131 (by decide) ?_
    refine x_iconst (v := 0) hx hb dX4_letters_133 (by decide) ?_
    refine kM_spelled E hS hA0 ⟨by decide, by decide⟩ hl.1 (Nat.le_of_ble_eq_true rfl) dX4_letters_134 ⟨Nat.le_refl _, Nat.le_refl _⟩ (fun o4 H locs hk hS => ?_)
    exact x_lret hx hb hr hlk hS rfl trivial dX4_letters_137
  refine X.ite (fun hc => ?_) (fun hc4 => ?_)
  · refine x_tabEq (tgt := 138) hx hb hc dX4_letters_1 (by decide) (by decide) rfl (by decide) ?_
    refine x_bipush (v := 119) hx hb dX4_letters_138 (by decide) ?_
    refine x_bipush (v := 111) hx hb dX4_letters_140 (by decide) ?_
    refine x_bipush (v := 109) hx hb dX4_letters_142 (by decide) ?_
    refine x_bipush (v := 101) hx hb dX4_letters_144 (by decide) ?_
    refine x_bipush (v := 110) hx hb dX4_letters_146 (by decide) ?_
    refine x_iconst (v := 0) hx hb dX4_letters_148 (by decide) ?_
    refine x_iconst (v := 0) hx hb dX4_letters_149 (by decide) ?_
    refine kM_spelled E hS hA0 ⟨by decide, by decide⟩ hl.1 (Nat.le_of_ble_eq_true rfl) dX4_letters_150 ⟨Nat.le_refl _, Nat.le_refl _⟩ (fun o5 H locs hk hS => ?_)
    exact x_lret hx hb hr hlk hS rfl trivial dX4_letters_153
  refine X.ite (fun hc => ?_) (fun hc5 => ?_)
  · refine x_tabEq (tgt := 154) hx hb hc dX4_letters_1 (by decide) (by decide) rfl (by decide) ?_
    refine x_bipush (v := 100) hx hb dX4_letters_154 (by decide) ?_
    refine x_bipush (v := 97) hx hb dX4_letters_156 (by decide) ?_
    refine x_bipush (v := 121) hx hb dX4_letters_158 (by decide) ?_
    refine x_iconst (v := 0) hx hb dX4_letters_160 (by decide) ?_
    refine x_iconst (v := 0) hx hb dX4_letters_161 (by decide) ?_
    refine x_iconst (v := 0) hx hb dX4_letters_162 (by decide) ?_
    refine x_iconst (v := 0) hx hb dX4_letters_163 (by decide) ?_
    refine kM_spelled E hS hA0 ⟨by decide, by decide⟩ hl.1 (Nat.le_of_ble_eq_true rfl) dX4_letters_164 ⟨Nat.le_refl _, Nat.le_refl _⟩ (fun o6 H locs hk hS => ?_)
    exact x_lret hx hb hr hlk hS rfl trivial dX4_letters_167
  refine X.ite (fun hc => ?_) (fun hc6 => ?_)
  · refine x_tabEq (tgt := 168) hx hb hc dX4_letters_1 (by decide) (by decide) rfl (by decide) ?_
    refine x_bipush (v := 115) hx hb dX4_letters_168 (by decide) ?_
    refine x_bipush (v := 116) hx hb dX4_letters_170 (by decide) ?_
    refine x_bipush (v := 114) hx hb dX4_letters_172 (by decide) ?_
    refine x_bipush (v := 101) hx hb dX4_letters_174 (by decide) ?_
    refine x_bipush (v := 116) hx hb dX4_letters_176 (by decide) ?_
    refine x_bipush (v := 99) hx hb dX4_letters_178 (by decide) ?_
    refine x_bipush (v := 104) hx hb dX4_letters_180 (by decide) ?_
    refine kM_spelled E hS hA0 ⟨by decide, by decide⟩ hl.1 (Nat.le_of_ble_eq_true rfl) dX4_letters_182 ⟨Nat.le_refl _, Nat.le_refl _⟩ (fun o7 H locs hk hS => ?_)
    exact x_lret hx hb hr hlk hS rfl trivial dX4_letters_185
  refine X.ite (fun hc => ?_) (fun hc7 => ?_)
  · refine x_tabEq (tgt := 186) hx hb hc dX4_letters_1 (by decide) (by decide) rfl (by decide) ?_
    refine x_bipush (v := 119) hx hb dX4_letters_186 (by decide) ?_
    refine x_bipush (v := 111) hx hb dX4_letters_188 (by decide) ?_
    refine x_bipush (v := 109) hx hb dX4_letters_190 (by decide) ?_
    refine x_bipush (v := 97) hx hb dX4_letters_192 (by decide) ?_
    refine x_bipush (v := 110) hx hb dX4_letters_194 (by decide) ?_
    refine x_iconst (v := 0) hx hb dX4_letters_196 (by decide) ?_
    refine x_iconst (v := 0) hx hb dX4_letters_197 (by decide) ?_
    refine kM_spelled E hS hA0 ⟨by decide, by decide⟩ hl.1 (Nat.le_of_ble_eq_true rfl) dX4_letters_198 ⟨Nat.le_refl _, Nat.le_refl _⟩ (fun o8 H locs hk hS => ?_)
    exact x_lret hx hb hr hlk hS rfl trivial dX4_letters_201
  refine X.ite (fun hc => ?_) (fun hc8 => ?_)
  · refine x_tabEq (tgt := 202) hx hb hc dX4_letters_1 (by decide) (by decide) rfl (by decide) ?_
    refine x_bipush (v := 107) hx hb dX4_letters_202 (by decide) ?_
    refine x_bipush (v := 110) hx hb dX4_letters_204 (by decide) ?_
    refine x_bipush (v := 111) hx hb dX4_letters_206 (by decide) ?_
    refine x_bipush (v := 116) hx hb dX4_letters_208 (by decide) ?_
    refine x_bipush (v := 115) hx hb dX4_letters_210 (by decide) ?_
    refine x_iconst (v := 0) hx hb dX4_letters_212 (by decide) ?_
    refine x_iconst (v := 0) hx hb dX4_letters_213 (by decide) ?_
    refine kM_spelled E hS hA0 ⟨by decide, by decide⟩ hl.1 (Nat.le_of_ble_eq_true rfl) dX4_letters_214 ⟨Nat.le_refl _, Nat.le_refl _⟩ (fun o9 H locs hk hS => ?_)
    exact x_lret hx hb hr hlk hS rfl trivial dX4_letters_217
  refine X.ite (fun hc => ?_) (fun hc9 => ?_)
  · refine x_tabEq (tgt := 218) hx hb hc dX4_letters_1 (by decide) (by decide) rfl (by decide) ?_
    refine x_bipush (v := 119) hx hb dX4_letters_218 (by decide) ?_
    refine x_bipush (v := 101) hx hb dX4_letters_220 (by decide) ?_
    refine x_bipush (v := 101) hx hb dX4_letters_222 (by decide) ?_
    refine x_bipush (v := 107) hx hb dX4_letters_224 (by decide) ?_
    refine x_iconst (v := 0) hx hb dX4_letters_226 (by decide) ?_
    refine x_iconst (v := 0) hx hb dX4_letters_227 (by decide) ?_
    refine x_iconst (v := 0) hx hb dX4_letters_228 (by decide) ?_
    refine kM_spelled E hS hA0 ⟨by decide, by decide⟩ hl.1 (Nat.le_of_ble_eq_true rfl) dX4_letters_229 ⟨Nat.le_refl _, Nat.le_refl _⟩ (fun o10 H locs hk hS => ?_)
    exact x_lret hx hb hr hlk hS rfl trivial dX4_letters_232
  refine X.ite (fun hc => ?_) (fun hc10 => ?_)
  · refine x_tabEq (tgt := 233) hx hb hc dX4_letters_1 (by decide) (by decide) rfl (by decide) ?_
    refine x_bipush (v := 102) hx hb dX4_letters_233 (by decide) ?_
    refine x_bipush (v := 114) hx hb dX4_letters_235 (by decide) ?_
    refine x_bipush (v := 97) hx hb dX4_letters_237 (by decide) ?_
    refine x_bipush (v := 121) hx hb dX4_letters_239 (by decide) ?_
    refine x_bipush (v := 115) hx hb dX4_letters_241 (by decide) ?_
    refine x_iconst (v := 0) hx hb dX4_letters_243 (by decide) ?_
    refine x_iconst (v := 0) hx hb dX4_letters_244 (by decide) ?_
    refine kM_spelled E hS hA0 ⟨by decide, by decide⟩ hl.1 (Nat.le_of_ble_eq_true rfl) dX4_letters_245 ⟨Nat.le_refl _, Nat.le_refl _⟩ (fun o11 H locs hk hS => ?_)
    exact x_lret hx hb hr hlk hS rfl trivial dX4_letters_248
  refine X.ite (fun hc => ?_) (fun hc11 => ?_)
  · refine x_tabEq (tgt := 249) hx hb hc dX4_letters_1 (by decide) (by decide) rfl (by decide) ?_
    refine x_bipush (v := 112) hx hb dX4_letters_249 (by decide) ?_
    refine x_bipush (v := 117) hx hb dX4_letters_251 (by decide) ?_
    refine x_bipush (v := 108) hx hb dX4_letters_253 (by decide) ?_
    refine x_bipush (v := 108) hx hb dX4_letters_255 (by decide) ?_
    refine x_bipush (v := 115) hx hb dX4_letters_257 (by decide) ?_
    refine x_iconst (v := 0) hx hb dX4_letters_259 (by decide) ?_
    refine x_iconst (v := 0) hx hb dX4_letters_260 (by decide) ?_
    refine kM_spelled E hS hA0 ⟨by decide, by decide⟩ hl.1 (Nat.le_of_ble_eq_true rfl) dX4_letters_261 ⟨Nat.le_refl _, Nat.le_refl _⟩ (fun o12 H locs hk hS => ?_)
    exact x_lret hx hb hr hlk hS rfl trivial dX4_letters_264
  refine X.ite (fun hc => ?_) (fun hc12 => ?_)
  · refine x_tabEq (tgt := 265) hx hb hc dX4_letters_1 (by decide) (by decide) rfl (by decide) ?_
    refine x_bipush (v := 97) hx hb dX4_letters_265 (by decide) ?_
    refine x_bipush (v := 110) hx hb dX4_letters_267 (by decide) ?_
    refine x_bipush (v := 100) hx hb dX4_letters_269 (by decide) ?_
    refine x_iconst (v := 0) hx hb dX4_letters_271 (by decide) ?_
    refine x_iconst (v := 0) hx hb dX4_letters_272 (by decide) ?_
    refine x_iconst (v := 0) hx hb dX4_letters_273 (by decide) ?_
    refine x_iconst (v := 0) hx hb dX4_letters_274 (by decide) ?_
    refine kM_spelled E hS hA0 ⟨by decide, by decide⟩ hl.1 (Nat.le_of_ble_eq_true rfl) dX4_letters_275 ⟨Nat.le_refl _, Nat.le_refl _⟩ (fun o13 H locs hk hS => ?_)
    exact x_lret hx hb hr hlk hS rfl trivial dX4_letters_278
  refine X.ite (fun hc => ?_) (fun hc13 => ?_)
  · refine x_tabEq (tgt := 279) hx hb hc dX4_letters_1 (by decide) (by decide) rfl (by decide) ?_
    refine x_bipush (v := 111) hx hb dX4_letters_279 (by decide) ?_
    refine x_bipush (v := 114) hx hb dX4_letters_281 (by decide) ?_
    refine x_iconst (v := 0) hx hb dX4_letters_283 (by decide) ?_
    refine x_iconst (v := 0) hx hb dX4_letters_284 (by decide) ?_
    refine x_iconst (v := 0) hx hb dX4_letters_285 (by decide) ?_
    refine x_iconst (v := 0) hx hb dX4_letters_286 (by decide) ?_
    refine x_iconst (v := 0) hx hb dX4_letters_287 (by decide) ?_
    refine kM_spelled E hS hA0 ⟨by decide, by decide⟩ hl.1 (Nat.le_of_ble_eq_true rfl) dX4_letters_288 ⟨Nat.le_refl _, Nat.le_refl _⟩ (fun o14 H locs hk hS => ?_)
    exact x_lret hx hb hr hlk hS rfl trivial dX4_letters_291
  refine x_tabElse2 (n := 14) (tgt := 292) hx hb dX4_letters_1 [0, 1, 2, 3, 4, 5, 6, 7, 8, 9, 10, 11, 12, 13] (by decide) (by decide) (List.forall_mem_cons.mpr ⟨fun he => absurd (x_i32 he (0 : Int32) (by decide)) hc0, (List.forall_mem_cons.mpr ⟨fun he => absurd (x_i32 he (1 : Int32) (by decide)) hc1, (List.forall_mem_cons.mpr ⟨fun he => absurd (x_i32 he (2 : Int32) (by decide)) hc2, (List.forall_mem_cons.mpr ⟨fun he => absurd (x_i32 he (3 : Int32) (by decide)) hc3, (List.forall_mem_cons.mpr ⟨fun he => absurd (x_i32 he (4 : Int32) (by decide)) hc4, (List.forall_mem_cons.mpr ⟨fun he => absurd (x_i32 he (5 : Int32) (by decide)) hc5, (List.forall_mem_cons.mpr ⟨fun he => absurd (x_i32 he (6 : Int32) (by decide)) hc6, (List.forall_mem_cons.mpr ⟨fun he => absurd (x_i32 he (7 : Int32) (by decide)) hc7, (List.forall_mem_cons.mpr ⟨fun he => absurd (x_i32 he (8 : Int32) (by decide)) hc8, (List.forall_mem_cons.mpr ⟨fun he => absurd (x_i32 he (9 : Int32) (by decide)) hc9, (List.forall_mem_cons.mpr ⟨fun he => absurd (x_i32 he (10 : Int32) (by decide)) hc10, (List.forall_mem_cons.mpr ⟨fun he => absurd (x_i32 he (11 : Int32) (by decide)) hc11, (List.forall_mem_cons.mpr ⟨fun he => absurd (x_i32 he (12 : Int32) (by decide)) hc12, (List.forall_mem_cons.mpr ⟨fun he => absurd (x_i32 he (13 : Int32) (by decide)) hc13, (fun _ h => absurd h List.not_mem_nil)⟩)⟩)⟩)⟩)⟩)⟩)⟩)⟩)⟩)⟩)⟩)⟩)⟩)⟩) (by decide) ?_
  refine x_bipush (v := 110) hx hb dX4_letters_292 (by decide) ?_
  refine x_bipush (v := 111) hx hb dX4_letters_294 (by decide) ?_
  refine x_bipush (v := 116) hx hb dX4_letters_296 (by decide) ?_
  refine x_iconst (v := 0) hx hb dX4_letters_298 (by decide) ?_
  refine x_iconst (v := 0) hx hb dX4_letters_299 (by decide) ?_
  refine x_iconst (v := 0) hx hb dX4_letters_300 (by decide) ?_
  refine x_iconst (v := 0) hx hb dX4_letters_301 (by decide) ?_
  refine kM_spelled E hS hA0 ⟨by decide, by decide⟩ hl.1 (Nat.le_of_ble_eq_true rfl) dX4_letters_302 ⟨Nat.le_refl _, Nat.le_refl _⟩ (fun o15 H locs hk hS => ?_)
  exact x_lret hx hb hr hlk hS rfl trivial dX4_letters_305
section MK
variable {ρ : Type} {p : Program} {l : Launch} {e : Env} {R : Room} {s : State} {m : MethodId} {args : Array Value} {below : List Frame} {meth : Method} {c : Code} {H : Heap} {locs : List Loc} {cells slots : Nat} {Qf : ρ → State → Prop}
variable {cc : ByteArray} {pc nL : Nat} {ls : Array Slot} {rest : List Value}
variable {D : va_G} {ct : CT} {ad : Nat → Nat} {A A0 : Nat → Prop} {S : US} {w : Int64} {H0 : Heap}
theorem kM_letters {p1 : Int32} (E : ME p m c cc nL s args RX4 D clW ct) (hS : va_S A0 H0 H locs) (hA0 : ∀ q, H0.size ≤ q → A0 q) (hR : 2 + 1 ≤ R.frames ∧ 8 + (1 + 11) + 60 ≤ R.locals) (hsize : ls.size = nL) (hW : (rest.map fun v => v.category).sum ≤ 8) (hdg : decode cc pc = .ok (.invokestatic 169, 3)) (hf : cells ≤ R.cells ∧ slots ≤ R.slots) {kp : Int64 → Option ρ} (kk : ∀ (o : Int64) (H1 : Heap) (locs1 : List Loc), (∀ q : Nat, q < H.size → H1[q]? = H[q]?) → va_S A0 H0 H1 locs1 → X p l e R s m args below meth c H1 locs1 cells slots Qf (kp o) (F0 m (pc + 3) ls (.long o :: rest))) : X p l e R s m args below meth c H locs cells slots Qf (callK (sM_letters p1) kp) (F0 m pc ls (.int p1 :: rest)) := ucS (As := [.int p1]) E hS hA0 (fun sz o ho => mM_letters l D ct p1 sz o ho) (va_cwS 1 E.1.2.2.2.2 (lw_S q2080 q2081 q119 q2082) rfl rfl rfl (by decide +kernel) hR) rfl hsize rfl hW hdg hf kk
end MK

set_option maxHeartbeats 4000000 in
theorem mM_knownWord (l : Launch) (D : va_G) (ct : CT) (ad : Nat → Nat) (S : US) (w : Int64) (sz : Nat) (o : Int32) (ho : sM_knownWord S w = some o) : Met l yX4_knownWord (ws_ yX4_knownWord cX4_knownWord 2 (some .int)) { frames := 3, cells := 0, slots := 0, locals := 80 } (mP D clW ct [.ref (ad (0))] sz (UM D ct ad (fun _ => True) S w)) (mC (some (.int o)) (fun _ => True) (nA sz)) 0 0 (nA sz) := by
  refine X.start (val := fun (o : Int32) => some (.int o)) (Bt := fun _ _ => True) (A := nA sz) ho (by decide) (Nat.le_of_ble_eq_true rfl) rfl ?_
  intro p e s m args below meth c E hr hlk hnm hsz hU ls hl
  subst hsz
  obtain ⟨⟨hx, hb, hml, hown, hts⟩, hK, hJ⟩ := id E
  have hA0 : ∀ q, s.heap.size ≤ q → (nA s.heap.size) q := fun q h => h
  have hS : va_S (nA s.heap.size) s.heap s.heap [] := va_S.rf
  unfold sM_knownWord
  refine x_aload_n hx hb dX4_knownWord_0 rfl (lv_at hl 0 rfl) ?_
  refine gM_sort E hU dX4_knownWord_1 ?_
  refine x_iconst (v := 1) hx hb dX4_knownWord_4 (by decide) ?_
  refine x_icmp_ne (tgt := 17) hx hb dX4_knownWord_5 (by decide) (fun hc => ?_) (fun hc => ?_)
  · refine x_iconst (v := -1) hx hb dX4_knownWord_17 (by decide) ?_
    exact x_iret hx hb hr hlk hS rfl trivial dX4_knownWord_18
  · refine x_aload_n hx hb dX4_knownWord_8 rfl (lv_at hl 0 rfl) ?_
    refine gM_long0 E hU dX4_knownWord_9 ?_
    refine x_bipush (v := 7) hx hb dX4_knownWord_12 (by decide) ?_
    refine x_icmp_le (tgt := 19) hx hb dX4_knownWord_14 (by decide) (fun hc => ?_) (fun hc => ?_)
    · refine x_iconst (v := 0) hx hb dX4_knownWord_19 (by decide) ?_
      refine x_istore_n (lv' := [(1, .int (0 : Int32)), (0, .ref (ad (0)))]) hx hb dX4_knownWord_20 rfl hl (by decide) rfl (fun ls hl => ?_)
      refine X.loop (I := fun (x : Int32) g H locs => UM D ct ad (fun _ => True) S w H ∧ va_S (nA s.heap.size) s.heap H locs ∧ ∃ ls : Array Slot, g = F0 m 21 ls [] ∧ lv_has ls 2 [(0, .ref (ad (0))), (1, .int x)]) (fun rc2 ih2 => ?_) FUEL _ _ _ _ ⟨hU, hS, _, rfl, lv_sub hl [1, 0] rfl⟩
      rintro v1 _ H locs ⟨hU, hS, ls, rfl, hl⟩
      refine X.eqs (sp2 := sM_knownWord_L21 w rc2 v1) rfl ?_
      unfold sM_knownWord_L21
      refine x_iload_n hx hb dX4_knownWord_21 rfl (lv_at hl 1 rfl) ?_
      refine x_bipush (v := 15) hx hb dX4_knownWord_22 (by decide) ?_
      refine x_icmp_ge (tgt := 47) hx hb dX4_knownWord_24 (by decide) (fun hc => ?_) (fun hc => ?_)
      · refine x_iconst (v := -1) hx hb dX4_knownWord_47 (by decide) ?_
        exact x_iret hx hb hr hlk hS rfl trivial dX4_knownWord_48
      · refine x_iload_n hx hb dX4_knownWord_27 rfl (lv_at hl 1 rfl) ?_
        refine kM_letters E hS hA0 ⟨by decide, by decide⟩ hl.1 (Nat.le_of_ble_eq_true rfl) dX4_knownWord_28 ⟨Nat.le_refl _, Nat.le_refl _⟩ (fun o3 H locs hk hS => ?_)
        replace hU := hU.kept (fun i hi => hk _ (hU.lt hi))
        refine x_aload_n hx hb dX4_knownWord_31 rfl (lv_at hl 0 rfl) ?_
        refine gM_word E hU dX4_knownWord_32 ?_
        refine x_lcmp hx hb dX4_knownWord_35 ?_
        refine x_if_ne (tgt := 41) hx hb dX4_knownWord_36 (by decide) (fun hc => ?_) (fun hc => ?_)
        · refine x_iinc (v := (v1 + (1 : Int32))) (lv' := [(1, .int (v1 + (1 : Int32))), (0, .ref (ad (0)))]) (k := 1) hx hb dX4_knownWord_41 hl rfl rfl (by decide) rfl (fun ls hl => ?_)
          refine x_goto (tgt := 21) hx hb dX4_knownWord_44 (by decide) ?_
          exact ih2 (v1 + (1 : Int32)) _ _ _ ⟨hU, hS, _, rfl, lv_sub hl [1, 0] rfl⟩
        · refine x_iload_n hx hb dX4_knownWord_39 rfl (lv_at hl 1 rfl) ?_
          exact x_iret hx hb hr hlk hS rfl trivial dX4_knownWord_40
    · refine x_iconst (v := -1) hx hb dX4_knownWord_17 (by decide) ?_
      exact x_iret hx hb hr hlk hS rfl trivial dX4_knownWord_18
section MK
variable {ρ : Type} {p : Program} {l : Launch} {e : Env} {R : Room} {s : State} {m : MethodId} {args : Array Value} {below : List Frame} {meth : Method} {c : Code} {H : Heap} {locs : List Loc} {cells slots : Nat} {Qf : ρ → State → Prop}
variable {cc : ByteArray} {pc nL : Nat} {ls : Array Slot} {rest : List Value}
variable {D : va_G} {ct : CT} {ad : Nat → Nat} {A A0 : Nat → Prop} {S : US} {w : Int64} {H0 : Heap}
theorem kM_knownWord (E : ME p m c cc nL s args RX4 D clW ct) (hU : UM D ct ad A S w H) (hS : va_S A0 H0 H locs) (hA0 : ∀ q, H0.size ≤ q → A0 q) (hR : 3 + 1 ≤ R.frames ∧ 8 + (2 + 11) + 80 ≤ R.locals) (hsize : ls.size = nL) (hW : (rest.map fun v => v.category).sum ≤ 8) (hdg : decode cc pc = .ok (.invokevirtual 201, 3)) (hf : cells ≤ R.cells ∧ slots ≤ R.slots) {kp : Int32 → Option ρ} (kk : ∀ (o : Int32) (H1 : Heap) (locs1 : List Loc), UM D ct ad A S w H1 → va_S A0 H0 H1 locs1 → X p l e R s m args below meth c H1 locs1 cells slots Qf (kp o) (F0 m (pc + 3) ls (.int o :: rest))) : X p l e R s m args below meth c H locs cells slots Qf (callK (sM_knownWord S w) kp) (F0 m pc ls (.ref (ad 0) :: rest)) := ucV_pure (i := 0) (As := []) E hU hS hA0 (by decide) rfl rfl (fun sz o ho => mM_knownWord l D ct ad S w sz o ho) (cwV 0 E.1.2.2.2.2 (lw_V q2076 q2078 qs55 q119 q2079) rfl rfl rfl (by decide +kernel) hR) rfl hsize rfl hW hdg hf kk
end MK

set_option maxHeartbeats 4000000 in
theorem mM_part (l : Launch) (D : va_G) (ct : CT) (ad : Nat → Nat) (S : US) (w : Int64) (sz : Nat) (o : (US × Int64)) (ho : sM_part S w = some o) : Met l yX4_part (ws_ yX4_part cX4_part 2 none) { frames := 4, cells := 0, slots := 0, locals := 101 } (mP D clW ct [.ref (ad (0))] sz (UM D ct ad (fun _ => True) S w)) (mC (none) (UM D ct ad (fun _ => True) o.1 o.2) (uA 31 ad sz)) 0 0 (uA 31 ad sz) := by
  refine X.start (val := fun (o : (US × Int64)) => none) (Bt := fun (o : (US × Int64)) => UM D ct ad (fun _ => True) o.1 o.2) (A := uA 31 ad sz) ho (by decide) (Nat.le_of_ble_eq_true rfl) rfl ?_
  intro p e s m args below meth c E hr hlk hnm hsz hU ls hl
  subst hsz
  obtain ⟨⟨hx, hb, hml, hown, hts⟩, hK, hJ⟩ := id E
  replace hU := hU.to (B := uA 31 ad s.heap.size) (fun i hi => Or.inl ⟨i, hi, rfl⟩)
  have hA0 : ∀ q, s.heap.size ≤ q → (uA 31 ad s.heap.size) q := fun q h => Or.inr h
  have hS : va_S (uA 31 ad s.heap.size) s.heap s.heap [] := va_S.rf
  unfold sM_part
  refine x_aload_n hx hb dX4_part_0 rfl (lv_at hl 0 rfl) ?_
  refine kM_isGood E hU hS hA0 ⟨by decide, by decide⟩ hl.1 (Nat.le_of_ble_eq_true rfl) dX4_part_1 ⟨Nat.le_refl _, Nat.le_refl _⟩ (fun o1 H locs hU hS => ?_)
  refine x_if_ne (tgt := 8) hx hb dX4_part_4 (by decide) (fun hc => ?_) (fun hc => ?_)
  · refine x_aload_n hx hb dX4_part_8 rfl (lv_at hl 0 rfl) ?_
    refine gM_sort E hU dX4_part_9 ?_
    refine x_iconst (v := 2) hx hb dX4_part_12 (by decide) ?_
    refine X.join2 (fun (x : US) g H locs => UM D ct ad (uA 31 ad s.heap.size) x w H ∧ va_S (uA 31 ad s.heap.size) s.heap H locs ∧ ∃ ls : Array Slot, g = F0 m 90 ls [] ∧ lv_has ls 2 [(0, .ref (ad (0)))]) ?_ (fun j3 hj3 => ?_)
    · rintro S2 _ H locs ⟨hU, hS, ls, rfl, hl⟩
      refine X.eqs (sp2 := sM_part_J90 w S2) rfl ?_
      unfold sM_part_J90
      refine x_aload_n hx hb dX4_part_90 rfl (lv_at hl 0 rfl) ?_
      refine kM_isGood E hU hS hA0 ⟨by decide, by decide⟩ hl.1 (Nat.le_of_ble_eq_true rfl) dX4_part_91 ⟨Nat.le_refl _, Nat.le_refl _⟩ (fun o4 H locs hU hS => ?_)
      refine x_if_eq (tgt := 101) hx hb dX4_part_94 (by decide) (fun hc => ?_) (fun hc => ?_)
      · exact x_vret hx hb hr hlk hS rfl (hU.to fun _ _ => trivial) dX4_part_101
      · refine x_aload_n hx hb dX4_part_97 rfl (lv_at hl 0 rfl) ?_
        refine kM_goes E hU hS hA0 ⟨by decide, by decide⟩ hl.1 (Nat.le_of_ble_eq_true rfl) dX4_part_98 ⟨Nat.le_refl _, Nat.le_refl _⟩ (fun o5 H locs hU hS => ?_)
        exact x_vret hx hb hr hlk hS rfl (hU.to fun _ _ => trivial) dX4_part_101
    · refine x_icmp_ne (tgt := 45) hx hb dX4_part_13 (by decide) (fun hc => ?_) (fun hc => ?_)
      · refine x_aload_n hx hb dX4_part_45 rfl (lv_at hl 0 rfl) ?_
        refine gM_sort E hU dX4_part_46 ?_
        refine x_iconst (v := 1) hx hb dX4_part_49 (by decide) ?_
        refine x_icmp_ne (tgt := 85) hx hb dX4_part_50 (by decide) (fun hc => ?_) (fun hc => ?_)
        · refine x_aload_n hx hb dX4_part_85 rfl (lv_at hl 0 rfl) ?_
          refine x_iconst (v := 1) hx hb dX4_part_86 (by decide) ?_
          refine kM_wrong E hU hS hA0 ⟨by decide, by decide⟩ hl.1 (Nat.le_of_ble_eq_true rfl) dX4_part_87 ⟨Nat.le_refl _, Nat.le_refl _⟩ (fun o6 H locs hU hS => ?_)
          exact hj3 o6 _ _ _ ⟨hU, hS, _, rfl, lv_sub hl [0] rfl⟩
        · refine x_aload_n hx hb dX4_part_53 rfl (lv_at hl 0 rfl) ?_
          refine kM_knownWord E hU hS hA0 ⟨by decide, by decide⟩ hl.1 (Nat.le_of_ble_eq_true rfl) dX4_part_54 ⟨Nat.le_refl _, Nat.le_refl _⟩ (fun o7 H locs hU hS => ?_)
          refine x_istore_n (lv' := [(1, .int o7), (0, .ref (ad (0)))]) hx hb dX4_part_57 rfl hl (by decide) rfl (fun ls hl => ?_)
          refine x_iload_n hx hb dX4_part_58 rfl (lv_at hl 0 rfl) ?_
          refine x_if_lt (tgt := 67) hx hb dX4_part_59 (by decide) (fun hc => ?_) (fun hc => ?_)
          · refine x_aload_n hx hb dX4_part_67 rfl (lv_at hl 1 rfl) ?_
            refine x_iconst (v := 3) hx hb dX4_part_68 (by decide) ?_
            refine kM_wrong E hU hS hA0 ⟨by decide, by decide⟩ hl.1 (Nat.le_of_ble_eq_true rfl) dX4_part_69 ⟨Nat.le_refl _, Nat.le_refl _⟩ (fun o8 H locs hU hS => ?_)
            refine x_aload_n hx hb dX4_part_72 rfl (lv_at hl 1 rfl) ?_
            refine x_iconst (v := 2) hx hb dX4_part_73 (by decide) ?_
            refine kM_puts E hU hS hA0 ⟨by decide, by decide⟩ hl.1 (Nat.le_of_ble_eq_true rfl) dX4_part_74 ⟨Nat.le_refl _, Nat.le_refl _⟩ (fun o9 H locs hU hS => ?_)
            refine x_aload_n hx hb dX4_part_77 rfl (lv_at hl 1 rfl) ?_
            refine x_iload_n hx hb dX4_part_78 rfl (lv_at hl 0 rfl) ?_
            refine kM_puts E hU hS hA0 ⟨by decide, by decide⟩ hl.1 (Nat.le_of_ble_eq_true rfl) dX4_part_79 ⟨Nat.le_refl _, Nat.le_refl _⟩ (fun o10 H locs hU hS => ?_)
            refine x_goto (tgt := 90) hx hb dX4_part_82 (by decide) ?_
            exact hj3 o10 _ _ _ ⟨hU, hS, _, rfl, lv_sub hl [1] rfl⟩
          · refine x_iload_n hx hb dX4_part_62 rfl (lv_at hl 0 rfl) ?_
            refine x_iconst (v := 5) hx hb dX4_part_63 (by decide) ?_
            refine x_icmp_le (tgt := 72) hx hb dX4_part_64 (by decide) (fun hc => ?_) (fun hc => ?_)
            · refine x_aload_n hx hb dX4_part_72 rfl (lv_at hl 1 rfl) ?_
              refine x_iconst (v := 2) hx hb dX4_part_73 (by decide) ?_
              refine kM_puts E hU hS hA0 ⟨by decide, by decide⟩ hl.1 (Nat.le_of_ble_eq_true rfl) dX4_part_74 ⟨Nat.le_refl _, Nat.le_refl _⟩ (fun o11 H locs hU hS => ?_)
              refine x_aload_n hx hb dX4_part_77 rfl (lv_at hl 1 rfl) ?_
              refine x_iload_n hx hb dX4_part_78 rfl (lv_at hl 0 rfl) ?_
              refine kM_puts E hU hS hA0 ⟨by decide, by decide⟩ hl.1 (Nat.le_of_ble_eq_true rfl) dX4_part_79 ⟨Nat.le_refl _, Nat.le_refl _⟩ (fun o12 H locs hU hS => ?_)
              refine x_goto (tgt := 90) hx hb dX4_part_82 (by decide) ?_
              exact hj3 o12 _ _ _ ⟨hU, hS, _, rfl, lv_sub hl [1] rfl⟩
            · refine x_aload_n hx hb dX4_part_67 rfl (lv_at hl 1 rfl) ?_
              refine x_iconst (v := 3) hx hb dX4_part_68 (by decide) ?_
              refine kM_wrong E hU hS hA0 ⟨by decide, by decide⟩ hl.1 (Nat.le_of_ble_eq_true rfl) dX4_part_69 ⟨Nat.le_refl _, Nat.le_refl _⟩ (fun o13 H locs hU hS => ?_)
              refine x_aload_n hx hb dX4_part_72 rfl (lv_at hl 1 rfl) ?_
              refine x_iconst (v := 2) hx hb dX4_part_73 (by decide) ?_
              refine kM_puts E hU hS hA0 ⟨by decide, by decide⟩ hl.1 (Nat.le_of_ble_eq_true rfl) dX4_part_74 ⟨Nat.le_refl _, Nat.le_refl _⟩ (fun o14 H locs hU hS => ?_)
              refine x_aload_n hx hb dX4_part_77 rfl (lv_at hl 1 rfl) ?_
              refine x_iload_n hx hb dX4_part_78 rfl (lv_at hl 0 rfl) ?_
              refine kM_puts E hU hS hA0 ⟨by decide, by decide⟩ hl.1 (Nat.le_of_ble_eq_true rfl) dX4_part_79 ⟨Nat.le_refl _, Nat.le_refl _⟩ (fun o15 H locs hU hS => ?_)
              refine x_goto (tgt := 90) hx hb dX4_part_82 (by decide) ?_
              exact hj3 o15 _ _ _ ⟨hU, hS, _, rfl, lv_sub hl [1] rfl⟩
      · refine x_aload_n hx hb dX4_part_16 rfl (lv_at hl 0 rfl) ?_
        refine gM_long0 E hU dX4_part_17 ?_
        refine x_iconst (v := 4) hx hb dX4_part_20 (by decide) ?_
        refine x_icmp_le (tgt := 29) hx hb dX4_part_21 (by decide) (fun hc => ?_) (fun hc => ?_)
        · refine x_aload_n hx hb dX4_part_29 rfl (lv_at hl 0 rfl) ?_
          refine x_iconst (v := 1) hx hb dX4_part_30 (by decide) ?_
          refine kM_puts E hU hS hA0 ⟨by decide, by decide⟩ hl.1 (Nat.le_of_ble_eq_true rfl) dX4_part_31 ⟨Nat.le_refl _, Nat.le_refl _⟩ (fun o16 H locs hU hS => ?_)
          refine x_aload_n hx hb dX4_part_34 rfl (lv_at hl 0 rfl) ?_
          refine x_aload_n hx hb dX4_part_35 rfl (lv_at hl 0 rfl) ?_
          refine gM_value E hU dX4_part_36 ?_
          refine kM_puts E hU hS hA0 ⟨by decide, by decide⟩ hl.1 (Nat.le_of_ble_eq_true rfl) dX4_part_39 ⟨Nat.le_refl _, Nat.le_refl _⟩ (fun o17 H locs hU hS => ?_)
          refine x_goto (tgt := 90) hx hb dX4_part_42 (by decide) ?_
          exact hj3 o17 _ _ _ ⟨hU, hS, _, rfl, lv_sub hl [0] rfl⟩
        · refine x_aload_n hx hb dX4_part_24 rfl (lv_at hl 0 rfl) ?_
          refine x_iconst (v := 2) hx hb dX4_part_25 (by decide) ?_
          refine kM_wrong E hU hS hA0 ⟨by decide, by decide⟩ hl.1 (Nat.le_of_ble_eq_true rfl) dX4_part_26 ⟨Nat.le_refl _, Nat.le_refl _⟩ (fun o18 H locs hU hS => ?_)
          refine x_aload_n hx hb dX4_part_29 rfl (lv_at hl 0 rfl) ?_
          refine x_iconst (v := 1) hx hb dX4_part_30 (by decide) ?_
          refine kM_puts E hU hS hA0 ⟨by decide, by decide⟩ hl.1 (Nat.le_of_ble_eq_true rfl) dX4_part_31 ⟨Nat.le_refl _, Nat.le_refl _⟩ (fun o19 H locs hU hS => ?_)
          refine x_aload_n hx hb dX4_part_34 rfl (lv_at hl 0 rfl) ?_
          refine x_aload_n hx hb dX4_part_35 rfl (lv_at hl 0 rfl) ?_
          refine gM_value E hU dX4_part_36 ?_
          refine kM_puts E hU hS hA0 ⟨by decide, by decide⟩ hl.1 (Nat.le_of_ble_eq_true rfl) dX4_part_39 ⟨Nat.le_refl _, Nat.le_refl _⟩ (fun o20 H locs hU hS => ?_)
          refine x_goto (tgt := 90) hx hb dX4_part_42 (by decide) ?_
          exact hj3 o20 _ _ _ ⟨hU, hS, _, rfl, lv_sub hl [0] rfl⟩
  · exact x_vret hx hb hr hlk hS rfl (hU.to fun _ _ => trivial) dX4_part_7
section MK
variable {ρ : Type} {p : Program} {l : Launch} {e : Env} {R : Room} {s : State} {m : MethodId} {args : Array Value} {below : List Frame} {meth : Method} {c : Code} {H : Heap} {locs : List Loc} {cells slots : Nat} {Qf : ρ → State → Prop}
variable {cc : ByteArray} {pc nL : Nat} {ls : Array Slot} {rest : List Value}
variable {D : va_G} {ct : CT} {ad : Nat → Nat} {A A0 : Nat → Prop} {S : US} {w : Int64} {H0 : Heap}
theorem kM_part (E : ME p m c cc nL s args RX4 D clW ct) (hU : UM D ct ad A S w H) (hS : va_S A H0 H locs) (hA0 : ∀ q, H0.size ≤ q → A q) (hR : 4 + 1 ≤ R.frames ∧ 8 + (2 + 11) + 101 ≤ R.locals) (hsize : ls.size = nL) (hW : (rest.map fun v => v.category).sum ≤ 8) (hdg : decode cc pc = .ok (.invokevirtual 217, 3)) (hf : cells ≤ R.cells ∧ slots ≤ R.slots) {kp : (US × Int64) → Option ρ} (kk : ∀ (o : (US × Int64)) (H1 : Heap) (locs1 : List Loc), UM D ct ad A o.1 o.2 H1 → va_S A H0 H1 locs1 → X p l e R s m args below meth c H1 locs1 cells slots Qf (kp o) (F0 m (pc + 3) ls (rest))) : X p l e R s m args below meth c H locs cells slots Qf (callK (sM_part S w) kp) (F0 m pc ls (.ref (ad 0) :: rest)) := ucV_mod (i := 0) (So := fun (o : (US × Int64)) => o.1) (wo := fun (o : (US × Int64)) => o.2) (As := []) E hU hS hA0 (by decide) rfl rfl (fun sz o ho => mM_part l D ct ad S w sz o ho) (cwV 0 E.1.2.2.2.2 (lw_V q2135 q2137 qs68 q119 q2138) rfl rfl rfl (by decide +kernel) hR) rfl hsize rfl hW hdg hf kk
end MK

set_option maxHeartbeats 4000000 in
theorem mM_waitsFor (l : Launch) (D : va_G) (ct : CT) (ad : Nat → Nat) (S : US) (w : Int64) (p1 : Int32) (sz : Nat) (o : US) (ho : sM_waitsFor S p1 = some o) : Met l yX4_waitsFor (ws_ yX4_waitsFor cX4_waitsFor 2 none) { frames := 1, cells := 0, slots := 0, locals := 32 } (mP D clW ct [.ref (ad (0)), .int p1] sz (UM D ct ad (fun _ => True) S w)) (mC (none) (UM D ct ad (fun _ => True) o w) (uA 31 ad sz)) 0 0 (uA 31 ad sz) := by
  refine X.start (val := fun (o : US) => none) (Bt := fun (o : US) => UM D ct ad (fun _ => True) o w) (A := uA 31 ad sz) ho (by decide) (Nat.le_of_ble_eq_true rfl) rfl ?_
  intro p e s m args below meth c E hr hlk hnm hsz hU ls hl
  subst hsz
  obtain ⟨⟨hx, hb, hml, hown, hts⟩, hK, hJ⟩ := id E
  replace hU := hU.to (B := uA 31 ad s.heap.size) (fun i hi => Or.inl ⟨i, hi, rfl⟩)
  have hA0 : ∀ q, s.heap.size ≤ q → (uA 31 ad s.heap.size) q := fun q h => Or.inr h
  have hS : va_S (uA 31 ad s.heap.size) s.heap s.heap [] := va_S.rf
  unfold sM_waitsFor
  refine x_aload_n hx hb dX4_waitsFor_0 rfl (lv_at hl 0 rfl) ?_
  refine gM_waits E hU dX4_waitsFor_1 ?_
  refine x_aload_n hx hb dX4_waitsFor_4 rfl (lv_at hl 0 rfl) ?_
  refine gM_waiting E hU dX4_waitsFor_5 ?_
  refine x_iload_n hx hb dX4_waitsFor_8 rfl (lv_at hl 1 rfl) ?_
  refine ux_ast (i := 12) (n := 950) E hU hS (by decide) rfl dX4_waitsFor_9 (fun S1 H locs hU hS => ?_)
  refine x_aload_n hx hb dX4_waitsFor_10 rfl (lv_at hl 0 rfl) ?_
  refine x_dup hx hb dX4_waitsFor_11 rfl ?_
  refine gM_waiting E hU dX4_waitsFor_12 ?_
  refine x_iconst (v := 1) hx hb dX4_waitsFor_15 (by decide) ?_
  refine x_iadd hx hb dX4_waitsFor_16 ?_
  refine pM_waiting E hU hS dX4_waitsFor_17 (fun S2 H locs hU hS => ?_)
  exact x_vret hx hb hr hlk hS rfl (hU.to fun _ _ => trivial) dX4_waitsFor_20
section MK
variable {ρ : Type} {p : Program} {l : Launch} {e : Env} {R : Room} {s : State} {m : MethodId} {args : Array Value} {below : List Frame} {meth : Method} {c : Code} {H : Heap} {locs : List Loc} {cells slots : Nat} {Qf : ρ → State → Prop}
variable {cc : ByteArray} {pc nL : Nat} {ls : Array Slot} {rest : List Value}
variable {D : va_G} {ct : CT} {ad : Nat → Nat} {A A0 : Nat → Prop} {S : US} {w : Int64} {H0 : Heap}
theorem kM_waitsFor {p1 : Int32} (E : ME p m c cc nL s args RX4 D clW ct) (hU : UM D ct ad A S w H) (hS : va_S A H0 H locs) (hA0 : ∀ q, H0.size ≤ q → A q) (hR : 1 + 1 ≤ R.frames ∧ 8 + (2 + 11) + 32 ≤ R.locals) (hsize : ls.size = nL) (hW : (rest.map fun v => v.category).sum ≤ 8) (hdg : decode cc pc = .ok (.invokevirtual 211, 3)) (hf : cells ≤ R.cells ∧ slots ≤ R.slots) {kp : US → Option ρ} (kk : ∀ (o : US) (H1 : Heap) (locs1 : List Loc), UM D ct ad A o w H1 → va_S A H0 H1 locs1 → X p l e R s m args below meth c H1 locs1 cells slots Qf (kp o) (F0 m (pc + 3) ls (rest))) : X p l e R s m args below meth c H locs cells slots Qf (callK (sM_waitsFor S p1) kp) (F0 m pc ls (.int p1 :: .ref (ad 0) :: rest)) := ucV_mod (i := 0) (So := fun (o : US) => o) (wo := fun (o : US) => w) (As := [.int p1]) E hU hS hA0 (by decide) rfl rfl (fun sz o ho => mM_waitsFor l D ct ad S w p1 sz o ho) (cwV 1 E.1.2.2.2.2 (lw_V q2131 q2133 qs67 q119 q2134) rfl rfl rfl (by decide +kernel) hR) rfl hsize rfl hW hdg hf kk
end MK

set_option maxHeartbeats 4000000 in
theorem mM_operand (l : Launch) (D : va_G) (ct : CT) (ad : Nat → Nat) (S : US) (w : Int64) (p1 : Int32) (sz : Nat) (o : (US × Int64)) (ho : sM_operand S w p1 = some o) : Met l yX4_operand (ws_ yX4_operand cX4_operand 5 none) { frames := 5, cells := 0, slots := 0, locals := 122 } (mP D clW ct [.ref (ad (0)), .int p1] sz (UM D ct ad (fun _ => True) S w)) (mC (none) (UM D ct ad (fun _ => True) o.1 o.2) (uA 31 ad sz)) 0 0 (uA 31 ad sz) := by
  refine X.start (val := fun (o : (US × Int64)) => none) (Bt := fun (o : (US × Int64)) => UM D ct ad (fun _ => True) o.1 o.2) (A := uA 31 ad sz) ho (by decide) (Nat.le_of_ble_eq_true rfl) rfl ?_
  intro p e s m args below meth c E hr hlk hnm hsz hU ls hl
  subst hsz
  obtain ⟨⟨hx, hb, hml, hown, hts⟩, hK, hJ⟩ := id E
  replace hU := hU.to (B := uA 31 ad s.heap.size) (fun i hi => Or.inl ⟨i, hi, rfl⟩)
  have hA0 : ∀ q, s.heap.size ≤ q → (uA 31 ad s.heap.size) q := fun q h => Or.inr h
  have hS : va_S (uA 31 ad s.heap.size) s.heap s.heap [] := va_S.rf
  unfold sM_operand
  refine x_iload_n hx hb dX4_operand_0 rfl (lv_at hl 1 rfl) ?_
  refine x_istore_n (lv' := [(2, .int p1), (0, .ref (ad (0))), (1, .int p1)]) hx hb dX4_operand_1 rfl hl (by decide) rfl (fun ls hl => ?_)
  refine x_iconst (v := 1) hx hb dX4_operand_2 (by decide) ?_
  refine x_istore_n (lv' := [(3, .int (1 : Int32)), (2, .int p1), (0, .ref (ad (0))), (1, .int p1)]) hx hb dX4_operand_3 rfl hl (by decide) rfl (fun ls hl => ?_)
  refine X.loop (I := fun (x : (US × Int64 × Int32 × Int32)) g H locs => UM D ct ad (uA 31 ad s.heap.size) x.1 x.2.1 H ∧ va_S (uA 31 ad s.heap.size) s.heap H locs ∧ ∃ ls : Array Slot, g = F0 m 4 ls [] ∧ lv_has ls 5 [(0, .ref (ad (0))), (2, .int x.2.2.1), (3, .int x.2.2.2)]) (fun rc5 ih5 => ?_) FUEL _ _ _ _ ⟨hU, hS, _, rfl, lv_sub hl [2, 1, 0] rfl⟩
  rintro ⟨S1, w2, v3, v4⟩ _ H locs ⟨hU, hS, ls, rfl, hl⟩
  have hU : UM D ct ad (uA 31 ad s.heap.size) S1 w2 H := hU
  have hl : lv_has ls 5 [(0, .ref (ad (0))), (2, .int v3), (3, .int v4)] := hl
  refine X.eqs (sp2 := sM_operand_L4 rc5 S1 w2 v3 v4) rfl ?_
  unfold sM_operand_L4
  refine x_iload_n hx hb dX4_operand_4 rfl (lv_at hl 2 rfl) ?_
  refine x_if_eq (tgt := 120) hx hb dX4_operand_5 (by decide) (fun hc => ?_) (fun hc => ?_)
  · refine x_aload_n hx hb dX4_operand_120 rfl (lv_at hl 0 rfl) ?_
    refine kM_part E hU hS hA0 ⟨by decide, by decide⟩ hl.1 (Nat.le_of_ble_eq_true rfl) dX4_operand_121 ⟨Nat.le_refl _, Nat.le_refl _⟩ (fun o6 H locs hU hS => ?_)
    exact x_vret hx hb hr hlk hS rfl (hU.to fun _ _ => trivial) dX4_operand_124
  · refine x_aload_n hx hb dX4_operand_8 rfl (lv_at hl 0 rfl) ?_
    refine kM_isGood E hU hS hA0 ⟨by decide, by decide⟩ hl.1 (Nat.le_of_ble_eq_true rfl) dX4_operand_9 ⟨Nat.le_refl _, Nat.le_refl _⟩ (fun o7 H locs hU hS => ?_)
    refine x_if_eq (tgt := 120) hx hb dX4_operand_12 (by decide) (fun hc => ?_) (fun hc => ?_)
    · refine x_aload_n hx hb dX4_operand_120 rfl (lv_at hl 0 rfl) ?_
      refine kM_part E hU hS hA0 ⟨by decide, by decide⟩ hl.1 (Nat.le_of_ble_eq_true rfl) dX4_operand_121 ⟨Nat.le_refl _, Nat.le_refl _⟩ (fun o8 H locs hU hS => ?_)
      exact x_vret hx hb hr hlk hS rfl (hU.to fun _ _ => trivial) dX4_operand_124
    · refine x_iconst (v := 0) hx hb dX4_operand_15 (by decide) ?_
      refine x_istore (lv' := [(4, .int (0 : Int32)), (0, .ref (ad (0))), (2, .int v3), (3, .int v4)]) hx hb dX4_operand_16 hl (by decide) rfl (fun ls hl => ?_)
      refine X.join2 (fun (x : (US × Int64)) g H locs => UM D ct ad (uA 31 ad s.heap.size) x.1 x.2 H ∧ va_S (uA 31 ad s.heap.size) s.heap H locs ∧ ∃ ls : Array Slot, g = F0 m 75 ls [] ∧ lv_has ls 5 [(0, .ref (ad (0))), (2, .int v3)]) ?_ (fun j11 hj11 => ?_)
      · rintro ⟨S9, w10⟩ _ H locs ⟨hU, hS, ls, rfl, hl⟩
        have hU : UM D ct ad (uA 31 ad s.heap.size) S9 w10 H := hU
        have hl : lv_has ls 5 [(0, .ref (ad (0))), (2, .int v3)] := hl
        refine X.eqs (sp2 := sM_operand_J75 v3 rc5 S9 w10) rfl ?_
        unfold sM_operand_J75
        refine x_aload_n hx hb dX4_operand_75 rfl (lv_at hl 0 rfl) ?_
        refine kM_isGood E hU hS hA0 ⟨by decide, by decide⟩ hl.1 (Nat.le_of_ble_eq_true rfl) dX4_operand_76 ⟨Nat.le_refl _, Nat.le_refl _⟩ (fun o12 H locs hU hS => ?_)
        refine X.join2 (fun (x : Int32) g H locs => UM D ct ad (uA 31 ad s.heap.size) S9 w10 H ∧ va_S (uA 31 ad s.heap.size) s.heap H locs ∧ ∃ ls : Array Slot, g = F0 m 96 ls [.int x] ∧ lv_has ls 5 [(0, .ref (ad (0))), (2, .int v3)]) ?_ (fun j14 hj14 => ?_)
        · rintro y13 _ H locs ⟨hU, hS, ls, rfl, hl⟩
          refine X.eqs (sp2 := sM_operand_J96 v3 rc5 S9 w10 y13) rfl ?_
          unfold sM_operand_J96
          refine x_istore_n (lv' := [(3, .int y13), (0, .ref (ad (0))), (2, .int v3)]) hx hb dX4_operand_96 rfl hl (by decide) rfl (fun ls hl => ?_)
          refine x_iload_n hx hb dX4_operand_97 rfl (lv_at hl 0 rfl) ?_
          refine x_if_eq (tgt := 117) hx hb dX4_operand_98 (by decide) (fun hc => ?_) (fun hc => ?_)
          · refine x_goto (tgt := 4) hx hb dX4_operand_117 (by decide) ?_
            exact ih5 (S9, w10, v3, y13) _ _ _ ⟨hU, hS, _, rfl, lv_sub hl [1, 2, 0] rfl⟩
          · refine x_aload_n hx hb dX4_operand_101 rfl (lv_at hl 1 rfl) ?_
            refine x_bipush (v := 14) hx hb dX4_operand_102 (by decide) ?_
            refine kM_waitsFor E hU hS hA0 ⟨by decide, by decide⟩ hl.1 (Nat.le_of_ble_eq_true rfl) dX4_operand_104 ⟨Nat.le_refl _, Nat.le_refl _⟩ (fun o15 H locs hU hS => ?_)
            refine x_aload_n hx hb dX4_operand_107 rfl (lv_at hl 1 rfl) ?_
            refine kM_goes E hU hS hA0 ⟨by decide, by decide⟩ hl.1 (Nat.le_of_ble_eq_true rfl) dX4_operand_108 ⟨Nat.le_refl _, Nat.le_refl _⟩ (fun o16 H locs hU hS => ?_)
            refine x_aload_n hx hb dX4_operand_111 rfl (lv_at hl 1 rfl) ?_
            refine kM_deeper E hU hS hA0 ⟨by decide, by decide⟩ hl.1 (Nat.le_of_ble_eq_true rfl) dX4_operand_112 ⟨Nat.le_refl _, Nat.le_refl _⟩ (fun o17 H locs hU hS => ?_)
            refine x_iconst (v := 1) hx hb dX4_operand_115 (by decide) ?_
            refine x_istore_n (lv' := [(2, .int (1 : Int32)), (3, .int y13), (0, .ref (ad (0)))]) hx hb dX4_operand_116 rfl hl (by decide) rfl (fun ls hl => ?_)
            refine x_goto (tgt := 4) hx hb dX4_operand_117 (by decide) ?_
            exact ih5 (o17, o16.2, (1 : Int32), y13) _ _ _ ⟨hU, hS, _, rfl, lv_sub hl [2, 0, 1] rfl⟩
        · refine x_if_eq (tgt := 95) hx hb dX4_operand_79 (by decide) (fun hc => ?_) (fun hc => ?_)
          · refine x_iconst (v := 0) hx hb dX4_operand_95 (by decide) ?_
            exact hj14 (0 : Int32) _ _ _ ⟨hU, hS, _, rfl, lv_sub hl [0, 1] rfl⟩
          · refine x_aload_n hx hb dX4_operand_82 rfl (lv_at hl 0 rfl) ?_
            refine x_bipush (v := 40) hx hb dX4_operand_83 (by decide) ?_
            refine kM_isSign E hU hS hA0 ⟨by decide, by decide⟩ hl.1 (Nat.le_of_ble_eq_true rfl) dX4_operand_85 ⟨Nat.le_refl _, Nat.le_refl _⟩ (fun o18 H locs hU hS => ?_)
            refine x_if_eq (tgt := 95) hx hb dX4_operand_88 (by decide) (fun hc => ?_) (fun hc => ?_)
            · refine x_iconst (v := 0) hx hb dX4_operand_95 (by decide) ?_
              exact hj14 (0 : Int32) _ _ _ ⟨hU, hS, _, rfl, lv_sub hl [0, 1] rfl⟩
            · refine x_iconst (v := 1) hx hb dX4_operand_91 (by decide) ?_
              refine x_goto (tgt := 96) hx hb dX4_operand_92 (by decide) ?_
              exact hj14 (1 : Int32) _ _ _ ⟨hU, hS, _, rfl, lv_sub hl [0, 1] rfl⟩
      · refine X.loop (I := fun (x : (US × Int64 × Int32)) g H locs => UM D ct ad (uA 31 ad s.heap.size) x.1 x.2.1 H ∧ va_S (uA 31 ad s.heap.size) s.heap H locs ∧ ∃ ls : Array Slot, g = F0 m 18 ls [] ∧ lv_has ls 5 [(0, .ref (ad (0))), (2, .int v3), (4, .int x.2.2)]) (fun rc22 ih22 => ?_) FUEL _ _ _ _ ⟨hU, hS, _, rfl, lv_sub hl [1, 2, 0] rfl⟩
        rintro ⟨S19, w20, v21⟩ _ H locs ⟨hU, hS, ls, rfl, hl⟩
        have hU : UM D ct ad (uA 31 ad s.heap.size) S19 w20 H := hU
        have hl : lv_has ls 5 [(0, .ref (ad (0))), (2, .int v3), (4, .int v21)] := hl
        refine X.eqs (sp2 := sM_operand_L18 v3 j11 rc22 S19 w20 v21) rfl ?_
        unfold sM_operand_L18
        refine x_aload_n hx hb dX4_operand_18 rfl (lv_at hl 0 rfl) ?_
        refine kM_isGood E hU hS hA0 ⟨by decide, by decide⟩ hl.1 (Nat.le_of_ble_eq_true rfl) dX4_operand_19 ⟨Nat.le_refl _, Nat.le_refl _⟩ (fun o23 H locs hU hS => ?_)
        refine x_if_eq (tgt := 75) hx hb dX4_operand_22 (by decide) (fun hc => ?_) (fun hc => ?_)
        · exact hj11 (S19, w20) _ _ _ ⟨hU, hS, _, rfl, lv_sub hl [0, 1] rfl⟩
        · refine x_iload_n hx hb dX4_operand_25 rfl (lv_at hl 1 rfl) ?_
          refine x_if_eq (tgt := 75) hx hb dX4_operand_26 (by decide) (fun hc => ?_) (fun hc => ?_)
          · exact hj11 (S19, w20) _ _ _ ⟨hU, hS, _, rfl, lv_sub hl [0, 1] rfl⟩
          · refine x_aload_n hx hb dX4_operand_29 rfl (lv_at hl 0 rfl) ?_
            refine kM_knownWord E hU hS hA0 ⟨by decide, by decide⟩ hl.1 (Nat.le_of_ble_eq_true rfl) dX4_operand_30 ⟨Nat.le_refl _, Nat.le_refl _⟩ (fun o24 H locs hU hS => ?_)
            refine x_bipush (v := 14) hx hb dX4_operand_33 (by decide) ?_
            refine x_icmp_ne (tgt := 75) hx hb dX4_operand_35 (by decide) (fun hc => ?_) (fun hc => ?_)
            · exact hj11 (S19, w20) _ _ _ ⟨hU, hS, _, rfl, lv_sub hl [0, 1] rfl⟩
            · refine x_iload hx hb dX4_operand_38 (lv_at hl 2 rfl) ?_
              refine x_bipush (v := 6) hx hb dX4_operand_40 (by decide) ?_
              refine X.join2 (fun (x : US) g H locs => UM D ct ad (uA 31 ad s.heap.size) x w20 H ∧ va_S (uA 31 ad s.heap.size) s.heap H locs ∧ ∃ ls : Array Slot, g = F0 m 50 ls [] ∧ lv_has ls 5 [(0, .ref (ad (0))), (2, .int v3), (4, .int v21)]) ?_ (fun j26 hj26 => ?_)
              · rintro S25 _ H locs ⟨hU, hS, ls, rfl, hl⟩
                refine X.eqs (sp2 := sM_operand_J50 w20 v21 rc22 S25) rfl ?_
                unfold sM_operand_J50
                refine x_iinc (v := (v21 + (1 : Int32))) (lv' := [(4, .int (v21 + (1 : Int32))), (0, .ref (ad (0))), (2, .int v3)]) (k := 2) hx hb dX4_operand_50 hl rfl rfl (by decide) rfl (fun ls hl => ?_)
                refine x_aload_n hx hb dX4_operand_53 rfl (lv_at hl 1 rfl) ?_
                refine kM_isGood E hU hS hA0 ⟨by decide, by decide⟩ hl.1 (Nat.le_of_ble_eq_true rfl) dX4_operand_54 ⟨Nat.le_refl _, Nat.le_refl _⟩ (fun o27 H locs hU hS => ?_)
                refine x_if_ne (tgt := 63) hx hb dX4_operand_57 (by decide) (fun hc => ?_) (fun hc => ?_)
                · refine x_aload_n hx hb dX4_operand_63 rfl (lv_at hl 1 rfl) ?_
                  refine x_iconst (v := 3) hx hb dX4_operand_64 (by decide) ?_
                  refine kM_waitsFor E hU hS hA0 ⟨by decide, by decide⟩ hl.1 (Nat.le_of_ble_eq_true rfl) dX4_operand_65 ⟨Nat.le_refl _, Nat.le_refl _⟩ (fun o28 H locs hU hS => ?_)
                  refine x_aload_n hx hb dX4_operand_68 rfl (lv_at hl 1 rfl) ?_
                  refine kM_goes E hU hS hA0 ⟨by decide, by decide⟩ hl.1 (Nat.le_of_ble_eq_true rfl) dX4_operand_69 ⟨Nat.le_refl _, Nat.le_refl _⟩ (fun o29 H locs hU hS => ?_)
                  refine x_goto (tgt := 18) hx hb dX4_operand_72 (by decide) ?_
                  exact ih22 (o29.1, o29.2, (v21 + (1 : Int32))) _ _ _ ⟨hU, hS, _, rfl, lv_sub hl [1, 2, 0] rfl⟩
                · refine x_goto (tgt := 18) hx hb dX4_operand_60 (by decide) ?_
                  exact ih22 (S25, w20, (v21 + (1 : Int32))) _ _ _ ⟨hU, hS, _, rfl, lv_sub hl [1, 2, 0] rfl⟩
              · refine x_icmp_ne (tgt := 50) hx hb dX4_operand_42 (by decide) (fun hc => ?_) (fun hc => ?_)
                · exact hj26 S19 _ _ _ ⟨hU, hS, _, rfl, lv_sub hl [0, 1, 2] rfl⟩
                · refine x_aload_n hx hb dX4_operand_45 rfl (lv_at hl 0 rfl) ?_
                  refine x_iconst (v := 2) hx hb dX4_operand_46 (by decide) ?_
                  refine kM_wrong E hU hS hA0 ⟨by decide, by decide⟩ hl.1 (Nat.le_of_ble_eq_true rfl) dX4_operand_47 ⟨Nat.le_refl _, Nat.le_refl _⟩ (fun o30 H locs hU hS => ?_)
                  exact hj26 o30 _ _ _ ⟨hU, hS, _, rfl, lv_sub hl [0, 1, 2] rfl⟩
section MK
variable {ρ : Type} {p : Program} {l : Launch} {e : Env} {R : Room} {s : State} {m : MethodId} {args : Array Value} {below : List Frame} {meth : Method} {c : Code} {H : Heap} {locs : List Loc} {cells slots : Nat} {Qf : ρ → State → Prop}
variable {cc : ByteArray} {pc nL : Nat} {ls : Array Slot} {rest : List Value}
variable {D : va_G} {ct : CT} {ad : Nat → Nat} {A A0 : Nat → Prop} {S : US} {w : Int64} {H0 : Heap}
theorem kM_operand {p1 : Int32} (E : ME p m c cc nL s args RX4 D clW ct) (hU : UM D ct ad A S w H) (hS : va_S A H0 H locs) (hA0 : ∀ q, H0.size ≤ q → A q) (hR : 5 + 1 ≤ R.frames ∧ 8 + (5 + 11) + 122 ≤ R.locals) (hsize : ls.size = nL) (hW : (rest.map fun v => v.category).sum ≤ 8) (hdg : decode cc pc = .ok (.invokevirtual 223, 3)) (hf : cells ≤ R.cells ∧ slots ≤ R.slots) {kp : (US × Int64) → Option ρ} (kk : ∀ (o : (US × Int64)) (H1 : Heap) (locs1 : List Loc), UM D ct ad A o.1 o.2 H1 → va_S A H0 H1 locs1 → X p l e R s m args below meth c H1 locs1 cells slots Qf (kp o) (F0 m (pc + 3) ls (rest))) : X p l e R s m args below meth c H locs cells slots Qf (callK (sM_operand S w p1) kp) (F0 m pc ls (.int p1 :: .ref (ad 0) :: rest)) := ucV_mod (i := 0) (So := fun (o : (US × Int64)) => o.1) (wo := fun (o : (US × Int64)) => o.2) (As := [.int p1]) E hU hS hA0 (by decide) rfl rfl (fun sz o ho => mM_operand l D ct ad S w p1 sz o ho) (cwV 1 E.1.2.2.2.2 (lw_V q2127 q2129 qs66 q119 q2130) rfl rfl rfl (by decide +kernel) hR) rfl hsize rfl hW hdg hf kk
end MK

set_option maxHeartbeats 4000000 in
theorem mM_expression (l : Launch) (D : va_G) (ct : CT) (ad : Nat → Nat) (S : US) (w : Int64) (sz : Nat) (o : (US × Int64)) (ho : sM_expression S w = some o) : Met l yX4_expression (ws_ yX4_expression cX4_expression 3 none) { frames := 6, cells := 0, slots := 0, locals := 146 } (mP D clW ct [.ref (ad (0))] sz (UM D ct ad (fun _ => True) S w)) (mC (none) (UM D ct ad (fun _ => True) o.1 o.2) (uA 31 ad sz)) 0 0 (uA 31 ad sz) := by
  refine X.start (val := fun (o : (US × Int64)) => none) (Bt := fun (o : (US × Int64)) => UM D ct ad (fun _ => True) o.1 o.2) (A := uA 31 ad sz) ho (by decide) (Nat.le_of_ble_eq_true rfl) rfl ?_
  intro p e s m args below meth c E hr hlk hnm hsz hU ls hl
  subst hsz
  obtain ⟨⟨hx, hb, hml, hown, hts⟩, hK, hJ⟩ := id E
  replace hU := hU.to (B := uA 31 ad s.heap.size) (fun i hi => Or.inl ⟨i, hi, rfl⟩)
  have hA0 : ∀ q, s.heap.size ≤ q → (uA 31 ad s.heap.size) q := fun q h => Or.inr h
  have hS : va_S (uA 31 ad s.heap.size) s.heap s.heap [] := va_S.rf
  unfold sM_expression
  refine x_aload_n hx hb dX4_expression_0 rfl (lv_at hl 0 rfl) ?_
  refine kM_isGood E hU hS hA0 ⟨by decide, by decide⟩ hl.1 (Nat.le_of_ble_eq_true rfl) dX4_expression_1 ⟨Nat.le_refl _, Nat.le_refl _⟩ (fun o1 H locs hU hS => ?_)
  refine x_if_ne (tgt := 8) hx hb dX4_expression_4 (by decide) (fun hc => ?_) (fun hc => ?_)
  · refine x_aload_n hx hb dX4_expression_8 rfl (lv_at hl 0 rfl) ?_
    refine x_iconst (v := 0) hx hb dX4_expression_9 (by decide) ?_
    refine pM_waiting E hU hS dX4_expression_10 (fun S2 H locs hU hS => ?_)
    refine x_aload_n hx hb dX4_expression_13 rfl (lv_at hl 0 rfl) ?_
    refine x_iconst (v := 0) hx hb dX4_expression_14 (by decide) ?_
    refine pM_depth E hU hS dX4_expression_15 (fun S3 H locs hU hS => ?_)
    refine x_aload_n hx hb dX4_expression_18 rfl (lv_at hl 0 rfl) ?_
    refine kM_deeper E hU hS hA0 ⟨by decide, by decide⟩ hl.1 (Nat.le_of_ble_eq_true rfl) dX4_expression_19 ⟨Nat.le_refl _, Nat.le_refl _⟩ (fun o4 H locs hU hS => ?_)
    refine x_aload_n hx hb dX4_expression_22 rfl (lv_at hl 0 rfl) ?_
    refine x_iconst (v := 1) hx hb dX4_expression_23 (by decide) ?_
    refine kM_operand E hU hS hA0 ⟨by decide, by decide⟩ hl.1 (Nat.le_of_ble_eq_true rfl) dX4_expression_24 ⟨Nat.le_refl _, Nat.le_refl _⟩ (fun o5 H locs hU hS => ?_)
    refine x_iconst (v := 1) hx hb dX4_expression_27 (by decide) ?_
    refine x_istore_n (lv' := [(1, .int (1 : Int32)), (0, .ref (ad (0)))]) hx hb dX4_expression_28 rfl hl (by decide) rfl (fun ls hl => ?_)
    refine X.join2 (fun (x : (US × Int64)) g H locs => UM D ct ad (uA 31 ad s.heap.size) x.1 x.2 H ∧ va_S (uA 31 ad s.heap.size) s.heap H locs ∧ ∃ ls : Array Slot, g = F0 m 325 ls [] ∧ lv_has ls 3 [(0, .ref (ad (0)))]) ?_ (fun j8 hj8 => ?_)
    · rintro ⟨S6, w7⟩ _ H locs ⟨hU, hS, ls, rfl, hl⟩
      have hU : UM D ct ad (uA 31 ad s.heap.size) S6 w7 H := hU
      have hl : lv_has ls 3 [(0, .ref (ad (0)))] := hl
      refine X.eqs (sp2 := sM_expression_J325 S6 w7) rfl ?_
      unfold sM_expression_J325
      refine x_aload_n hx hb dX4_expression_325 rfl (lv_at hl 0 rfl) ?_
      refine kM_isGood E hU hS hA0 ⟨by decide, by decide⟩ hl.1 (Nat.le_of_ble_eq_true rfl) dX4_expression_326 ⟨Nat.le_refl _, Nat.le_refl _⟩ (fun o9 H locs hU hS => ?_)
      refine x_if_eq (tgt := 345) hx hb dX4_expression_329 (by decide) (fun hc => ?_) (fun hc => ?_)
      · refine x_aload_n hx hb dX4_expression_345 rfl (lv_at hl 0 rfl) ?_
        refine x_iconst (v := 0) hx hb dX4_expression_346 (by decide) ?_
        refine kM_drops E hU hS hA0 ⟨by decide, by decide⟩ hl.1 (Nat.le_of_ble_eq_true rfl) dX4_expression_347 ⟨Nat.le_refl _, Nat.le_refl _⟩ (fun o10 H locs hU hS => ?_)
        refine x_aload_n hx hb dX4_expression_350 rfl (lv_at hl 0 rfl) ?_
        refine x_iconst (v := 0) hx hb dX4_expression_351 (by decide) ?_
        refine kM_puts E hU hS hA0 ⟨by decide, by decide⟩ hl.1 (Nat.le_of_ble_eq_true rfl) dX4_expression_352 ⟨Nat.le_refl _, Nat.le_refl _⟩ (fun o11 H locs hU hS => ?_)
        exact x_vret hx hb hr hlk hS rfl (hU.to fun _ _ => trivial) dX4_expression_355
      · refine x_aload_n hx hb dX4_expression_332 rfl (lv_at hl 0 rfl) ?_
        refine gM_depth E hU dX4_expression_333 ?_
        refine x_iconst (v := 1) hx hb dX4_expression_336 (by decide) ?_
        refine x_icmp_le (tgt := 345) hx hb dX4_expression_337 (by decide) (fun hc => ?_) (fun hc => ?_)
        · refine x_aload_n hx hb dX4_expression_345 rfl (lv_at hl 0 rfl) ?_
          refine x_iconst (v := 0) hx hb dX4_expression_346 (by decide) ?_
          refine kM_drops E hU hS hA0 ⟨by decide, by decide⟩ hl.1 (Nat.le_of_ble_eq_true rfl) dX4_expression_347 ⟨Nat.le_refl _, Nat.le_refl _⟩ (fun o12 H locs hU hS => ?_)
          refine x_aload_n hx hb dX4_expression_350 rfl (lv_at hl 0 rfl) ?_
          refine x_iconst (v := 0) hx hb dX4_expression_351 (by decide) ?_
          refine kM_puts E hU hS hA0 ⟨by decide, by decide⟩ hl.1 (Nat.le_of_ble_eq_true rfl) dX4_expression_352 ⟨Nat.le_refl _, Nat.le_refl _⟩ (fun o13 H locs hU hS => ?_)
          exact x_vret hx hb hr hlk hS rfl (hU.to fun _ _ => trivial) dX4_expression_355
        · refine x_aload_n hx hb dX4_expression_340 rfl (lv_at hl 0 rfl) ?_
          refine x_iconst (v := 1) hx hb dX4_expression_341 (by decide) ?_
          refine kM_wrong E hU hS hA0 ⟨by decide, by decide⟩ hl.1 (Nat.le_of_ble_eq_true rfl) dX4_expression_342 ⟨Nat.le_refl _, Nat.le_refl _⟩ (fun o14 H locs hU hS => ?_)
          refine x_aload_n hx hb dX4_expression_345 rfl (lv_at hl 0 rfl) ?_
          refine x_iconst (v := 0) hx hb dX4_expression_346 (by decide) ?_
          refine kM_drops E hU hS hA0 ⟨by decide, by decide⟩ hl.1 (Nat.le_of_ble_eq_true rfl) dX4_expression_347 ⟨Nat.le_refl _, Nat.le_refl _⟩ (fun o15 H locs hU hS => ?_)
          refine x_aload_n hx hb dX4_expression_350 rfl (lv_at hl 0 rfl) ?_
          refine x_iconst (v := 0) hx hb dX4_expression_351 (by decide) ?_
          refine kM_puts E hU hS hA0 ⟨by decide, by decide⟩ hl.1 (Nat.le_of_ble_eq_true rfl) dX4_expression_352 ⟨Nat.le_refl _, Nat.le_refl _⟩ (fun o16 H locs hU hS => ?_)
          exact x_vret hx hb hr hlk hS rfl (hU.to fun _ _ => trivial) dX4_expression_355
    · refine X.loop (I := fun (x : (US × Int64 × Int32)) g H locs => UM D ct ad (uA 31 ad s.heap.size) x.1 x.2.1 H ∧ va_S (uA 31 ad s.heap.size) s.heap H locs ∧ ∃ ls : Array Slot, g = F0 m 29 ls [] ∧ lv_has ls 3 [(0, .ref (ad (0))), (1, .int x.2.2)]) (fun rc20 ih20 => ?_) FUEL _ _ _ _ ⟨hU, hS, _, rfl, lv_sub hl [1, 0] rfl⟩
      rintro ⟨S17, w18, v19⟩ _ H locs ⟨hU, hS, ls, rfl, hl⟩
      have hU : UM D ct ad (uA 31 ad s.heap.size) S17 w18 H := hU
      have hl : lv_has ls 3 [(0, .ref (ad (0))), (1, .int v19)] := hl
      refine X.eqs (sp2 := sM_expression_L29 j8 rc20 S17 w18 v19) rfl ?_
      unfold sM_expression_L29
      refine x_iload_n hx hb dX4_expression_29 rfl (lv_at hl 1 rfl) ?_
      refine x_if_eq (tgt := 325) hx hb dX4_expression_30 (by decide) (fun hc => ?_) (fun hc => ?_)
      · exact hj8 (S17, w18) _ _ _ ⟨hU, hS, _, rfl, lv_sub hl [0] rfl⟩
      · refine x_aload_n hx hb dX4_expression_33 rfl (lv_at hl 0 rfl) ?_
        refine kM_isGood E hU hS hA0 ⟨by decide, by decide⟩ hl.1 (Nat.le_of_ble_eq_true rfl) dX4_expression_34 ⟨Nat.le_refl _, Nat.le_refl _⟩ (fun o21 H locs hU hS => ?_)
        refine x_if_eq (tgt := 325) hx hb dX4_expression_37 (by decide) (fun hc => ?_) (fun hc => ?_)
        · exact hj8 (S17, w18) _ _ _ ⟨hU, hS, _, rfl, lv_sub hl [0] rfl⟩
        · refine x_aload_n hx hb dX4_expression_40 rfl (lv_at hl 0 rfl) ?_
          refine kM_knownWord E hU hS hA0 ⟨by decide, by decide⟩ hl.1 (Nat.le_of_ble_eq_true rfl) dX4_expression_41 ⟨Nat.le_refl _, Nat.le_refl _⟩ (fun o22 H locs hU hS => ?_)
          refine x_istore_n (lv' := [(2, .int o22), (0, .ref (ad (0))), (1, .int v19)]) hx hb dX4_expression_44 rfl hl (by decide) rfl (fun ls hl => ?_)
          refine x_iload_n hx hb dX4_expression_45 rfl (lv_at hl 0 rfl) ?_
          refine x_bipush (v := 12) hx hb dX4_expression_46 (by decide) ?_
          refine X.join2 (fun (x : Unit) g H locs => UM D ct ad (uA 31 ad s.heap.size) S17 w18 H ∧ va_S (uA 31 ad s.heap.size) s.heap H locs ∧ ∃ ls : Array Slot, g = F0 m 57 ls [] ∧ lv_has ls 3 [(0, .ref (ad (0))), (1, .int v19), (2, .int o22)]) ?_ (fun j23 hj23 => ?_)
          · rintro _ _ H locs ⟨hU, hS, ls, rfl, hl⟩
            refine X.eqs (sp2 := sM_expression_J57 S17 w18 v19 rc20 o22) rfl ?_
            unfold sM_expression_J57
            refine x_aload_n hx hb dX4_expression_57 rfl (lv_at hl 0 rfl) ?_
            refine x_iload_n hx hb dX4_expression_58 rfl (lv_at hl 2 rfl) ?_
            refine x_bipush (v := 12) hx hb dX4_expression_59 (by decide) ?_
            refine X.join2 (fun (x : Int32) g H locs => UM D ct ad (uA 31 ad s.heap.size) S17 w18 H ∧ va_S (uA 31 ad s.heap.size) s.heap H locs ∧ ∃ ls : Array Slot, g = F0 m 69 ls [.int x, .ref (ad (0))] ∧ lv_has ls 3 [(0, .ref (ad (0))), (1, .int v19), (2, .int o22)]) ?_ (fun j25 hj25 => ?_)
            · rintro y24 _ H locs ⟨hU, hS, ls, rfl, hl⟩
              refine X.eqs (sp2 := sM_expression_J69 S17 w18 v19 rc20 o22 y24) rfl ?_
              unfold sM_expression_J69
              refine kM_drops E hU hS hA0 ⟨by decide, by decide⟩ hl.1 (Nat.le_of_ble_eq_true rfl) dX4_expression_69 ⟨Nat.le_refl _, Nat.le_refl _⟩ (fun o26 H locs hU hS => ?_)
              refine x_aload_n hx hb dX4_expression_72 rfl (lv_at hl 0 rfl) ?_
              refine x_iload_n hx hb dX4_expression_73 rfl (lv_at hl 2 rfl) ?_
              refine x_bipush (v := 12) hx hb dX4_expression_74 (by decide) ?_
              refine X.join2 (fun (x : Int32) g H locs => UM D ct ad (uA 31 ad s.heap.size) o26 w18 H ∧ va_S (uA 31 ad s.heap.size) s.heap H locs ∧ ∃ ls : Array Slot, g = F0 m 84 ls [.int x, .ref (ad (0))] ∧ lv_has ls 3 [(0, .ref (ad (0))), (1, .int v19)]) ?_ (fun j28 hj28 => ?_)
              · rintro y27 _ H locs ⟨hU, hS, ls, rfl, hl⟩
                refine X.eqs (sp2 := sM_expression_J84 w18 v19 rc20 o26 y27) rfl ?_
                unfold sM_expression_J84
                refine kM_waitsFor E hU hS hA0 ⟨by decide, by decide⟩ hl.1 (Nat.le_of_ble_eq_true rfl) dX4_expression_84 ⟨Nat.le_refl _, Nat.le_refl _⟩ (fun o29 H locs hU hS => ?_)
                refine x_aload_n hx hb dX4_expression_87 rfl (lv_at hl 0 rfl) ?_
                refine gM_tested E hU dX4_expression_88 ?_
                refine x_aload_n hx hb dX4_expression_91 rfl (lv_at hl 0 rfl) ?_
                refine gM_depth E hU dX4_expression_92 ?_
                refine x_iconst (v := 0) hx hb dX4_expression_95 (by decide) ?_
                refine ux_zast (i := 13) (n := 9) E hU hS (by decide) rfl dX4_expression_96 (fun S30 H locs hU hS => ?_)
                refine x_aload_n hx hb dX4_expression_97 rfl (lv_at hl 0 rfl) ?_
                refine kM_goes E hU hS hA0 ⟨by decide, by decide⟩ hl.1 (Nat.le_of_ble_eq_true rfl) dX4_expression_98 ⟨Nat.le_refl _, Nat.le_refl _⟩ (fun o31 H locs hU hS => ?_)
                refine x_aload_n hx hb dX4_expression_101 rfl (lv_at hl 0 rfl) ?_
                refine x_iconst (v := 1) hx hb dX4_expression_102 (by decide) ?_
                refine kM_operand E hU hS hA0 ⟨by decide, by decide⟩ hl.1 (Nat.le_of_ble_eq_true rfl) dX4_expression_103 ⟨Nat.le_refl _, Nat.le_refl _⟩ (fun o32 H locs hU hS => ?_)
                refine x_goto (tgt := 322) hx hb dX4_expression_106 (by decide) ?_
                refine x_goto (tgt := 29) hx hb dX4_expression_322 (by decide) ?_
                exact ih20 (o32.1, o32.2, v19) _ _ _ ⟨hU, hS, _, rfl, lv_sub hl [0, 1] rfl⟩
              · refine x_icmp_ne (tgt := 83) hx hb dX4_expression_76 (by decide) (fun hc => ?_) (fun hc => ?_)
                · refine x_iconst (v := 5) hx hb dX4_expression_83 (by decide) ?_
                  exact hj28 (5 : Int32) _ _ _ ⟨hU, hS, _, rfl, lv_sub hl [0, 1] rfl⟩
                · refine x_iconst (v := 4) hx hb dX4_expression_79 (by decide) ?_
                  refine x_goto (tgt := 84) hx hb dX4_expression_80 (by decide) ?_
                  exact hj28 (4 : Int32) _ _ _ ⟨hU, hS, _, rfl, lv_sub hl [0, 1] rfl⟩
            · refine x_icmp_ne (tgt := 68) hx hb dX4_expression_61 (by decide) (fun hc => ?_) (fun hc => ?_)
              · refine x_iconst (v := 1) hx hb dX4_expression_68 (by decide) ?_
                exact hj25 (1 : Int32) _ _ _ ⟨hU, hS, _, rfl, lv_sub hl [0, 1, 2] rfl⟩
              · refine x_iconst (v := 2) hx hb dX4_expression_64 (by decide) ?_
                refine x_goto (tgt := 69) hx hb dX4_expression_65 (by decide) ?_
                exact hj25 (2 : Int32) _ _ _ ⟨hU, hS, _, rfl, lv_sub hl [0, 1, 2] rfl⟩
          · refine x_icmp_eq (tgt := 57) hx hb dX4_expression_48 (by decide) (fun hc => ?_) (fun hc => ?_)
            · exact hj23 () _ _ _ ⟨hU, hS, _, rfl, lv_sub hl [1, 2, 0] rfl⟩
            · refine x_iload_n hx hb dX4_expression_51 rfl (lv_at hl 0 rfl) ?_
              refine x_bipush (v := 13) hx hb dX4_expression_52 (by decide) ?_
              refine x_icmp_ne (tgt := 109) hx hb dX4_expression_54 (by decide) (fun hc => ?_) (fun hc => ?_)
              · refine x_aload_n hx hb dX4_expression_109 rfl (lv_at hl 1 rfl) ?_
                refine x_bipush (v := 60) hx hb dX4_expression_110 (by decide) ?_
                refine kM_isSign E hU hS hA0 ⟨by decide, by decide⟩ hl.1 (Nat.le_of_ble_eq_true rfl) dX4_expression_112 ⟨Nat.le_refl _, Nat.le_refl _⟩ (fun o33 H locs hU hS => ?_)
                refine X.join2 (fun (x : Unit) g H locs => UM D ct ad (uA 31 ad s.heap.size) S17 w18 H ∧ va_S (uA 31 ad s.heap.size) s.heap H locs ∧ ∃ ls : Array Slot, g = F0 m 186 ls [] ∧ lv_has ls 3 [(0, .ref (ad (0))), (1, .int v19)]) ?_ (fun j34 hj34 => ?_)
                · rintro _ _ H locs ⟨hU, hS, ls, rfl, hl⟩
                  refine X.eqs (sp2 := sM_expression_J186 S17 w18 v19 rc20) rfl ?_
                  unfold sM_expression_J186
                  refine x_aload_n hx hb dX4_expression_186 rfl (lv_at hl 0 rfl) ?_
                  refine x_bipush (v := 43) hx hb dX4_expression_187 (by decide) ?_
                  refine kM_isSign E hU hS hA0 ⟨by decide, by decide⟩ hl.1 (Nat.le_of_ble_eq_true rfl) dX4_expression_189 ⟨Nat.le_refl _, Nat.le_refl _⟩ (fun o35 H locs hU hS => ?_)
                  refine X.join2 (fun (x : Unit) g H locs => UM D ct ad (uA 31 ad s.heap.size) S17 w18 H ∧ va_S (uA 31 ad s.heap.size) s.heap H locs ∧ ∃ ls : Array Slot, g = F0 m 204 ls [] ∧ lv_has ls 3 [(0, .ref (ad (0))), (1, .int v19)]) ?_ (fun j36 hj36 => ?_)
                  · rintro _ _ H locs ⟨hU, hS, ls, rfl, hl⟩
                    refine X.eqs (sp2 := sM_expression_J204 S17 w18 v19 rc20) rfl ?_
                    unfold sM_expression_J204
                    refine x_aload_n hx hb dX4_expression_204 rfl (lv_at hl 0 rfl) ?_
                    refine x_iconst (v := 5) hx hb dX4_expression_205 (by decide) ?_
                    refine kM_drops E hU hS hA0 ⟨by decide, by decide⟩ hl.1 (Nat.le_of_ble_eq_true rfl) dX4_expression_206 ⟨Nat.le_refl _, Nat.le_refl _⟩ (fun o37 H locs hU hS => ?_)
                    refine x_aload_n hx hb dX4_expression_209 rfl (lv_at hl 0 rfl) ?_
                    refine x_aload_n hx hb dX4_expression_210 rfl (lv_at hl 0 rfl) ?_
                    refine x_bipush (v := 43) hx hb dX4_expression_211 (by decide) ?_
                    refine kM_isSign E hU hS hA0 ⟨by decide, by decide⟩ hl.1 (Nat.le_of_ble_eq_true rfl) dX4_expression_213 ⟨Nat.le_refl _, Nat.le_refl _⟩ (fun o38 H locs hU hS => ?_)
                    refine x_if_eq (tgt := 224) hx hb dX4_expression_216 (by decide) (fun hc => ?_) (fun hc => ?_)
                    · refine x_bipush (v := 9) hx hb dX4_expression_224 (by decide) ?_
                      refine kM_waitsFor E hU hS hA0 ⟨by decide, by decide⟩ hl.1 (Nat.le_of_ble_eq_true rfl) dX4_expression_226 ⟨Nat.le_refl _, Nat.le_refl _⟩ (fun o39 H locs hU hS => ?_)
                      refine x_aload_n hx hb dX4_expression_229 rfl (lv_at hl 0 rfl) ?_
                      refine kM_goes E hU hS hA0 ⟨by decide, by decide⟩ hl.1 (Nat.le_of_ble_eq_true rfl) dX4_expression_230 ⟨Nat.le_refl _, Nat.le_refl _⟩ (fun o40 H locs hU hS => ?_)
                      refine x_aload_n hx hb dX4_expression_233 rfl (lv_at hl 0 rfl) ?_
                      refine x_iconst (v := 0) hx hb dX4_expression_234 (by decide) ?_
                      refine kM_operand E hU hS hA0 ⟨by decide, by decide⟩ hl.1 (Nat.le_of_ble_eq_true rfl) dX4_expression_235 ⟨Nat.le_refl _, Nat.le_refl _⟩ (fun o41 H locs hU hS => ?_)
                      refine x_goto (tgt := 322) hx hb dX4_expression_238 (by decide) ?_
                      refine x_goto (tgt := 29) hx hb dX4_expression_322 (by decide) ?_
                      exact ih20 (o41.1, o41.2, v19) _ _ _ ⟨hU, hS, _, rfl, lv_sub hl [0, 1] rfl⟩
                    · refine x_bipush (v := 8) hx hb dX4_expression_219 (by decide) ?_
                      refine x_goto (tgt := 226) hx hb dX4_expression_221 (by decide) ?_
                      refine kM_waitsFor E hU hS hA0 ⟨by decide, by decide⟩ hl.1 (Nat.le_of_ble_eq_true rfl) dX4_expression_226 ⟨Nat.le_refl _, Nat.le_refl _⟩ (fun o42 H locs hU hS => ?_)
                      refine x_aload_n hx hb dX4_expression_229 rfl (lv_at hl 0 rfl) ?_
                      refine kM_goes E hU hS hA0 ⟨by decide, by decide⟩ hl.1 (Nat.le_of_ble_eq_true rfl) dX4_expression_230 ⟨Nat.le_refl _, Nat.le_refl _⟩ (fun o43 H locs hU hS => ?_)
                      refine x_aload_n hx hb dX4_expression_233 rfl (lv_at hl 0 rfl) ?_
                      refine x_iconst (v := 0) hx hb dX4_expression_234 (by decide) ?_
                      refine kM_operand E hU hS hA0 ⟨by decide, by decide⟩ hl.1 (Nat.le_of_ble_eq_true rfl) dX4_expression_235 ⟨Nat.le_refl _, Nat.le_refl _⟩ (fun o44 H locs hU hS => ?_)
                      refine x_goto (tgt := 322) hx hb dX4_expression_238 (by decide) ?_
                      refine x_goto (tgt := 29) hx hb dX4_expression_322 (by decide) ?_
                      exact ih20 (o44.1, o44.2, v19) _ _ _ ⟨hU, hS, _, rfl, lv_sub hl [0, 1] rfl⟩
                  · refine x_if_ne (tgt := 204) hx hb dX4_expression_192 (by decide) (fun hc => ?_) (fun hc => ?_)
                    · exact hj36 () _ _ _ ⟨hU, hS, _, rfl, lv_sub hl [0, 1] rfl⟩
                    · refine x_aload_n hx hb dX4_expression_195 rfl (lv_at hl 0 rfl) ?_
                      refine x_bipush (v := 45) hx hb dX4_expression_196 (by decide) ?_
                      refine kM_isSign E hU hS hA0 ⟨by decide, by decide⟩ hl.1 (Nat.le_of_ble_eq_true rfl) dX4_expression_198 ⟨Nat.le_refl _, Nat.le_refl _⟩ (fun o45 H locs hU hS => ?_)
                      refine x_if_eq (tgt := 241) hx hb dX4_expression_201 (by decide) (fun hc => ?_) (fun hc => ?_)
                      · refine x_aload_n hx hb dX4_expression_241 rfl (lv_at hl 0 rfl) ?_
                        refine x_bipush (v := 42) hx hb dX4_expression_242 (by decide) ?_
                        refine kM_isSign E hU hS hA0 ⟨by decide, by decide⟩ hl.1 (Nat.le_of_ble_eq_true rfl) dX4_expression_244 ⟨Nat.le_refl _, Nat.le_refl _⟩ (fun o46 H locs hU hS => ?_)
                        refine X.join2 (fun (x : Unit) g H locs => UM D ct ad (uA 31 ad s.heap.size) S17 w18 H ∧ va_S (uA 31 ad s.heap.size) s.heap H locs ∧ ∃ ls : Array Slot, g = F0 m 259 ls [] ∧ lv_has ls 3 [(0, .ref (ad (0))), (1, .int v19)]) ?_ (fun j47 hj47 => ?_)
                        · rintro _ _ H locs ⟨hU, hS, ls, rfl, hl⟩
                          refine X.eqs (sp2 := sM_expression_J259 S17 w18 v19 rc20) rfl ?_
                          unfold sM_expression_J259
                          refine x_aload_n hx hb dX4_expression_259 rfl (lv_at hl 0 rfl) ?_
                          refine x_bipush (v := 6) hx hb dX4_expression_260 (by decide) ?_
                          refine kM_drops E hU hS hA0 ⟨by decide, by decide⟩ hl.1 (Nat.le_of_ble_eq_true rfl) dX4_expression_262 ⟨Nat.le_refl _, Nat.le_refl _⟩ (fun o48 H locs hU hS => ?_)
                          refine x_aload_n hx hb dX4_expression_265 rfl (lv_at hl 0 rfl) ?_
                          refine x_aload_n hx hb dX4_expression_266 rfl (lv_at hl 0 rfl) ?_
                          refine x_bipush (v := 42) hx hb dX4_expression_267 (by decide) ?_
                          refine kM_isSign E hU hS hA0 ⟨by decide, by decide⟩ hl.1 (Nat.le_of_ble_eq_true rfl) dX4_expression_269 ⟨Nat.le_refl _, Nat.le_refl _⟩ (fun o49 H locs hU hS => ?_)
                          refine x_if_eq (tgt := 280) hx hb dX4_expression_272 (by decide) (fun hc => ?_) (fun hc => ?_)
                          · refine x_bipush (v := 11) hx hb dX4_expression_280 (by decide) ?_
                            refine kM_waitsFor E hU hS hA0 ⟨by decide, by decide⟩ hl.1 (Nat.le_of_ble_eq_true rfl) dX4_expression_282 ⟨Nat.le_refl _, Nat.le_refl _⟩ (fun o50 H locs hU hS => ?_)
                            refine x_aload_n hx hb dX4_expression_285 rfl (lv_at hl 0 rfl) ?_
                            refine kM_goes E hU hS hA0 ⟨by decide, by decide⟩ hl.1 (Nat.le_of_ble_eq_true rfl) dX4_expression_286 ⟨Nat.le_refl _, Nat.le_refl _⟩ (fun o51 H locs hU hS => ?_)
                            refine x_aload_n hx hb dX4_expression_289 rfl (lv_at hl 0 rfl) ?_
                            refine x_iconst (v := 0) hx hb dX4_expression_290 (by decide) ?_
                            refine kM_operand E hU hS hA0 ⟨by decide, by decide⟩ hl.1 (Nat.le_of_ble_eq_true rfl) dX4_expression_291 ⟨Nat.le_refl _, Nat.le_refl _⟩ (fun o52 H locs hU hS => ?_)
                            refine x_goto (tgt := 322) hx hb dX4_expression_294 (by decide) ?_
                            refine x_goto (tgt := 29) hx hb dX4_expression_322 (by decide) ?_
                            exact ih20 (o52.1, o52.2, v19) _ _ _ ⟨hU, hS, _, rfl, lv_sub hl [0, 1] rfl⟩
                          · refine x_bipush (v := 10) hx hb dX4_expression_275 (by decide) ?_
                            refine x_goto (tgt := 282) hx hb dX4_expression_277 (by decide) ?_
                            refine kM_waitsFor E hU hS hA0 ⟨by decide, by decide⟩ hl.1 (Nat.le_of_ble_eq_true rfl) dX4_expression_282 ⟨Nat.le_refl _, Nat.le_refl _⟩ (fun o53 H locs hU hS => ?_)
                            refine x_aload_n hx hb dX4_expression_285 rfl (lv_at hl 0 rfl) ?_
                            refine kM_goes E hU hS hA0 ⟨by decide, by decide⟩ hl.1 (Nat.le_of_ble_eq_true rfl) dX4_expression_286 ⟨Nat.le_refl _, Nat.le_refl _⟩ (fun o54 H locs hU hS => ?_)
                            refine x_aload_n hx hb dX4_expression_289 rfl (lv_at hl 0 rfl) ?_
                            refine x_iconst (v := 0) hx hb dX4_expression_290 (by decide) ?_
                            refine kM_operand E hU hS hA0 ⟨by decide, by decide⟩ hl.1 (Nat.le_of_ble_eq_true rfl) dX4_expression_291 ⟨Nat.le_refl _, Nat.le_refl _⟩ (fun o55 H locs hU hS => ?_)
                            refine x_goto (tgt := 322) hx hb dX4_expression_294 (by decide) ?_
                            refine x_goto (tgt := 29) hx hb dX4_expression_322 (by decide) ?_
                            exact ih20 (o55.1, o55.2, v19) _ _ _ ⟨hU, hS, _, rfl, lv_sub hl [0, 1] rfl⟩
                        · refine x_if_ne (tgt := 259) hx hb dX4_expression_247 (by decide) (fun hc => ?_) (fun hc => ?_)
                          · exact hj47 () _ _ _ ⟨hU, hS, _, rfl, lv_sub hl [0, 1] rfl⟩
                          · refine x_aload_n hx hb dX4_expression_250 rfl (lv_at hl 0 rfl) ?_
                            refine x_bipush (v := 47) hx hb dX4_expression_251 (by decide) ?_
                            refine kM_isSign E hU hS hA0 ⟨by decide, by decide⟩ hl.1 (Nat.le_of_ble_eq_true rfl) dX4_expression_253 ⟨Nat.le_refl _, Nat.le_refl _⟩ (fun o56 H locs hU hS => ?_)
                            refine x_if_eq (tgt := 297) hx hb dX4_expression_256 (by decide) (fun hc => ?_) (fun hc => ?_)
                            · refine x_aload_n hx hb dX4_expression_297 rfl (lv_at hl 0 rfl) ?_
                              refine x_bipush (v := 41) hx hb dX4_expression_298 (by decide) ?_
                              refine kM_isSign E hU hS hA0 ⟨by decide, by decide⟩ hl.1 (Nat.le_of_ble_eq_true rfl) dX4_expression_300 ⟨Nat.le_refl _, Nat.le_refl _⟩ (fun o57 H locs hU hS => ?_)
                              refine x_if_eq (tgt := 320) hx hb dX4_expression_303 (by decide) (fun hc => ?_) (fun hc => ?_)
                              · refine x_iconst (v := 0) hx hb dX4_expression_320 (by decide) ?_
                                refine x_istore_n (lv' := [(1, .int (0 : Int32)), (0, .ref (ad (0)))]) hx hb dX4_expression_321 rfl hl (by decide) rfl (fun ls hl => ?_)
                                refine x_goto (tgt := 29) hx hb dX4_expression_322 (by decide) ?_
                                exact ih20 (S17, w18, (0 : Int32)) _ _ _ ⟨hU, hS, _, rfl, lv_sub hl [1, 0] rfl⟩
                              · refine x_aload_n hx hb dX4_expression_306 rfl (lv_at hl 0 rfl) ?_
                                refine kM_isOpened E hU hS hA0 ⟨by decide, by decide⟩ hl.1 (Nat.le_of_ble_eq_true rfl) dX4_expression_307 ⟨Nat.le_refl _, Nat.le_refl _⟩ (fun o58 H locs hU hS => ?_)
                                refine x_if_eq (tgt := 320) hx hb dX4_expression_310 (by decide) (fun hc => ?_) (fun hc => ?_)
                                · refine x_iconst (v := 0) hx hb dX4_expression_320 (by decide) ?_
                                  refine x_istore_n (lv' := [(1, .int (0 : Int32)), (0, .ref (ad (0)))]) hx hb dX4_expression_321 rfl hl (by decide) rfl (fun ls hl => ?_)
                                  refine x_goto (tgt := 29) hx hb dX4_expression_322 (by decide) ?_
                                  exact ih20 (S17, w18, (0 : Int32)) _ _ _ ⟨hU, hS, _, rfl, lv_sub hl [1, 0] rfl⟩
                                · refine x_aload_n hx hb dX4_expression_313 rfl (lv_at hl 0 rfl) ?_
                                  refine kM_closes E hU hS hA0 ⟨by decide, by decide⟩ hl.1 (Nat.le_of_ble_eq_true rfl) dX4_expression_314 ⟨Nat.le_refl _, Nat.le_refl _⟩ (fun o59 H locs hU hS => ?_)
                                  refine x_goto (tgt := 322) hx hb dX4_expression_317 (by decide) ?_
                                  refine x_goto (tgt := 29) hx hb dX4_expression_322 (by decide) ?_
                                  exact ih20 (o59.1, o59.2, v19) _ _ _ ⟨hU, hS, _, rfl, lv_sub hl [0, 1] rfl⟩
                            · exact hj47 () _ _ _ ⟨hU, hS, _, rfl, lv_sub hl [0, 1] rfl⟩
                      · exact hj36 () _ _ _ ⟨hU, hS, _, rfl, lv_sub hl [0, 1] rfl⟩
                · refine X.join2 (fun (x : Unit) g H locs => UM D ct ad (uA 31 ad s.heap.size) S17 w18 H ∧ va_S (uA 31 ad s.heap.size) s.heap H locs ∧ ∃ ls : Array Slot, g = F0 m 127 ls [] ∧ lv_has ls 3 [(0, .ref (ad (0))), (1, .int v19)]) ?_ (fun j60 hj60 => ?_)
                  · rintro _ _ H locs ⟨hU, hS, ls, rfl, hl⟩
                    refine X.eqs (sp2 := sM_expression_J127 S17 w18 v19 rc20 j34) rfl ?_
                    unfold sM_expression_J127
                    refine x_aload_n hx hb dX4_expression_127 rfl (lv_at hl 0 rfl) ?_
                    refine gM_tested E hU dX4_expression_128 ?_
                    refine x_aload_n hx hb dX4_expression_131 rfl (lv_at hl 0 rfl) ?_
                    refine gM_depth E hU dX4_expression_132 ?_
                    refine ux_zald (i := 13) (n := 9) E hU (by decide) rfl dX4_expression_135 ?_
                    refine x_if_ne (tgt := 186) hx hb dX4_expression_136 (by decide) (fun hc => ?_) (fun hc => ?_)
                    · exact hj34 () _ _ _ ⟨hU, hS, _, rfl, lv_sub hl [0, 1] rfl⟩
                    · refine x_aload_n hx hb dX4_expression_139 rfl (lv_at hl 0 rfl) ?_
                      refine x_iconst (v := 4) hx hb dX4_expression_140 (by decide) ?_
                      refine kM_drops E hU hS hA0 ⟨by decide, by decide⟩ hl.1 (Nat.le_of_ble_eq_true rfl) dX4_expression_141 ⟨Nat.le_refl _, Nat.le_refl _⟩ (fun o61 H locs hU hS => ?_)
                      refine x_aload_n hx hb dX4_expression_144 rfl (lv_at hl 0 rfl) ?_
                      refine x_aload_n hx hb dX4_expression_145 rfl (lv_at hl 0 rfl) ?_
                      refine x_bipush (v := 60) hx hb dX4_expression_146 (by decide) ?_
                      refine kM_isSign E hU hS hA0 ⟨by decide, by decide⟩ hl.1 (Nat.le_of_ble_eq_true rfl) dX4_expression_148 ⟨Nat.le_refl _, Nat.le_refl _⟩ (fun o62 H locs hU hS => ?_)
                      refine X.join2 (fun (x : Int32) g H locs => UM D ct ad (uA 31 ad s.heap.size) o61 w18 H ∧ va_S (uA 31 ad s.heap.size) s.heap H locs ∧ ∃ ls : Array Slot, g = F0 m 161 ls [.int x, .ref (ad (0))] ∧ lv_has ls 3 [(0, .ref (ad (0))), (1, .int v19)]) ?_ (fun j64 hj64 => ?_)
                      · rintro y63 _ H locs ⟨hU, hS, ls, rfl, hl⟩
                        refine X.eqs (sp2 := sM_expression_J161 w18 v19 rc20 o61 y63) rfl ?_
                        unfold sM_expression_J161
                        refine kM_waitsFor E hU hS hA0 ⟨by decide, by decide⟩ hl.1 (Nat.le_of_ble_eq_true rfl) dX4_expression_161 ⟨Nat.le_refl _, Nat.le_refl _⟩ (fun o65 H locs hU hS => ?_)
                        refine x_aload_n hx hb dX4_expression_164 rfl (lv_at hl 0 rfl) ?_
                        refine gM_tested E hU dX4_expression_165 ?_
                        refine x_aload_n hx hb dX4_expression_168 rfl (lv_at hl 0 rfl) ?_
                        refine gM_depth E hU dX4_expression_169 ?_
                        refine x_iconst (v := 1) hx hb dX4_expression_172 (by decide) ?_
                        refine ux_zast (i := 13) (n := 9) E hU hS (by decide) rfl dX4_expression_173 (fun S66 H locs hU hS => ?_)
                        refine x_aload_n hx hb dX4_expression_174 rfl (lv_at hl 0 rfl) ?_
                        refine kM_goes E hU hS hA0 ⟨by decide, by decide⟩ hl.1 (Nat.le_of_ble_eq_true rfl) dX4_expression_175 ⟨Nat.le_refl _, Nat.le_refl _⟩ (fun o67 H locs hU hS => ?_)
                        refine x_aload_n hx hb dX4_expression_178 rfl (lv_at hl 0 rfl) ?_
                        refine x_iconst (v := 0) hx hb dX4_expression_179 (by decide) ?_
                        refine kM_operand E hU hS hA0 ⟨by decide, by decide⟩ hl.1 (Nat.le_of_ble_eq_true rfl) dX4_expression_180 ⟨Nat.le_refl _, Nat.le_refl _⟩ (fun o68 H locs hU hS => ?_)
                        refine x_goto (tgt := 322) hx hb dX4_expression_183 (by decide) ?_
                        refine x_goto (tgt := 29) hx hb dX4_expression_322 (by decide) ?_
                        exact ih20 (o68.1, o68.2, v19) _ _ _ ⟨hU, hS, _, rfl, lv_sub hl [0, 1] rfl⟩
                      · refine x_if_eq (tgt := 159) hx hb dX4_expression_151 (by decide) (fun hc => ?_) (fun hc => ?_)
                        · refine x_bipush (v := 7) hx hb dX4_expression_159 (by decide) ?_
                          exact hj64 (7 : Int32) _ _ _ ⟨hU, hS, _, rfl, lv_sub hl [0, 1] rfl⟩
                        · refine x_bipush (v := 6) hx hb dX4_expression_154 (by decide) ?_
                          refine x_goto (tgt := 161) hx hb dX4_expression_156 (by decide) ?_
                          exact hj64 (6 : Int32) _ _ _ ⟨hU, hS, _, rfl, lv_sub hl [0, 1] rfl⟩
                  · refine x_if_ne (tgt := 127) hx hb dX4_expression_115 (by decide) (fun hc => ?_) (fun hc => ?_)
                    · exact hj60 () _ _ _ ⟨hU, hS, _, rfl, lv_sub hl [1, 2] rfl⟩
                    · refine x_aload_n hx hb dX4_expression_118 rfl (lv_at hl 1 rfl) ?_
                      refine x_bipush (v := 61) hx hb dX4_expression_119 (by decide) ?_
                      refine kM_isSign E hU hS hA0 ⟨by decide, by decide⟩ hl.1 (Nat.le_of_ble_eq_true rfl) dX4_expression_121 ⟨Nat.le_refl _, Nat.le_refl _⟩ (fun o69 H locs hU hS => ?_)
                      refine x_if_eq (tgt := 186) hx hb dX4_expression_124 (by decide) (fun hc => ?_) (fun hc => ?_)
                      · exact hj34 () _ _ _ ⟨hU, hS, _, rfl, lv_sub hl [1, 2] rfl⟩
                      · exact hj60 () _ _ _ ⟨hU, hS, _, rfl, lv_sub hl [1, 2] rfl⟩
              · exact hj23 () _ _ _ ⟨hU, hS, _, rfl, lv_sub hl [1, 2, 0] rfl⟩
  · exact x_vret hx hb hr hlk hS rfl (hU.to fun _ _ => trivial) dX4_expression_7
section MK
variable {ρ : Type} {p : Program} {l : Launch} {e : Env} {R : Room} {s : State} {m : MethodId} {args : Array Value} {below : List Frame} {meth : Method} {c : Code} {H : Heap} {locs : List Loc} {cells slots : Nat} {Qf : ρ → State → Prop}
variable {cc : ByteArray} {pc nL : Nat} {ls : Array Slot} {rest : List Value}
variable {D : va_G} {ct : CT} {ad : Nat → Nat} {A A0 : Nat → Prop} {S : US} {w : Int64} {H0 : Heap}
theorem kM_expression (E : ME p m c cc nL s args RX4 D clW ct) (hU : UM D ct ad A S w H) (hS : va_S A H0 H locs) (hA0 : ∀ q, H0.size ≤ q → A q) (hR : 6 + 1 ≤ R.frames ∧ 8 + (3 + 11) + 146 ≤ R.locals) (hsize : ls.size = nL) (hW : (rest.map fun v => v.category).sum ≤ 8) (hdg : decode cc pc = .ok (.invokevirtual 268, 3)) (hf : cells ≤ R.cells ∧ slots ≤ R.slots) {kp : (US × Int64) → Option ρ} (kk : ∀ (o : (US × Int64)) (H1 : Heap) (locs1 : List Loc), UM D ct ad A o.1 o.2 H1 → va_S A H0 H1 locs1 → X p l e R s m args below meth c H1 locs1 cells slots Qf (kp o) (F0 m (pc + 3) ls (rest))) : X p l e R s m args below meth c H locs cells slots Qf (callK (sM_expression S w) kp) (F0 m pc ls (.ref (ad 0) :: rest)) := ucV_mod (i := 0) (So := fun (o : (US × Int64)) => o.1) (wo := fun (o : (US × Int64)) => o.2) (As := []) E hU hS hA0 (by decide) rfl rfl (fun sz o ho => mM_expression l D ct ad S w sz o ho) (cwV 0 E.1.2.2.2.2 (lw_V q2115 q2117 qs63 q119 q2118) rfl rfl rfl (by decide +kernel) hR) rfl hsize rfl hW hdg hf kk
end MK

set_option maxHeartbeats 4000000 in
theorem mM_need (l : Launch) (D : va_G) (ct : CT) (ad : Nat → Nat) (S : US) (w : Int64) (p1 : Int32) (sz : Nat) (o : (US × Int64)) (ho : sM_need S w p1 = some o) : Met l yX4_need (ws_ yX4_need cX4_need 2 none) { frames := 3, cells := 0, slots := 0, locals := 74 } (mP D clW ct [.ref (ad (0)), .int p1] sz (UM D ct ad (fun _ => True) S w)) (mC (none) (UM D ct ad (fun _ => True) o.1 o.2) (uA 31 ad sz)) 0 0 (uA 31 ad sz) := by
  refine X.start (val := fun (o : (US × Int64)) => none) (Bt := fun (o : (US × Int64)) => UM D ct ad (fun _ => True) o.1 o.2) (A := uA 31 ad sz) ho (by decide) (Nat.le_of_ble_eq_true rfl) rfl ?_
  intro p e s m args below meth c E hr hlk hnm hsz hU ls hl
  subst hsz
  obtain ⟨⟨hx, hb, hml, hown, hts⟩, hK, hJ⟩ := id E
  replace hU := hU.to (B := uA 31 ad s.heap.size) (fun i hi => Or.inl ⟨i, hi, rfl⟩)
  have hA0 : ∀ q, s.heap.size ≤ q → (uA 31 ad s.heap.size) q := fun q h => Or.inr h
  have hS : va_S (uA 31 ad s.heap.size) s.heap s.heap [] := va_S.rf
  unfold sM_need
  refine x_aload_n hx hb dX4_need_0 rfl (lv_at hl 0 rfl) ?_
  refine kM_isGood E hU hS hA0 ⟨by decide, by decide⟩ hl.1 (Nat.le_of_ble_eq_true rfl) dX4_need_1 ⟨Nat.le_refl _, Nat.le_refl _⟩ (fun o1 H locs hU hS => ?_)
  refine x_if_ne (tgt := 8) hx hb dX4_need_4 (by decide) (fun hc => ?_) (fun hc => ?_)
  · refine x_iload_n hx hb dX4_need_8 rfl (lv_at hl 1 rfl) ?_
    refine x_if_eq (tgt := 19) hx hb dX4_need_9 (by decide) (fun hc => ?_) (fun hc => ?_)
    · refine x_aload_n hx hb dX4_need_19 rfl (lv_at hl 0 rfl) ?_
      refine x_iconst (v := 1) hx hb dX4_need_20 (by decide) ?_
      refine kM_wrong E hU hS hA0 ⟨by decide, by decide⟩ hl.1 (Nat.le_of_ble_eq_true rfl) dX4_need_21 ⟨Nat.le_refl _, Nat.le_refl _⟩ (fun o2 H locs hU hS => ?_)
      exact x_vret hx hb hr hlk hS rfl (hU.to fun _ _ => trivial) dX4_need_24
    · refine x_aload_n hx hb dX4_need_12 rfl (lv_at hl 0 rfl) ?_
      refine kM_goes E hU hS hA0 ⟨by decide, by decide⟩ hl.1 (Nat.le_of_ble_eq_true rfl) dX4_need_13 ⟨Nat.le_refl _, Nat.le_refl _⟩ (fun o3 H locs hU hS => ?_)
      refine x_goto (tgt := 24) hx hb dX4_need_16 (by decide) ?_
      exact x_vret hx hb hr hlk hS rfl (hU.to fun _ _ => trivial) dX4_need_24
  · exact x_vret hx hb hr hlk hS rfl (hU.to fun _ _ => trivial) dX4_need_7
section MK
variable {ρ : Type} {p : Program} {l : Launch} {e : Env} {R : Room} {s : State} {m : MethodId} {args : Array Value} {below : List Frame} {meth : Method} {c : Code} {H : Heap} {locs : List Loc} {cells slots : Nat} {Qf : ρ → State → Prop}
variable {cc : ByteArray} {pc nL : Nat} {ls : Array Slot} {rest : List Value}
variable {D : va_G} {ct : CT} {ad : Nat → Nat} {A A0 : Nat → Prop} {S : US} {w : Int64} {H0 : Heap}
theorem kM_need {p1 : Int32} (E : ME p m c cc nL s args RX4 D clW ct) (hU : UM D ct ad A S w H) (hS : va_S A H0 H locs) (hA0 : ∀ q, H0.size ≤ q → A q) (hR : 3 + 1 ≤ R.frames ∧ 8 + (2 + 11) + 74 ≤ R.locals) (hsize : ls.size = nL) (hW : (rest.map fun v => v.category).sum ≤ 8) (hdg : decode cc pc = .ok (.invokevirtual 274, 3)) (hf : cells ≤ R.cells ∧ slots ≤ R.slots) {kp : (US × Int64) → Option ρ} (kk : ∀ (o : (US × Int64)) (H1 : Heap) (locs1 : List Loc), UM D ct ad A o.1 o.2 H1 → va_S A H0 H1 locs1 → X p l e R s m args below meth c H1 locs1 cells slots Qf (kp o) (F0 m (pc + 3) ls (rest))) : X p l e R s m args below meth c H locs cells slots Qf (callK (sM_need S w p1) kp) (F0 m pc ls (.int p1 :: .ref (ad 0) :: rest)) := ucV_mod (i := 0) (So := fun (o : (US × Int64)) => o.1) (wo := fun (o : (US × Int64)) => o.2) (As := [.int p1]) E hU hS hA0 (by decide) rfl rfl (fun sz o ho => mM_need l D ct ad S w p1 sz o ho) (cwV 1 E.1.2.2.2.2 (lw_V q2161 q2163 qs73 q119 q2164) rfl rfl rfl (by decide +kernel) hR) rfl hsize rfl hW hdg hf kk
end MK

set_option maxHeartbeats 4000000 in
theorem mM_number (l : Launch) (D : va_G) (ct : CT) (ad : Nat → Nat) (S : US) (w : Int64) (p1 : Int32) (p2 : Int32) (sz : Nat) (o : (Int32 × US × Int64)) (ho : sM_number S w p1 p2 = some o) : Met l yX4_number (ws_ yX4_number cX4_number 4 (some .int)) { frames := 3, cells := 0, slots := 0, locals := 74 } (mP D clW ct [.ref (ad (0)), .int p1, .int p2] sz (UM D ct ad (fun _ => True) S w)) (mC (some (.int o.1)) (UM D ct ad (fun _ => True) o.2.1 o.2.2) (uA 31 ad sz)) 0 0 (uA 31 ad sz) := by
  refine X.start (val := fun (o : (Int32 × US × Int64)) => some (.int o.1)) (Bt := fun (o : (Int32 × US × Int64)) => UM D ct ad (fun _ => True) o.2.1 o.2.2) (A := uA 31 ad sz) ho (by decide) (Nat.le_of_ble_eq_true rfl) rfl ?_
  intro p e s m args below meth c E hr hlk hnm hsz hU ls hl
  subst hsz
  obtain ⟨⟨hx, hb, hml, hown, hts⟩, hK, hJ⟩ := id E
  replace hU := hU.to (B := uA 31 ad s.heap.size) (fun i hi => Or.inl ⟨i, hi, rfl⟩)
  have hA0 : ∀ q, s.heap.size ≤ q → (uA 31 ad s.heap.size) q := fun q h => Or.inr h
  have hS : va_S (uA 31 ad s.heap.size) s.heap s.heap [] := va_S.rf
  unfold sM_number
  refine x_aload_n hx hb dX4_number_0 rfl (lv_at hl 0 rfl) ?_
  refine kM_isGood E hU hS hA0 ⟨by decide, by decide⟩ hl.1 (Nat.le_of_ble_eq_true rfl) dX4_number_1 ⟨Nat.le_refl _, Nat.le_refl _⟩ (fun o1 H locs hU hS => ?_)
  refine x_if_ne (tgt := 9) hx hb dX4_number_4 (by decide) (fun hc => ?_) (fun hc => ?_)
  · refine x_aload_n hx hb dX4_number_9 rfl (lv_at hl 0 rfl) ?_
    refine gM_sort E hU dX4_number_10 ?_
    refine x_iconst (v := 2) hx hb dX4_number_13 (by decide) ?_
    refine X.join2 (fun (x : US) g H locs => UM D ct ad (uA 31 ad s.heap.size) x w H ∧ va_S (uA 31 ad s.heap.size) s.heap H locs ∧ ∃ ls : Array Slot, g = F0 m 54 ls [] ∧ lv_has ls 4 [(0, .ref (ad (0)))]) ?_ (fun j3 hj3 => ?_)
    · rintro S2 _ H locs ⟨hU, hS, ls, rfl, hl⟩
      refine X.eqs (sp2 := sM_number_J54 w S2) rfl ?_
      unfold sM_number_J54
      refine x_aload_n hx hb dX4_number_54 rfl (lv_at hl 0 rfl) ?_
      refine gM_value E hU dX4_number_55 ?_
      refine x_istore_n (lv' := [(3, .int (S2 0 21)), (0, .ref (ad (0)))]) hx hb dX4_number_58 rfl hl (by decide) rfl (fun ls hl => ?_)
      refine x_aload_n hx hb dX4_number_59 rfl (lv_at hl 1 rfl) ?_
      refine kM_isGood E hU hS hA0 ⟨by decide, by decide⟩ hl.1 (Nat.le_of_ble_eq_true rfl) dX4_number_60 ⟨Nat.le_refl _, Nat.le_refl _⟩ (fun o4 H locs hU hS => ?_)
      refine x_if_eq (tgt := 70) hx hb dX4_number_63 (by decide) (fun hc => ?_) (fun hc => ?_)
      · refine x_iload_n hx hb dX4_number_70 rfl (lv_at hl 0 rfl) ?_
        exact x_iret hx hb hr hlk hS rfl (hU.to fun _ _ => trivial) dX4_number_71
      · refine x_aload_n hx hb dX4_number_66 rfl (lv_at hl 1 rfl) ?_
        refine kM_goes E hU hS hA0 ⟨by decide, by decide⟩ hl.1 (Nat.le_of_ble_eq_true rfl) dX4_number_67 ⟨Nat.le_refl _, Nat.le_refl _⟩ (fun o5 H locs hU hS => ?_)
        refine x_iload_n hx hb dX4_number_70 rfl (lv_at hl 0 rfl) ?_
        exact x_iret hx hb hr hlk hS rfl (hU.to fun _ _ => trivial) dX4_number_71
    · refine x_icmp_eq (tgt := 25) hx hb dX4_number_14 (by decide) (fun hc => ?_) (fun hc => ?_)
      · refine x_aload_n hx hb dX4_number_25 rfl (lv_at hl 0 rfl) ?_
        refine gM_long0 E hU dX4_number_26 ?_
        refine x_iconst (v := 4) hx hb dX4_number_29 (by decide) ?_
        refine x_icmp_gt (tgt := 49) hx hb dX4_number_30 (by decide) (fun hc => ?_) (fun hc => ?_)
        · refine x_aload_n hx hb dX4_number_49 rfl (lv_at hl 0 rfl) ?_
          refine x_iconst (v := 2) hx hb dX4_number_50 (by decide) ?_
          refine kM_wrong E hU hS hA0 ⟨by decide, by decide⟩ hl.1 (Nat.le_of_ble_eq_true rfl) dX4_number_51 ⟨Nat.le_refl _, Nat.le_refl _⟩ (fun o6 H locs hU hS => ?_)
          exact hj3 o6 _ _ _ ⟨hU, hS, _, rfl, lv_sub hl [0] rfl⟩
        · refine x_aload_n hx hb dX4_number_33 rfl (lv_at hl 0 rfl) ?_
          refine gM_value E hU dX4_number_34 ?_
          refine x_iload_n hx hb dX4_number_37 rfl (lv_at hl 1 rfl) ?_
          refine x_icmp_lt (tgt := 49) hx hb dX4_number_38 (by decide) (fun hc => ?_) (fun hc => ?_)
          · refine x_aload_n hx hb dX4_number_49 rfl (lv_at hl 0 rfl) ?_
            refine x_iconst (v := 2) hx hb dX4_number_50 (by decide) ?_
            refine kM_wrong E hU hS hA0 ⟨by decide, by decide⟩ hl.1 (Nat.le_of_ble_eq_true rfl) dX4_number_51 ⟨Nat.le_refl _, Nat.le_refl _⟩ (fun o7 H locs hU hS => ?_)
            exact hj3 o7 _ _ _ ⟨hU, hS, _, rfl, lv_sub hl [0] rfl⟩
          · refine x_aload_n hx hb dX4_number_41 rfl (lv_at hl 0 rfl) ?_
            refine gM_value E hU dX4_number_42 ?_
            refine x_iload_n hx hb dX4_number_45 rfl (lv_at hl 2 rfl) ?_
            refine x_icmp_le (tgt := 54) hx hb dX4_number_46 (by decide) (fun hc => ?_) (fun hc => ?_)
            · exact hj3 S _ _ _ ⟨hU, hS, _, rfl, lv_sub hl [0] rfl⟩
            · refine x_aload_n hx hb dX4_number_49 rfl (lv_at hl 0 rfl) ?_
              refine x_iconst (v := 2) hx hb dX4_number_50 (by decide) ?_
              refine kM_wrong E hU hS hA0 ⟨by decide, by decide⟩ hl.1 (Nat.le_of_ble_eq_true rfl) dX4_number_51 ⟨Nat.le_refl _, Nat.le_refl _⟩ (fun o8 H locs hU hS => ?_)
              exact hj3 o8 _ _ _ ⟨hU, hS, _, rfl, lv_sub hl [0] rfl⟩
      · refine x_aload_n hx hb dX4_number_17 rfl (lv_at hl 0 rfl) ?_
        refine x_iconst (v := 1) hx hb dX4_number_18 (by decide) ?_
        refine kM_wrong E hU hS hA0 ⟨by decide, by decide⟩ hl.1 (Nat.le_of_ble_eq_true rfl) dX4_number_19 ⟨Nat.le_refl _, Nat.le_refl _⟩ (fun o9 H locs hU hS => ?_)
        refine x_goto (tgt := 54) hx hb dX4_number_22 (by decide) ?_
        exact hj3 o9 _ _ _ ⟨hU, hS, _, rfl, lv_sub hl [0] rfl⟩
  · refine x_iconst (v := 0) hx hb dX4_number_7 (by decide) ?_
    exact x_iret hx hb hr hlk hS rfl (hU.to fun _ _ => trivial) dX4_number_8
section MK
variable {ρ : Type} {p : Program} {l : Launch} {e : Env} {R : Room} {s : State} {m : MethodId} {args : Array Value} {below : List Frame} {meth : Method} {c : Code} {H : Heap} {locs : List Loc} {cells slots : Nat} {Qf : ρ → State → Prop}
variable {cc : ByteArray} {pc nL : Nat} {ls : Array Slot} {rest : List Value}
variable {D : va_G} {ct : CT} {ad : Nat → Nat} {A A0 : Nat → Prop} {S : US} {w : Int64} {H0 : Heap}
theorem kM_number {p1 : Int32} {p2 : Int32} (E : ME p m c cc nL s args RX4 D clW ct) (hU : UM D ct ad A S w H) (hS : va_S A H0 H locs) (hA0 : ∀ q, H0.size ≤ q → A q) (hR : 3 + 1 ≤ R.frames ∧ 8 + (4 + 11) + 74 ≤ R.locals) (hsize : ls.size = nL) (hW : (rest.map fun v => v.category).sum ≤ 8) (hdg : decode cc pc = .ok (.invokevirtual 236, 3)) (hf : cells ≤ R.cells ∧ slots ≤ R.slots) {kp : (Int32 × US × Int64) → Option ρ} (kk : ∀ (o : (Int32 × US × Int64)) (H1 : Heap) (locs1 : List Loc), UM D ct ad A o.2.1 o.2.2 H1 → va_S A H0 H1 locs1 → X p l e R s m args below meth c H1 locs1 cells slots Qf (kp o) (F0 m (pc + 3) ls (.int o.1 :: rest))) : X p l e R s m args below meth c H locs cells slots Qf (callK (sM_number S w p1 p2) kp) (F0 m pc ls (.int p2 :: .int p1 :: .ref (ad 0) :: rest)) := ucV_mod (i := 0) (So := fun (o : (Int32 × US × Int64)) => o.2.1) (wo := fun (o : (Int32 × US × Int64)) => o.2.2) (As := [.int p1, .int p2]) E hU hS hA0 (by decide) rfl rfl (fun sz o ho => mM_number l D ct ad S w p1 p2 sz o ho) (cwV 2 E.1.2.2.2.2 (lw_V q2099 q2101 qs59 q119 q2102) rfl rfl rfl (by decide +kernel) hR) rfl hsize rfl hW hdg hf kk
end MK

set_option maxHeartbeats 4000000 in
theorem mM_isKnot (l : Launch) (D : va_G) (ct : CT) (ad : Nat → Nat) (S : US) (w : Int64) (sz : Nat) (o : Bool) (ho : sM_isKnot S = some o) : Met l yX4_isKnot (ws_ yX4_isKnot cX4_isKnot 2 (some .boolean)) { frames := 1, cells := 0, slots := 0, locals := 32 } (mP D clW ct [.ref (ad (0))] sz (UM D ct ad (fun _ => True) S w)) (mC (some (.int (bI o))) (fun _ => True) (nA sz)) 0 0 (nA sz) := by
  refine X.start (val := fun (o : Bool) => some (.int (bI o))) (Bt := fun _ _ => True) (A := nA sz) ho (by decide) (Nat.le_of_ble_eq_true rfl) rfl ?_
  intro p e s m args below meth c E hr hlk hnm hsz hU ls hl
  subst hsz
  obtain ⟨⟨hx, hb, hml, hown, hts⟩, hK, hJ⟩ := id E
  have hA0 : ∀ q, s.heap.size ≤ q → (nA s.heap.size) q := fun q h => h
  have hS : va_S (nA s.heap.size) s.heap s.heap [] := va_S.rf
  unfold sM_isKnot
  refine x_iconst (v := 0) hx hb dX4_isKnot_0 (by decide) ?_
  refine x_istore_n (lv' := [(1, .int (0 : Int32)), (0, .ref (ad (0)))]) hx hb dX4_isKnot_1 rfl hl (by decide) rfl (fun ls hl => ?_)
  refine X.loop (I := fun (x : Int32) g H locs => UM D ct ad (fun _ => True) S w H ∧ va_S (nA s.heap.size) s.heap H locs ∧ ∃ ls : Array Slot, g = F0 m 2 ls [] ∧ lv_has ls 2 [(0, .ref (ad (0))), (1, .int x)]) (fun rc2 ih2 => ?_) FUEL _ _ _ _ ⟨hU, hS, _, rfl, lv_sub hl [1, 0] rfl⟩
  rintro v1 _ H locs ⟨hU, hS, ls, rfl, hl⟩
  refine X.eqs (sp2 := sM_isKnot_L2 S rc2 v1) rfl ?_
  unfold sM_isKnot_L2
  refine x_iload_n hx hb dX4_isKnot_2 rfl (lv_at hl 1 rfl) ?_
  refine x_aload_n hx hb dX4_isKnot_3 rfl (lv_at hl 0 rfl) ?_
  refine gM_newKnots E hU dX4_isKnot_4 ?_
  refine x_icmp_ge (tgt := 44) hx hb dX4_isKnot_7 (by decide) (fun hc => ?_) (fun hc => ?_)
  · refine x_iconst (v := 0) hx hb dX4_isKnot_44 (by decide) ?_
    exact x_zret hx hb hr hlk hS rfl rfl trivial dX4_isKnot_45
  · refine x_aload_n hx hb dX4_isKnot_10 rfl (lv_at hl 0 rfl) ?_
    refine gM_newKnot E hU dX4_isKnot_11 ?_
    refine x_iload_n hx hb dX4_isKnot_14 rfl (lv_at hl 1 rfl) ?_
    refine ux_ald (i := 8) (n := 8) E hU (by decide) rfl dX4_isKnot_15 ?_
    refine x_aload_n hx hb dX4_isKnot_16 rfl (lv_at hl 0 rfl) ?_
    refine gM_value E hU dX4_isKnot_17 ?_
    refine x_icmp_ne (tgt := 38) hx hb dX4_isKnot_20 (by decide) (fun hc => ?_) (fun hc => ?_)
    · refine x_iinc (v := (v1 + (1 : Int32))) (lv' := [(1, .int (v1 + (1 : Int32))), (0, .ref (ad (0)))]) (k := 1) hx hb dX4_isKnot_38 hl rfl rfl (by decide) rfl (fun ls hl => ?_)
      refine x_goto (tgt := 2) hx hb dX4_isKnot_41 (by decide) ?_
      exact ih2 (v1 + (1 : Int32)) _ _ _ ⟨hU, hS, _, rfl, lv_sub hl [1, 0] rfl⟩
    · refine x_aload_n hx hb dX4_isKnot_23 rfl (lv_at hl 0 rfl) ?_
      refine gM_newKnotLong E hU dX4_isKnot_24 ?_
      refine x_iload_n hx hb dX4_isKnot_27 rfl (lv_at hl 1 rfl) ?_
      refine ux_ald (i := 9) (n := 8) E hU (by decide) rfl dX4_isKnot_28 ?_
      refine x_aload_n hx hb dX4_isKnot_29 rfl (lv_at hl 0 rfl) ?_
      refine gM_long0 E hU dX4_isKnot_30 ?_
      refine x_icmp_ne (tgt := 38) hx hb dX4_isKnot_33 (by decide) (fun hc => ?_) (fun hc => ?_)
      · refine x_iinc (v := (v1 + (1 : Int32))) (lv' := [(1, .int (v1 + (1 : Int32))), (0, .ref (ad (0)))]) (k := 1) hx hb dX4_isKnot_38 hl rfl rfl (by decide) rfl (fun ls hl => ?_)
        refine x_goto (tgt := 2) hx hb dX4_isKnot_41 (by decide) ?_
        exact ih2 (v1 + (1 : Int32)) _ _ _ ⟨hU, hS, _, rfl, lv_sub hl [1, 0] rfl⟩
      · refine x_iconst (v := 1) hx hb dX4_isKnot_36 (by decide) ?_
        exact x_zret hx hb hr hlk hS rfl rfl trivial dX4_isKnot_37
section MK
variable {ρ : Type} {p : Program} {l : Launch} {e : Env} {R : Room} {s : State} {m : MethodId} {args : Array Value} {below : List Frame} {meth : Method} {c : Code} {H : Heap} {locs : List Loc} {cells slots : Nat} {Qf : ρ → State → Prop}
variable {cc : ByteArray} {pc nL : Nat} {ls : Array Slot} {rest : List Value}
variable {D : va_G} {ct : CT} {ad : Nat → Nat} {A A0 : Nat → Prop} {S : US} {w : Int64} {H0 : Heap}
theorem kM_isKnot (E : ME p m c cc nL s args RX4 D clW ct) (hU : UM D ct ad A S w H) (hS : va_S A0 H0 H locs) (hA0 : ∀ q, H0.size ≤ q → A0 q) (hR : 1 + 1 ≤ R.frames ∧ 8 + (2 + 11) + 32 ≤ R.locals) (hsize : ls.size = nL) (hW : (rest.map fun v => v.category).sum ≤ 8) (hdg : decode cc pc = .ok (.invokevirtual 246, 3)) (hf : cells ≤ R.cells ∧ slots ≤ R.slots) {kp : Bool → Option ρ} (kk : ∀ (o : Bool) (H1 : Heap) (locs1 : List Loc), UM D ct ad A S w H1 → va_S A0 H0 H1 locs1 → X p l e R s m args below meth c H1 locs1 cells slots Qf (kp o) (F0 m (pc + 3) ls (.int (bI o) :: rest))) : X p l e R s m args below meth c H locs cells slots Qf (callK (sM_isKnot S) kp) (F0 m pc ls (.ref (ad 0) :: rest)) := ucV_pure (i := 0) (As := []) E hU hS hA0 (by decide) rfl rfl (fun sz o ho => mM_isKnot l D ct ad S w sz o ho) (cwV 0 E.1.2.2.2.2 (lw_V q2111 q2113 qs62 q119 q2114) rfl rfl rfl (by decide +kernel) hR) rfl hsize rfl hW hdg hf kk
end MK

set_option maxHeartbeats 4000000 in
theorem mM_readsKnots (l : Launch) (D : va_G) (ct : CT) (ad : Nat → Nat) (S : US) (w : Int64) (sz : Nat) (o : (US × Int64)) (ho : sM_readsKnots S w = some o) : Met l yX4_readsKnots (ws_ yX4_readsKnots cX4_readsKnots 2 none) { frames := 3, cells := 0, slots := 0, locals := 74 } (mP D clW ct [.ref (ad (0))] sz (UM D ct ad (fun _ => True) S w)) (mC (none) (UM D ct ad (fun _ => True) o.1 o.2) (uA 31 ad sz)) 0 0 (uA 31 ad sz) := by
  refine X.start (val := fun (o : (US × Int64)) => none) (Bt := fun (o : (US × Int64)) => UM D ct ad (fun _ => True) o.1 o.2) (A := uA 31 ad sz) ho (by decide) (Nat.le_of_ble_eq_true rfl) rfl ?_
  intro p e s m args below meth c E hr hlk hnm hsz hU ls hl
  subst hsz
  obtain ⟨⟨hx, hb, hml, hown, hts⟩, hK, hJ⟩ := id E
  replace hU := hU.to (B := uA 31 ad s.heap.size) (fun i hi => Or.inl ⟨i, hi, rfl⟩)
  have hA0 : ∀ q, s.heap.size ≤ q → (uA 31 ad s.heap.size) q := fun q h => Or.inr h
  have hS : va_S (uA 31 ad s.heap.size) s.heap s.heap [] := va_S.rf
  unfold sM_readsKnots
  refine x_iconst (v := 1) hx hb dX4_readsKnots_0 (by decide) ?_
  refine x_istore_n (lv' := [(1, .int (1 : Int32)), (0, .ref (ad (0)))]) hx hb dX4_readsKnots_1 rfl hl (by decide) rfl (fun ls hl => ?_)
  refine X.loop (I := fun (x : (US × Int64 × Int32)) g H locs => UM D ct ad (uA 31 ad s.heap.size) x.1 x.2.1 H ∧ va_S (uA 31 ad s.heap.size) s.heap H locs ∧ ∃ ls : Array Slot, g = F0 m 2 ls [] ∧ lv_has ls 2 [(0, .ref (ad (0))), (1, .int x.2.2)]) (fun rc4 ih4 => ?_) FUEL _ _ _ _ ⟨hU, hS, _, rfl, lv_sub hl [1, 0] rfl⟩
  rintro ⟨S1, w2, v3⟩ _ H locs ⟨hU, hS, ls, rfl, hl⟩
  have hU : UM D ct ad (uA 31 ad s.heap.size) S1 w2 H := hU
  have hl : lv_has ls 2 [(0, .ref (ad (0))), (1, .int v3)] := hl
  refine X.eqs (sp2 := sM_readsKnots_L2 rc4 S1 w2 v3) rfl ?_
  unfold sM_readsKnots_L2
  refine x_iload_n hx hb dX4_readsKnots_2 rfl (lv_at hl 1 rfl) ?_
  refine x_if_eq (tgt := 131) hx hb dX4_readsKnots_3 (by decide) (fun hc => ?_) (fun hc => ?_)
  · exact x_vret hx hb hr hlk hS rfl (hU.to fun _ _ => trivial) dX4_readsKnots_131
  · refine x_aload_n hx hb dX4_readsKnots_6 rfl (lv_at hl 0 rfl) ?_
    refine kM_isGood E hU hS hA0 ⟨by decide, by decide⟩ hl.1 (Nat.le_of_ble_eq_true rfl) dX4_readsKnots_7 ⟨Nat.le_refl _, Nat.le_refl _⟩ (fun o5 H locs hU hS => ?_)
    refine x_if_eq (tgt := 131) hx hb dX4_readsKnots_10 (by decide) (fun hc => ?_) (fun hc => ?_)
    · exact x_vret hx hb hr hlk hS rfl (hU.to fun _ _ => trivial) dX4_readsKnots_131
    · refine x_aload_n hx hb dX4_readsKnots_13 rfl (lv_at hl 0 rfl) ?_
      refine gM_sort E hU dX4_readsKnots_14 ?_
      refine x_iconst (v := 2) hx hb dX4_readsKnots_17 (by decide) ?_
      refine X.join2 (fun (x : US) g H locs => UM D ct ad (uA 31 ad s.heap.size) x w2 H ∧ va_S (uA 31 ad s.heap.size) s.heap H locs ∧ ∃ ls : Array Slot, g = F0 m 66 ls [] ∧ lv_has ls 2 [(0, .ref (ad (0)))]) ?_ (fun j7 hj7 => ?_)
      · rintro S6 _ H locs ⟨hU, hS, ls, rfl, hl⟩
        refine X.eqs (sp2 := sM_readsKnots_J66 w2 rc4 S6) rfl ?_
        unfold sM_readsKnots_J66
        refine x_aload_n hx hb dX4_readsKnots_66 rfl (lv_at hl 0 rfl) ?_
        refine kM_isGood E hU hS hA0 ⟨by decide, by decide⟩ hl.1 (Nat.le_of_ble_eq_true rfl) dX4_readsKnots_67 ⟨Nat.le_refl _, Nat.le_refl _⟩ (fun o8 H locs hU hS => ?_)
        refine x_if_ne (tgt := 74) hx hb dX4_readsKnots_70 (by decide) (fun hc => ?_) (fun hc => ?_)
        · refine x_aload_n hx hb dX4_readsKnots_74 rfl (lv_at hl 0 rfl) ?_
          refine gM_newKnot E hU dX4_readsKnots_75 ?_
          refine x_aload_n hx hb dX4_readsKnots_78 rfl (lv_at hl 0 rfl) ?_
          refine gM_newKnots E hU dX4_readsKnots_79 ?_
          refine x_aload_n hx hb dX4_readsKnots_82 rfl (lv_at hl 0 rfl) ?_
          refine gM_value E hU dX4_readsKnots_83 ?_
          refine ux_ast (i := 8) (n := 8) E hU hS (by decide) rfl dX4_readsKnots_86 (fun S9 H locs hU hS => ?_)
          refine x_aload_n hx hb dX4_readsKnots_87 rfl (lv_at hl 0 rfl) ?_
          refine gM_newKnotLong E hU dX4_readsKnots_88 ?_
          refine x_aload_n hx hb dX4_readsKnots_91 rfl (lv_at hl 0 rfl) ?_
          refine gM_newKnots E hU dX4_readsKnots_92 ?_
          refine x_aload_n hx hb dX4_readsKnots_95 rfl (lv_at hl 0 rfl) ?_
          refine gM_long0 E hU dX4_readsKnots_96 ?_
          refine ux_ast (i := 9) (n := 8) E hU hS (by decide) rfl dX4_readsKnots_99 (fun S10 H locs hU hS => ?_)
          refine x_aload_n hx hb dX4_readsKnots_100 rfl (lv_at hl 0 rfl) ?_
          refine x_dup hx hb dX4_readsKnots_101 rfl ?_
          refine gM_newKnots E hU dX4_readsKnots_102 ?_
          refine x_iconst (v := 1) hx hb dX4_readsKnots_105 (by decide) ?_
          refine x_iadd hx hb dX4_readsKnots_106 ?_
          refine pM_newKnots E hU hS dX4_readsKnots_107 (fun S11 H locs hU hS => ?_)
          refine x_aload_n hx hb dX4_readsKnots_110 rfl (lv_at hl 0 rfl) ?_
          refine kM_goes E hU hS hA0 ⟨by decide, by decide⟩ hl.1 (Nat.le_of_ble_eq_true rfl) dX4_readsKnots_111 ⟨Nat.le_refl _, Nat.le_refl _⟩ (fun o12 H locs hU hS => ?_)
          refine x_aload_n hx hb dX4_readsKnots_114 rfl (lv_at hl 0 rfl) ?_
          refine gM_sort E hU dX4_readsKnots_115 ?_
          refine x_iconst (v := 2) hx hb dX4_readsKnots_118 (by decide) ?_
          refine x_icmp_ne (tgt := 126) hx hb dX4_readsKnots_119 (by decide) (fun hc => ?_) (fun hc => ?_)
          · refine x_iconst (v := 0) hx hb dX4_readsKnots_126 (by decide) ?_
            refine x_istore_n (lv' := [(1, .int (0 : Int32)), (0, .ref (ad (0)))]) hx hb dX4_readsKnots_127 rfl hl (by decide) rfl (fun ls hl => ?_)
            refine x_goto (tgt := 2) hx hb dX4_readsKnots_128 (by decide) ?_
            exact ih4 (o12.1, o12.2, (0 : Int32)) _ _ _ ⟨hU, hS, _, rfl, lv_sub hl [1, 0] rfl⟩
          · refine x_iconst (v := 1) hx hb dX4_readsKnots_122 (by decide) ?_
            refine x_goto (tgt := 127) hx hb dX4_readsKnots_123 (by decide) ?_
            refine x_istore_n (lv' := [(1, .int (1 : Int32)), (0, .ref (ad (0)))]) hx hb dX4_readsKnots_127 rfl hl (by decide) rfl (fun ls hl => ?_)
            refine x_goto (tgt := 2) hx hb dX4_readsKnots_128 (by decide) ?_
            exact ih4 (o12.1, o12.2, (1 : Int32)) _ _ _ ⟨hU, hS, _, rfl, lv_sub hl [1, 0] rfl⟩
        · exact x_vret hx hb hr hlk hS rfl (hU.to fun _ _ => trivial) dX4_readsKnots_73
      · refine x_icmp_eq (tgt := 29) hx hb dX4_readsKnots_18 (by decide) (fun hc => ?_) (fun hc => ?_)
        · refine x_aload_n hx hb dX4_readsKnots_29 rfl (lv_at hl 0 rfl) ?_
          refine gM_newKnots E hU dX4_readsKnots_30 ?_
          refine x_bipush (v := 8) hx hb dX4_readsKnots_33 (by decide) ?_
          refine x_icmp_eq (tgt := 46) hx hb dX4_readsKnots_35 (by decide) (fun hc => ?_) (fun hc => ?_)
          · refine x_aload_n hx hb dX4_readsKnots_46 rfl (lv_at hl 0 rfl) ?_
            refine x_iconst (v := 2) hx hb dX4_readsKnots_47 (by decide) ?_
            refine kM_wrong E hU hS hA0 ⟨by decide, by decide⟩ hl.1 (Nat.le_of_ble_eq_true rfl) dX4_readsKnots_48 ⟨Nat.le_refl _, Nat.le_refl _⟩ (fun o13 H locs hU hS => ?_)
            refine x_goto (tgt := 66) hx hb dX4_readsKnots_51 (by decide) ?_
            exact hj7 o13 _ _ _ ⟨hU, hS, _, rfl, lv_sub hl [0] rfl⟩
          · refine x_aload_n hx hb dX4_readsKnots_38 rfl (lv_at hl 0 rfl) ?_
            refine gM_long0 E hU dX4_readsKnots_39 ?_
            refine x_iconst (v := 4) hx hb dX4_readsKnots_42 (by decide) ?_
            refine x_icmp_le (tgt := 54) hx hb dX4_readsKnots_43 (by decide) (fun hc => ?_) (fun hc => ?_)
            · refine x_aload_n hx hb dX4_readsKnots_54 rfl (lv_at hl 0 rfl) ?_
              refine kM_isKnot E hU hS hA0 ⟨by decide, by decide⟩ hl.1 (Nat.le_of_ble_eq_true rfl) dX4_readsKnots_55 ⟨Nat.le_refl _, Nat.le_refl _⟩ (fun o14 H locs hU hS => ?_)
              refine x_if_eq (tgt := 66) hx hb dX4_readsKnots_58 (by decide) (fun hc => ?_) (fun hc => ?_)
              · exact hj7 S1 _ _ _ ⟨hU, hS, _, rfl, lv_sub hl [0] rfl⟩
              · refine x_aload_n hx hb dX4_readsKnots_61 rfl (lv_at hl 0 rfl) ?_
                refine x_iconst (v := 4) hx hb dX4_readsKnots_62 (by decide) ?_
                refine kM_wrong E hU hS hA0 ⟨by decide, by decide⟩ hl.1 (Nat.le_of_ble_eq_true rfl) dX4_readsKnots_63 ⟨Nat.le_refl _, Nat.le_refl _⟩ (fun o15 H locs hU hS => ?_)
                exact hj7 o15 _ _ _ ⟨hU, hS, _, rfl, lv_sub hl [0] rfl⟩
            · refine x_aload_n hx hb dX4_readsKnots_46 rfl (lv_at hl 0 rfl) ?_
              refine x_iconst (v := 2) hx hb dX4_readsKnots_47 (by decide) ?_
              refine kM_wrong E hU hS hA0 ⟨by decide, by decide⟩ hl.1 (Nat.le_of_ble_eq_true rfl) dX4_readsKnots_48 ⟨Nat.le_refl _, Nat.le_refl _⟩ (fun o16 H locs hU hS => ?_)
              refine x_goto (tgt := 66) hx hb dX4_readsKnots_51 (by decide) ?_
              exact hj7 o16 _ _ _ ⟨hU, hS, _, rfl, lv_sub hl [0] rfl⟩
        · refine x_aload_n hx hb dX4_readsKnots_21 rfl (lv_at hl 0 rfl) ?_
          refine x_iconst (v := 1) hx hb dX4_readsKnots_22 (by decide) ?_
          refine kM_wrong E hU hS hA0 ⟨by decide, by decide⟩ hl.1 (Nat.le_of_ble_eq_true rfl) dX4_readsKnots_23 ⟨Nat.le_refl _, Nat.le_refl _⟩ (fun o17 H locs hU hS => ?_)
          refine x_goto (tgt := 66) hx hb dX4_readsKnots_26 (by decide) ?_
          exact hj7 o17 _ _ _ ⟨hU, hS, _, rfl, lv_sub hl [0] rfl⟩
section MK
variable {ρ : Type} {p : Program} {l : Launch} {e : Env} {R : Room} {s : State} {m : MethodId} {args : Array Value} {below : List Frame} {meth : Method} {c : Code} {H : Heap} {locs : List Loc} {cells slots : Nat} {Qf : ρ → State → Prop}
variable {cc : ByteArray} {pc nL : Nat} {ls : Array Slot} {rest : List Value}
variable {D : va_G} {ct : CT} {ad : Nat → Nat} {A A0 : Nat → Prop} {S : US} {w : Int64} {H0 : Heap}
theorem kM_readsKnots (E : ME p m c cc nL s args RX4 D clW ct) (hU : UM D ct ad A S w H) (hS : va_S A H0 H locs) (hA0 : ∀ q, H0.size ≤ q → A q) (hR : 3 + 1 ≤ R.frames ∧ 8 + (2 + 11) + 74 ≤ R.locals) (hsize : ls.size = nL) (hW : (rest.map fun v => v.category).sum ≤ 8) (hdg : decode cc pc = .ok (.invokevirtual 259, 3)) (hf : cells ≤ R.cells ∧ slots ≤ R.slots) {kp : (US × Int64) → Option ρ} (kk : ∀ (o : (US × Int64)) (H1 : Heap) (locs1 : List Loc), UM D ct ad A o.1 o.2 H1 → va_S A H0 H1 locs1 → X p l e R s m args below meth c H1 locs1 cells slots Qf (kp o) (F0 m (pc + 3) ls (rest))) : X p l e R s m args below meth c H locs cells slots Qf (callK (sM_readsKnots S w) kp) (F0 m pc ls (.ref (ad 0) :: rest)) := ucV_mod (i := 0) (So := fun (o : (US × Int64)) => o.1) (wo := fun (o : (US × Int64)) => o.2) (As := []) E hU hS hA0 (by decide) rfl rfl (fun sz o ho => mM_readsKnots l D ct ad S w sz o ho) (cwV 0 E.1.2.2.2.2 (lw_V q2107 q2109 qs61 q119 q2110) rfl rfl rfl (by decide +kernel) hR) rfl hsize rfl hW hdg hf kk
end MK
