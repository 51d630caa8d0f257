set_option maxRecDepth 100000
set_option maxHeartbeats 4000000 in
theorem mM_readsStretch (l : Launch) (D : va_G) (ct : CT) (ad : Nat → Nat) (S : US) (w : Int64) (sz : Nat) (o : (US × Int64)) (ho : sM_readsStretch S w = some o) : Met l yX4_readsStretch (ws_ yX4_readsStretch cX4_readsStretch 2 none) { frames := 4, cells := 0, slots := 0, locals := 97 } (mP D clW ct [.ref (ad (0))] sz (UM D ct ad (fun _ => True) S w)) (mC (none) (UM D ct ad (fun _ => True) o.1 o.2) (uA 31 ad sz)) 0 0 (uA 31 ad sz) := by
  refine X.start (val := fun (o : (US × Int64)) => none) (Bt := fun (o : (US × Int64)) => UM D ct ad (fun _ => True) o.1 o.2) (A := uA 31 ad sz) ho (by decide) (Nat.le_of_ble_eq_true rfl) rfl ?_
  intro p e s m args below meth c E hr hlk hnm hsz hU ls hl
  subst hsz
  obtain ⟨⟨hx, hb, hml, hown, hts⟩, hK, hJ⟩ := id E
  replace hU := hU.to (B := uA 31 ad s.heap.size) (fun i hi => Or.inl ⟨i, hi, rfl⟩)
  have hA0 : ∀ q, s.heap.size ≤ q → (uA 31 ad s.heap.size) q := fun q h => Or.inr h
  have hS : va_S (uA 31 ad s.heap.size) s.heap s.heap [] := va_S.rf
  unfold sM_readsStretch
  refine x_aload_n hx hb dX4_readsStretch_0 rfl (lv_at hl 0 rfl) ?_
  refine gM_newMany E hU dX4_readsStretch_1 ?_
  refine x_istore_n (lv' := [(1, .int (S 0 24)), (0, .ref (ad (0)))]) hx hb dX4_readsStretch_4 rfl hl (by decide) rfl (fun ls hl => ?_)
  refine x_aload_n hx hb dX4_readsStretch_5 rfl (lv_at hl 1 rfl) ?_
  refine gM_newRow E hU dX4_readsStretch_6 ?_
  refine x_iconst (v := 1) hx hb dX4_readsStretch_9 (by decide) ?_
  refine x_iload_n hx hb dX4_readsStretch_10 rfl (lv_at hl 0 rfl) ?_
  refine x_iadd hx hb dX4_readsStretch_11 ?_
  refine x_aload_n hx hb dX4_readsStretch_12 rfl (lv_at hl 1 rfl) ?_
  refine x_iconst (v := 0) hx hb dX4_readsStretch_13 (by decide) ?_
  refine x_bipush (v := 99) hx hb dX4_readsStretch_14 (by decide) ?_
  refine kM_number E hU hS hA0 ⟨by decide, by decide⟩ hl.1 (Nat.le_of_ble_eq_true rfl) dX4_readsStretch_16 ⟨Nat.le_refl _, Nat.le_refl _⟩ (fun o1 H locs hU hS => ?_)
  refine ux_ast (i := 10) (n := 49) E hU hS (by decide) rfl dX4_readsStretch_19 (fun S2 H locs hU hS => ?_)
  refine x_aload_n hx hb dX4_readsStretch_20 rfl (lv_at hl 1 rfl) ?_
  refine gM_newRow E hU dX4_readsStretch_21 ?_
  refine x_bipush (v := 13) hx hb dX4_readsStretch_24 (by decide) ?_
  refine x_iload_n hx hb dX4_readsStretch_26 rfl (lv_at hl 0 rfl) ?_
  refine x_iadd hx hb dX4_readsStretch_27 ?_
  refine x_aload_n hx hb dX4_readsStretch_28 rfl (lv_at hl 1 rfl) ?_
  refine x_iconst (v := 0) hx hb dX4_readsStretch_29 (by decide) ?_
  refine x_bipush (v := 99) hx hb dX4_readsStretch_30 (by decide) ?_
  refine kM_number E hU hS hA0 ⟨by decide, by decide⟩ hl.1 (Nat.le_of_ble_eq_true rfl) dX4_readsStretch_32 ⟨Nat.le_refl _, Nat.le_refl _⟩ (fun o3 H locs hU hS => ?_)
  refine ux_ast (i := 10) (n := 49) E hU hS (by decide) rfl dX4_readsStretch_35 (fun S4 H locs hU hS => ?_)
  refine x_aload_n hx hb dX4_readsStretch_36 rfl (lv_at hl 1 rfl) ?_
  refine gM_newRow E hU dX4_readsStretch_37 ?_
  refine x_bipush (v := 25) hx hb dX4_readsStretch_40 (by decide) ?_
  refine x_iload_n hx hb dX4_readsStretch_42 rfl (lv_at hl 0 rfl) ?_
  refine x_iadd hx hb dX4_readsStretch_43 ?_
  refine x_aload_n hx hb dX4_readsStretch_44 rfl (lv_at hl 1 rfl) ?_
  refine x_iconst (v := 0) hx hb dX4_readsStretch_45 (by decide) ?_
  refine x_iconst (v := 2) hx hb dX4_readsStretch_46 (by decide) ?_
  refine kM_number E hU hS hA0 ⟨by decide, by decide⟩ hl.1 (Nat.le_of_ble_eq_true rfl) dX4_readsStretch_47 ⟨Nat.le_refl _, Nat.le_refl _⟩ (fun o5 H locs hU hS => ?_)
  refine ux_ast (i := 10) (n := 49) E hU hS (by decide) rfl dX4_readsStretch_50 (fun S6 H locs hU hS => ?_)
  refine x_aload_n hx hb dX4_readsStretch_51 rfl (lv_at hl 1 rfl) ?_
  refine kM_isGood E hU hS hA0 ⟨by decide, by decide⟩ hl.1 (Nat.le_of_ble_eq_true rfl) dX4_readsStretch_52 ⟨Nat.le_refl _, Nat.le_refl _⟩ (fun o7 H locs hU hS => ?_)
  refine x_if_eq (tgt := 68) hx hb dX4_readsStretch_55 (by decide) (fun hc => ?_) (fun hc => ?_)
  · exact x_vret hx hb hr hlk hS rfl (hU.to fun _ _ => trivial) dX4_readsStretch_68
  · refine x_aload_n hx hb dX4_readsStretch_58 rfl (lv_at hl 1 rfl) ?_
    refine x_dup hx hb dX4_readsStretch_59 rfl ?_
    refine gM_newMany E hU dX4_readsStretch_60 ?_
    refine x_iconst (v := 1) hx hb dX4_readsStretch_63 (by decide) ?_
    refine x_iadd hx hb dX4_readsStretch_64 ?_
    refine pM_newMany E hU hS dX4_readsStretch_65 (fun S8 H locs hU hS => ?_)
    exact x_vret hx hb hr hlk hS rfl (hU.to fun _ _ => trivial) dX4_readsStretch_68
section MK
variable {ρ : Type} {p : Program} {l : Launch} {e : Env} {R : Room} {s : State} {m : MethodId} {args : Array Value} {below : List Frame} {meth : Method} {c : Code} {H : Heap} {locs : List Loc} {cells slots : Nat} {Qf : ρ → State → Prop}
variable {cc : ByteArray} {pc nL : Nat} {ls : Array Slot} {rest : List Value}
variable {D : va_G} {ct : CT} {ad : Nat → Nat} {A A0 : Nat → Prop} {S : US} {w : Int64} {H0 : Heap}
theorem kM_readsStretch (E : ME p m c cc nL s args RX4 D clW ct) (hU : UM D ct ad A S w H) (hS : va_S A H0 H locs) (hA0 : ∀ q, H0.size ≤ q → A q) (hR : 4 + 1 ≤ R.frames ∧ 8 + (2 + 11) + 97 ≤ R.locals) (hsize : ls.size = nL) (hW : (rest.map fun v => v.category).sum ≤ 8) (hdg : decode cc pc = .ok (.invokevirtual 253, 3)) (hf : cells ≤ R.cells ∧ slots ≤ R.slots) {kp : (US × Int64) → Option ρ} (kk : ∀ (o : (US × Int64)) (H1 : Heap) (locs1 : List Loc), UM D ct ad A o.1 o.2 H1 → va_S A H0 H1 locs1 → X p l e R s m args below meth c H1 locs1 cells slots Qf (kp o) (F0 m (pc + 3) ls (rest))) : X p l e R s m args below meth c H locs cells slots Qf (callK (sM_readsStretch S w) kp) (F0 m pc ls (.ref (ad 0) :: rest)) := ucV_mod (i := 0) (So := fun (o : (US × Int64)) => o.1) (wo := fun (o : (US × Int64)) => o.2) (As := []) E hU hS hA0 (by decide) rfl rfl (fun sz o ho => mM_readsStretch l D ct ad S w sz o ho) (cwV 0 E.1.2.2.2.2 (lw_V q2095 q2097 qs58 q119 q2098) rfl rfl rfl (by decide +kernel) hR) rfl hsize rfl hW hdg hf kk
end MK

set_option maxHeartbeats 4000000 in
theorem mM_readsWoman (l : Launch) (D : va_G) (ct : CT) (ad : Nat → Nat) (S : US) (w : Int64) (sz : Nat) (o : (US × Int64)) (ho : sM_readsWoman S w = some o) : Met l yX4_readsWoman (ws_ yX4_readsWoman cX4_readsWoman 2 none) { frames := 4, cells := 0, slots := 0, locals := 97 } (mP D clW ct [.ref (ad (0))] sz (UM D ct ad (fun _ => True) S w)) (mC (none) (UM D ct ad (fun _ => True) o.1 o.2) (uA 31 ad sz)) 0 0 (uA 31 ad sz) := by
  refine X.start (val := fun (o : (US × Int64)) => none) (Bt := fun (o : (US × Int64)) => UM D ct ad (fun _ => True) o.1 o.2) (A := uA 31 ad sz) ho (by decide) (Nat.le_of_ble_eq_true rfl) rfl ?_
  intro p e s m args below meth c E hr hlk hnm hsz hU ls hl
  subst hsz
  obtain ⟨⟨hx, hb, hml, hown, hts⟩, hK, hJ⟩ := id E
  replace hU := hU.to (B := uA 31 ad s.heap.size) (fun i hi => Or.inl ⟨i, hi, rfl⟩)
  have hA0 : ∀ q, s.heap.size ≤ q → (uA 31 ad s.heap.size) q := fun q h => Or.inr h
  have hS : va_S (uA 31 ad s.heap.size) s.heap s.heap [] := va_S.rf
  unfold sM_readsWoman
  refine x_aload_n hx hb dX4_readsWoman_0 rfl (lv_at hl 0 rfl) ?_
  refine gM_newWomen E hU dX4_readsWoman_1 ?_
  refine x_istore_n (lv' := [(1, .int (S 0 25)), (0, .ref (ad (0)))]) hx hb dX4_readsWoman_4 rfl hl (by decide) rfl (fun ls hl => ?_)
  refine x_aload_n hx hb dX4_readsWoman_5 rfl (lv_at hl 1 rfl) ?_
  refine gM_newSkill E hU dX4_readsWoman_6 ?_
  refine x_iload_n hx hb dX4_readsWoman_9 rfl (lv_at hl 0 rfl) ?_
  refine x_aload_n hx hb dX4_readsWoman_10 rfl (lv_at hl 1 rfl) ?_
  refine x_iconst (v := 0) hx hb dX4_readsWoman_11 (by decide) ?_
  refine x_bipush (v := 9) hx hb dX4_readsWoman_12 (by decide) ?_
  refine kM_number E hU hS hA0 ⟨by decide, by decide⟩ hl.1 (Nat.le_of_ble_eq_true rfl) dX4_readsWoman_14 ⟨Nat.le_refl _, Nat.le_refl _⟩ (fun o1 H locs hU hS => ?_)
  refine ux_ast (i := 7) (n := 6) E hU hS (by decide) rfl dX4_readsWoman_17 (fun S2 H locs hU hS => ?_)
  refine x_aload_n hx hb dX4_readsWoman_18 rfl (lv_at hl 1 rfl) ?_
  refine kM_isGood E hU hS hA0 ⟨by decide, by decide⟩ hl.1 (Nat.le_of_ble_eq_true rfl) dX4_readsWoman_19 ⟨Nat.le_refl _, Nat.le_refl _⟩ (fun o3 H locs hU hS => ?_)
  refine x_if_ne (tgt := 26) hx hb dX4_readsWoman_22 (by decide) (fun hc => ?_) (fun hc => ?_)
  · refine x_aload_n hx hb dX4_readsWoman_26 rfl (lv_at hl 1 rfl) ?_
    refine gM_sort E hU dX4_readsWoman_27 ?_
    refine x_iconst (v := 2) hx hb dX4_readsWoman_30 (by decide) ?_
    refine X.join2 (fun (x : US) g H locs => UM D ct ad (uA 31 ad s.heap.size) x o1.2.2 H ∧ va_S (uA 31 ad s.heap.size) s.heap H locs ∧ ∃ ls : Array Slot, g = F0 m 74 ls [] ∧ lv_has ls 2 [(0, .ref (ad (0))), (1, .int (S 0 25))]) ?_ (fun j5 hj5 => ?_)
    · rintro S4 _ H locs ⟨hU, hS, ls, rfl, hl⟩
      refine X.eqs (sp2 := sM_readsWoman_J74 S o1 S4) rfl ?_
      unfold sM_readsWoman_J74
      refine x_aload_n hx hb dX4_readsWoman_74 rfl (lv_at hl 0 rfl) ?_
      refine kM_isGood E hU hS hA0 ⟨by decide, by decide⟩ hl.1 (Nat.le_of_ble_eq_true rfl) dX4_readsWoman_75 ⟨Nat.le_refl _, Nat.le_refl _⟩ (fun o6 H locs hU hS => ?_)
      refine x_if_ne (tgt := 82) hx hb dX4_readsWoman_78 (by decide) (fun hc => ?_) (fun hc => ?_)
      · refine x_aload_n hx hb dX4_readsWoman_82 rfl (lv_at hl 0 rfl) ?_
        refine gM_newRow E hU dX4_readsWoman_83 ?_
        refine x_bipush (v := 37) hx hb dX4_readsWoman_86 (by decide) ?_
        refine x_iload_n hx hb dX4_readsWoman_88 rfl (lv_at hl 1 rfl) ?_
        refine x_iadd hx hb dX4_readsWoman_89 ?_
        refine x_aload_n hx hb dX4_readsWoman_90 rfl (lv_at hl 0 rfl) ?_
        refine gM_value E hU dX4_readsWoman_91 ?_
        refine ux_ast (i := 10) (n := 49) E hU hS (by decide) rfl dX4_readsWoman_94 (fun S7 H locs hU hS => ?_)
        refine x_aload_n hx hb dX4_readsWoman_95 rfl (lv_at hl 0 rfl) ?_
        refine kM_goes E hU hS hA0 ⟨by decide, by decide⟩ hl.1 (Nat.le_of_ble_eq_true rfl) dX4_readsWoman_96 ⟨Nat.le_refl _, Nat.le_refl _⟩ (fun o8 H locs hU hS => ?_)
        refine x_aload_n hx hb dX4_readsWoman_99 rfl (lv_at hl 0 rfl) ?_
        refine gM_newRow E hU dX4_readsWoman_100 ?_
        refine x_bipush (v := 43) hx hb dX4_readsWoman_103 (by decide) ?_
        refine x_iload_n hx hb dX4_readsWoman_105 rfl (lv_at hl 1 rfl) ?_
        refine x_iadd hx hb dX4_readsWoman_106 ?_
        refine x_aload_n hx hb dX4_readsWoman_107 rfl (lv_at hl 0 rfl) ?_
        refine x_iconst (v := 0) hx hb dX4_readsWoman_108 (by decide) ?_
        refine x_bipush (v := 99) hx hb dX4_readsWoman_109 (by decide) ?_
        refine kM_number E hU hS hA0 ⟨by decide, by decide⟩ hl.1 (Nat.le_of_ble_eq_true rfl) dX4_readsWoman_111 ⟨Nat.le_refl _, Nat.le_refl _⟩ (fun o9 H locs hU hS => ?_)
        refine ux_ast (i := 10) (n := 49) E hU hS (by decide) rfl dX4_readsWoman_114 (fun S10 H locs hU hS => ?_)
        refine x_aload_n hx hb dX4_readsWoman_115 rfl (lv_at hl 0 rfl) ?_
        refine kM_isGood E hU hS hA0 ⟨by decide, by decide⟩ hl.1 (Nat.le_of_ble_eq_true rfl) dX4_readsWoman_116 ⟨Nat.le_refl _, Nat.le_refl _⟩ (fun o11 H locs hU hS => ?_)
        refine x_if_eq (tgt := 132) hx hb dX4_readsWoman_119 (by decide) (fun hc => ?_) (fun hc => ?_)
        · exact x_vret hx hb hr hlk hS rfl (hU.to fun _ _ => trivial) dX4_readsWoman_132
        · refine x_aload_n hx hb dX4_readsWoman_122 rfl (lv_at hl 0 rfl) ?_
          refine x_dup hx hb dX4_readsWoman_123 rfl ?_
          refine gM_newWomen E hU dX4_readsWoman_124 ?_
          refine x_iconst (v := 1) hx hb dX4_readsWoman_127 (by decide) ?_
          refine x_iadd hx hb dX4_readsWoman_128 ?_
          refine pM_newWomen E hU hS dX4_readsWoman_129 (fun S12 H locs hU hS => ?_)
          exact x_vret hx hb hr hlk hS rfl (hU.to fun _ _ => trivial) dX4_readsWoman_132
      · exact x_vret hx hb hr hlk hS rfl (hU.to fun _ _ => trivial) dX4_readsWoman_81
    · refine x_icmp_eq (tgt := 42) hx hb dX4_readsWoman_31 (by decide) (fun hc => ?_) (fun hc => ?_)
      · refine x_aload_n hx hb dX4_readsWoman_42 rfl (lv_at hl 1 rfl) ?_
        refine gM_long0 E hU dX4_readsWoman_43 ?_
        refine x_iconst (v := 4) hx hb dX4_readsWoman_46 (by decide) ?_
        refine x_icmp_le (tgt := 58) hx hb dX4_readsWoman_47 (by decide) (fun hc => ?_) (fun hc => ?_)
        · refine x_aload_n hx hb dX4_readsWoman_58 rfl (lv_at hl 1 rfl) ?_
          refine gM_value E hU dX4_readsWoman_59 ?_
          refine x_aload_n hx hb dX4_readsWoman_62 rfl (lv_at hl 1 rfl) ?_
          refine gM_newMany E hU dX4_readsWoman_63 ?_
          refine x_icmp_lt (tgt := 74) hx hb dX4_readsWoman_66 (by decide) (fun hc => ?_) (fun hc => ?_)
          · exact hj5 S2 _ _ _ ⟨hU, hS, _, rfl, lv_sub hl [1, 0] rfl⟩
          · refine x_aload_n hx hb dX4_readsWoman_69 rfl (lv_at hl 1 rfl) ?_
            refine x_iconst (v := 3) hx hb dX4_readsWoman_70 (by decide) ?_
            refine kM_wrong E hU hS hA0 ⟨by decide, by decide⟩ hl.1 (Nat.le_of_ble_eq_true rfl) dX4_readsWoman_71 ⟨Nat.le_refl _, Nat.le_refl _⟩ (fun o13 H locs hU hS => ?_)
            exact hj5 o13 _ _ _ ⟨hU, hS, _, rfl, lv_sub hl [1, 0] rfl⟩
        · refine x_aload_n hx hb dX4_readsWoman_50 rfl (lv_at hl 1 rfl) ?_
          refine x_iconst (v := 2) hx hb dX4_readsWoman_51 (by decide) ?_
          refine kM_wrong E hU hS hA0 ⟨by decide, by decide⟩ hl.1 (Nat.le_of_ble_eq_true rfl) dX4_readsWoman_52 ⟨Nat.le_refl _, Nat.le_refl _⟩ (fun o14 H locs hU hS => ?_)
          refine x_goto (tgt := 74) hx hb dX4_readsWoman_55 (by decide) ?_
          exact hj5 o14 _ _ _ ⟨hU, hS, _, rfl, lv_sub hl [1, 0] rfl⟩
      · refine x_aload_n hx hb dX4_readsWoman_34 rfl (lv_at hl 1 rfl) ?_
        refine x_iconst (v := 1) hx hb dX4_readsWoman_35 (by decide) ?_
        refine kM_wrong E hU hS hA0 ⟨by decide, by decide⟩ hl.1 (Nat.le_of_ble_eq_true rfl) dX4_readsWoman_36 ⟨Nat.le_refl _, Nat.le_refl _⟩ (fun o15 H locs hU hS => ?_)
        refine x_goto (tgt := 74) hx hb dX4_readsWoman_39 (by decide) ?_
        exact hj5 o15 _ _ _ ⟨hU, hS, _, rfl, lv_sub hl [1, 0] rfl⟩
  · exact x_vret hx hb hr hlk hS rfl (hU.to fun _ _ => trivial) dX4_readsWoman_25
section MK
variable {ρ : Type} {p : Program} {l : Launch} {e : Env} {R : Room} {s : State} {m : MethodId} {args : Array Value} {below : List Frame} {meth : Method} {c : Code} {H : Heap} {locs : List Loc} {cells slots : Nat} {Qf : ρ → State → Prop}
variable {cc : ByteArray} {pc nL : Nat} {ls : Array Slot} {rest : List Value}
variable {D : va_G} {ct : CT} {ad : Nat → Nat} {A A0 : Nat → Prop} {S : US} {w : Int64} {H0 : Heap}
theorem kM_readsWoman (E : ME p m c cc nL s args RX4 D clW ct) (hU : UM D ct ad A S w H) (hS : va_S A H0 H locs) (hA0 : ∀ q, H0.size ≤ q → A q) (hR : 4 + 1 ≤ R.frames ∧ 8 + (2 + 11) + 97 ≤ R.locals) (hsize : ls.size = nL) (hW : (rest.map fun v => v.category).sum ≤ 8) (hdg : decode cc pc = .ok (.invokevirtual 256, 3)) (hf : cells ≤ R.cells ∧ slots ≤ R.slots) {kp : (US × Int64) → Option ρ} (kk : ∀ (o : (US × Int64)) (H1 : Heap) (locs1 : List Loc), UM D ct ad A o.1 o.2 H1 → va_S A H0 H1 locs1 → X p l e R s m args below meth c H1 locs1 cells slots Qf (kp o) (F0 m (pc + 3) ls (rest))) : X p l e R s m args below meth c H locs cells slots Qf (callK (sM_readsWoman S w) kp) (F0 m pc ls (.ref (ad 0) :: rest)) := ucV_mod (i := 0) (So := fun (o : (US × Int64)) => o.1) (wo := fun (o : (US × Int64)) => o.2) (As := []) E hU hS hA0 (by decide) rfl rfl (fun sz o ho => mM_readsWoman l D ct ad S w sz o ho) (cwV 0 E.1.2.2.2.2 (lw_V q2103 q2105 qs60 q119 q2106) rfl rfl rfl (by decide +kernel) hR) rfl hsize rfl hW hdg hf kk
end MK

set_option maxHeartbeats 4000000 in
theorem mM_line (l : Launch) (D : va_G) (ct : CT) (ad : Nat → Nat) (S : US) (w : Int64) (sz : Nat) (o : (US × Int64)) (ho : sM_line S w = some o) : Met l yX4_line (ws_ yX4_line cX4_line 2 none) { frames := 7, cells := 0, slots := 0, locals := 168 } (mP D clW ct [.ref (ad (0))] sz (UM D ct ad (fun _ => True) S w)) (mC (none) (UM D ct ad (fun _ => True) o.1 o.2) (uA 31 ad sz)) 0 0 (uA 31 ad sz) := by
  refine X.start (val := fun (o : (US × Int64)) => none) (Bt := fun (o : (US × Int64)) => UM D ct ad (fun _ => True) o.1 o.2) (A := uA 31 ad sz) ho (by decide) (Nat.le_of_ble_eq_true rfl) rfl ?_
  intro p e s m args below meth c E hr hlk hnm hsz hU ls hl
  subst hsz
  obtain ⟨⟨hx, hb, hml, hown, hts⟩, hK, hJ⟩ := id E
  replace hU := hU.to (B := uA 31 ad s.heap.size) (fun i hi => Or.inl ⟨i, hi, rfl⟩)
  have hA0 : ∀ q, s.heap.size ≤ q → (uA 31 ad s.heap.size) q := fun q h => Or.inr h
  have hS : va_S (uA 31 ad s.heap.size) s.heap s.heap [] := va_S.rf
  unfold sM_line
  refine x_aload_n hx hb dX4_line_0 rfl (lv_at hl 0 rfl) ?_
  refine kM_knownWord E hU hS hA0 ⟨by decide, by decide⟩ hl.1 (Nat.le_of_ble_eq_true rfl) dX4_line_1 ⟨Nat.le_refl _, Nat.le_refl _⟩ (fun o1 H locs hU hS => ?_)
  refine x_istore_n (lv' := [(1, .int o1), (0, .ref (ad (0)))]) hx hb dX4_line_4 rfl hl (by decide) rfl (fun ls hl => ?_)
  refine x_iload_n hx hb dX4_line_5 rfl (lv_at hl 0 rfl) ?_
  refine x_bipush (v := 6) hx hb dX4_line_6 (by decide) ?_
  refine x_icmp_ne (tgt := 40) hx hb dX4_line_8 (by decide) (fun hc => ?_) (fun hc => ?_)
  · refine x_iload_n hx hb dX4_line_40 rfl (lv_at hl 0 rfl) ?_
    refine x_bipush (v := 7) hx hb dX4_line_41 (by decide) ?_
    refine x_icmp_ne (tgt := 75) hx hb dX4_line_43 (by decide) (fun hc => ?_) (fun hc => ?_)
    · refine x_iload_n hx hb dX4_line_75 rfl (lv_at hl 0 rfl) ?_
      refine x_bipush (v := 8) hx hb dX4_line_76 (by decide) ?_
      refine x_icmp_ne (tgt := 108) hx hb dX4_line_78 (by decide) (fun hc => ?_) (fun hc => ?_)
      · refine x_iload_n hx hb dX4_line_108 rfl (lv_at hl 0 rfl) ?_
        refine x_bipush (v := 9) hx hb dX4_line_109 (by decide) ?_
        refine x_icmp_ne (tgt := 149) hx hb dX4_line_111 (by decide) (fun hc => ?_) (fun hc => ?_)
        · refine x_iload_n hx hb dX4_line_149 rfl (lv_at hl 0 rfl) ?_
          refine x_bipush (v := 10) hx hb dX4_line_150 (by decide) ?_
          refine x_icmp_ne (tgt := 191) hx hb dX4_line_152 (by decide) (fun hc => ?_) (fun hc => ?_)
          · refine x_iload_n hx hb dX4_line_191 rfl (lv_at hl 0 rfl) ?_
            refine x_bipush (v := 11) hx hb dX4_line_192 (by decide) ?_
            refine x_icmp_ne (tgt := 233) hx hb dX4_line_194 (by decide) (fun hc => ?_) (fun hc => ?_)
            · refine x_aload_n hx hb dX4_line_233 rfl (lv_at hl 1 rfl) ?_
              refine x_iconst (v := 1) hx hb dX4_line_234 (by decide) ?_
              refine kM_wrong E hU hS hA0 ⟨by decide, by decide⟩ hl.1 (Nat.le_of_ble_eq_true rfl) dX4_line_235 ⟨Nat.le_refl _, Nat.le_refl _⟩ (fun o2 H locs hU hS => ?_)
              refine x_aload_n hx hb dX4_line_238 rfl (lv_at hl 1 rfl) ?_
              refine x_aload_n hx hb dX4_line_239 rfl (lv_at hl 1 rfl) ?_
              refine x_bipush (v := 59) hx hb dX4_line_240 (by decide) ?_
              refine kM_isSign E hU hS hA0 ⟨by decide, by decide⟩ hl.1 (Nat.le_of_ble_eq_true rfl) dX4_line_242 ⟨Nat.le_refl _, Nat.le_refl _⟩ (fun o3 H locs hU hS => ?_)
              refine kM_need E hU hS hA0 ⟨by decide, by decide⟩ hl.1 (Nat.le_of_ble_eq_true rfl) dX4_line_245 ⟨Nat.le_refl _, Nat.le_refl _⟩ (fun o4 H locs hU hS => ?_)
              exact x_vret hx hb hr hlk hS rfl (hU.to fun _ _ => trivial) dX4_line_248
            · refine x_aload_n hx hb dX4_line_197 rfl (lv_at hl 1 rfl) ?_
              refine x_iconst (v := 0) hx hb dX4_line_198 (by decide) ?_
              refine x_aload_n hx hb dX4_line_199 rfl (lv_at hl 1 rfl) ?_
              refine gM_newPullsAt E hU dX4_line_200 ?_
              refine x_iconst (v := -1) hx hb dX4_line_203 (by decide) ?_
              refine X.join2 (fun (x : Int32) g H locs => UM D ct ad (uA 31 ad s.heap.size) S w H ∧ va_S (uA 31 ad s.heap.size) s.heap H locs ∧ ∃ ls : Array Slot, g = F0 m 212 ls [.int x, .int (0 : Int32), .ref (ad (0))] ∧ lv_has ls 2 [(0, .ref (ad (0)))]) ?_ (fun j6 hj6 => ?_)
              · rintro y5 _ H locs ⟨hU, hS, ls, rfl, hl⟩
                refine X.eqs (sp2 := sM_line_J212 S w y5) rfl ?_
                unfold sM_line_J212
                refine kM_begins E hU hS hA0 ⟨by decide, by decide⟩ hl.1 (Nat.le_of_ble_eq_true rfl) dX4_line_212 ⟨Nat.le_refl _, Nat.le_refl _⟩ (fun o7 H locs hU hS => ?_)
                refine x_if_eq (tgt := 238) hx hb dX4_line_215 (by decide) (fun hc => ?_) (fun hc => ?_)
                · refine x_aload_n hx hb dX4_line_238 rfl (lv_at hl 0 rfl) ?_
                  refine x_aload_n hx hb dX4_line_239 rfl (lv_at hl 0 rfl) ?_
                  refine x_bipush (v := 59) hx hb dX4_line_240 (by decide) ?_
                  refine kM_isSign E hU hS hA0 ⟨by decide, by decide⟩ hl.1 (Nat.le_of_ble_eq_true rfl) dX4_line_242 ⟨Nat.le_refl _, Nat.le_refl _⟩ (fun o8 H locs hU hS => ?_)
                  refine kM_need E hU hS hA0 ⟨by decide, by decide⟩ hl.1 (Nat.le_of_ble_eq_true rfl) dX4_line_245 ⟨Nat.le_refl _, Nat.le_refl _⟩ (fun o9 H locs hU hS => ?_)
                  exact x_vret hx hb hr hlk hS rfl (hU.to fun _ _ => trivial) dX4_line_248
                · refine x_aload_n hx hb dX4_line_218 rfl (lv_at hl 0 rfl) ?_
                  refine x_aload_n hx hb dX4_line_219 rfl (lv_at hl 0 rfl) ?_
                  refine gM_top E hU dX4_line_220 ?_
                  refine pM_newPullsAt E hU hS dX4_line_223 (fun S10 H locs hU hS => ?_)
                  refine x_aload_n hx hb dX4_line_226 rfl (lv_at hl 0 rfl) ?_
                  refine kM_expression E hU hS hA0 ⟨by decide, by decide⟩ hl.1 (Nat.le_of_ble_eq_true rfl) dX4_line_227 ⟨Nat.le_refl _, Nat.le_refl _⟩ (fun o11 H locs hU hS => ?_)
                  refine x_goto (tgt := 238) hx hb dX4_line_230 (by decide) ?_
                  refine x_aload_n hx hb dX4_line_238 rfl (lv_at hl 0 rfl) ?_
                  refine x_aload_n hx hb dX4_line_239 rfl (lv_at hl 0 rfl) ?_
                  refine x_bipush (v := 59) hx hb dX4_line_240 (by decide) ?_
                  refine kM_isSign E hU hS hA0 ⟨by decide, by decide⟩ hl.1 (Nat.le_of_ble_eq_true rfl) dX4_line_242 ⟨Nat.le_refl _, Nat.le_refl _⟩ (fun o12 H locs hU hS => ?_)
                  refine kM_need E hU hS hA0 ⟨by decide, by decide⟩ hl.1 (Nat.le_of_ble_eq_true rfl) dX4_line_245 ⟨Nat.le_refl _, Nat.le_refl _⟩ (fun o13 H locs hU hS => ?_)
                  exact x_vret hx hb hr hlk hS rfl (hU.to fun _ _ => trivial) dX4_line_248
              · refine x_icmp_eq (tgt := 211) hx hb dX4_line_204 (by decide) (fun hc => ?_) (fun hc => ?_)
                · refine x_iconst (v := 0) hx hb dX4_line_211 (by decide) ?_
                  exact hj6 (0 : Int32) _ _ _ ⟨hU, hS, _, rfl, lv_sub hl [1] rfl⟩
                · refine x_iconst (v := 1) hx hb dX4_line_207 (by decide) ?_
                  refine x_goto (tgt := 212) hx hb dX4_line_208 (by decide) ?_
                  exact hj6 (1 : Int32) _ _ _ ⟨hU, hS, _, rfl, lv_sub hl [1] rfl⟩
          · refine x_aload_n hx hb dX4_line_155 rfl (lv_at hl 1 rfl) ?_
            refine x_iconst (v := 0) hx hb dX4_line_156 (by decide) ?_
            refine x_aload_n hx hb dX4_line_157 rfl (lv_at hl 1 rfl) ?_
            refine gM_newFraysAt E hU dX4_line_158 ?_
            refine x_iconst (v := -1) hx hb dX4_line_161 (by decide) ?_
            refine X.join2 (fun (x : Int32) g H locs => UM D ct ad (uA 31 ad s.heap.size) S w H ∧ va_S (uA 31 ad s.heap.size) s.heap H locs ∧ ∃ ls : Array Slot, g = F0 m 170 ls [.int x, .int (0 : Int32), .ref (ad (0))] ∧ lv_has ls 2 [(0, .ref (ad (0)))]) ?_ (fun j15 hj15 => ?_)
            · rintro y14 _ H locs ⟨hU, hS, ls, rfl, hl⟩
              refine X.eqs (sp2 := sM_line_J170 S w y14) rfl ?_
              unfold sM_line_J170
              refine kM_begins E hU hS hA0 ⟨by decide, by decide⟩ hl.1 (Nat.le_of_ble_eq_true rfl) dX4_line_170 ⟨Nat.le_refl _, Nat.le_refl _⟩ (fun o16 H locs hU hS => ?_)
              refine x_if_eq (tgt := 238) hx hb dX4_line_173 (by decide) (fun hc => ?_) (fun hc => ?_)
              · refine x_aload_n hx hb dX4_line_238 rfl (lv_at hl 0 rfl) ?_
                refine x_aload_n hx hb dX4_line_239 rfl (lv_at hl 0 rfl) ?_
                refine x_bipush (v := 59) hx hb dX4_line_240 (by decide) ?_
                refine kM_isSign E hU hS hA0 ⟨by decide, by decide⟩ hl.1 (Nat.le_of_ble_eq_true rfl) dX4_line_242 ⟨Nat.le_refl _, Nat.le_refl _⟩ (fun o17 H locs hU hS => ?_)
                refine kM_need E hU hS hA0 ⟨by decide, by decide⟩ hl.1 (Nat.le_of_ble_eq_true rfl) dX4_line_245 ⟨Nat.le_refl _, Nat.le_refl _⟩ (fun o18 H locs hU hS => ?_)
                exact x_vret hx hb hr hlk hS rfl (hU.to fun _ _ => trivial) dX4_line_248
              · refine x_aload_n hx hb dX4_line_176 rfl (lv_at hl 0 rfl) ?_
                refine x_aload_n hx hb dX4_line_177 rfl (lv_at hl 0 rfl) ?_
                refine gM_top E hU dX4_line_178 ?_
                refine pM_newFraysAt E hU hS dX4_line_181 (fun S19 H locs hU hS => ?_)
                refine x_aload_n hx hb dX4_line_184 rfl (lv_at hl 0 rfl) ?_
                refine kM_expression E hU hS hA0 ⟨by decide, by decide⟩ hl.1 (Nat.le_of_ble_eq_true rfl) dX4_line_185 ⟨Nat.le_refl _, Nat.le_refl _⟩ (fun o20 H locs hU hS => ?_)
                refine x_goto (tgt := 238) hx hb dX4_line_188 (by decide) ?_
                refine x_aload_n hx hb dX4_line_238 rfl (lv_at hl 0 rfl) ?_
                refine x_aload_n hx hb dX4_line_239 rfl (lv_at hl 0 rfl) ?_
                refine x_bipush (v := 59) hx hb dX4_line_240 (by decide) ?_
                refine kM_isSign E hU hS hA0 ⟨by decide, by decide⟩ hl.1 (Nat.le_of_ble_eq_true rfl) dX4_line_242 ⟨Nat.le_refl _, Nat.le_refl _⟩ (fun o21 H locs hU hS => ?_)
                refine kM_need E hU hS hA0 ⟨by decide, by decide⟩ hl.1 (Nat.le_of_ble_eq_true rfl) dX4_line_245 ⟨Nat.le_refl _, Nat.le_refl _⟩ (fun o22 H locs hU hS => ?_)
                exact x_vret hx hb hr hlk hS rfl (hU.to fun _ _ => trivial) dX4_line_248
            · refine x_icmp_eq (tgt := 169) hx hb dX4_line_162 (by decide) (fun hc => ?_) (fun hc => ?_)
              · refine x_iconst (v := 0) hx hb dX4_line_169 (by decide) ?_
                exact hj15 (0 : Int32) _ _ _ ⟨hU, hS, _, rfl, lv_sub hl [1] rfl⟩
              · refine x_iconst (v := 1) hx hb dX4_line_165 (by decide) ?_
                refine x_goto (tgt := 170) hx hb dX4_line_166 (by decide) ?_
                exact hj15 (1 : Int32) _ _ _ ⟨hU, hS, _, rfl, lv_sub hl [1] rfl⟩
        · refine x_aload_n hx hb dX4_line_114 rfl (lv_at hl 1 rfl) ?_
          refine x_iconst (v := 0) hx hb dX4_line_115 (by decide) ?_
          refine x_aload_n hx hb dX4_line_116 rfl (lv_at hl 1 rfl) ?_
          refine gM_newWeek E hU dX4_line_117 ?_
          refine x_iconst (v := -1) hx hb dX4_line_120 (by decide) ?_
          refine X.join2 (fun (x : Int32) g H locs => UM D ct ad (uA 31 ad s.heap.size) S w H ∧ va_S (uA 31 ad s.heap.size) s.heap H locs ∧ ∃ ls : Array Slot, g = F0 m 129 ls [.int x, .int (0 : Int32), .ref (ad (0))] ∧ lv_has ls 2 [(0, .ref (ad (0)))]) ?_ (fun j24 hj24 => ?_)
          · rintro y23 _ H locs ⟨hU, hS, ls, rfl, hl⟩
            refine X.eqs (sp2 := sM_line_J129 S w y23) rfl ?_
            unfold sM_line_J129
            refine kM_begins E hU hS hA0 ⟨by decide, by decide⟩ hl.1 (Nat.le_of_ble_eq_true rfl) dX4_line_129 ⟨Nat.le_refl _, Nat.le_refl _⟩ (fun o25 H locs hU hS => ?_)
            refine x_if_eq (tgt := 238) hx hb dX4_line_132 (by decide) (fun hc => ?_) (fun hc => ?_)
            · refine x_aload_n hx hb dX4_line_238 rfl (lv_at hl 0 rfl) ?_
              refine x_aload_n hx hb dX4_line_239 rfl (lv_at hl 0 rfl) ?_
              refine x_bipush (v := 59) hx hb dX4_line_240 (by decide) ?_
              refine kM_isSign E hU hS hA0 ⟨by decide, by decide⟩ hl.1 (Nat.le_of_ble_eq_true rfl) dX4_line_242 ⟨Nat.le_refl _, Nat.le_refl _⟩ (fun o26 H locs hU hS => ?_)
              refine kM_need E hU hS hA0 ⟨by decide, by decide⟩ hl.1 (Nat.le_of_ble_eq_true rfl) dX4_line_245 ⟨Nat.le_refl _, Nat.le_refl _⟩ (fun o27 H locs hU hS => ?_)
              exact x_vret hx hb hr hlk hS rfl (hU.to fun _ _ => trivial) dX4_line_248
            · refine x_aload_n hx hb dX4_line_135 rfl (lv_at hl 0 rfl) ?_
              refine x_aload_n hx hb dX4_line_136 rfl (lv_at hl 0 rfl) ?_
              refine x_iconst (v := 1) hx hb dX4_line_137 (by decide) ?_
              refine x_bipush (v := 9) hx hb dX4_line_138 (by decide) ?_
              refine kM_number E hU hS hA0 ⟨by decide, by decide⟩ hl.1 (Nat.le_of_ble_eq_true rfl) dX4_line_140 ⟨Nat.le_refl _, Nat.le_refl _⟩ (fun o28 H locs hU hS => ?_)
              refine pM_newWeek E hU hS dX4_line_143 (fun S29 H locs hU hS => ?_)
              refine x_goto (tgt := 238) hx hb dX4_line_146 (by decide) ?_
              refine x_aload_n hx hb dX4_line_238 rfl (lv_at hl 0 rfl) ?_
              refine x_aload_n hx hb dX4_line_239 rfl (lv_at hl 0 rfl) ?_
              refine x_bipush (v := 59) hx hb dX4_line_240 (by decide) ?_
              refine kM_isSign E hU hS hA0 ⟨by decide, by decide⟩ hl.1 (Nat.le_of_ble_eq_true rfl) dX4_line_242 ⟨Nat.le_refl _, Nat.le_refl _⟩ (fun o30 H locs hU hS => ?_)
              refine kM_need E hU hS hA0 ⟨by decide, by decide⟩ hl.1 (Nat.le_of_ble_eq_true rfl) dX4_line_245 ⟨Nat.le_refl _, Nat.le_refl _⟩ (fun o31 H locs hU hS => ?_)
              exact x_vret hx hb hr hlk hS rfl (hU.to fun _ _ => trivial) dX4_line_248
          · refine x_icmp_eq (tgt := 128) hx hb dX4_line_121 (by decide) (fun hc => ?_) (fun hc => ?_)
            · refine x_iconst (v := 0) hx hb dX4_line_128 (by decide) ?_
              exact hj24 (0 : Int32) _ _ _ ⟨hU, hS, _, rfl, lv_sub hl [1] rfl⟩
            · refine x_iconst (v := 1) hx hb dX4_line_124 (by decide) ?_
              refine x_goto (tgt := 129) hx hb dX4_line_125 (by decide) ?_
              exact hj24 (1 : Int32) _ _ _ ⟨hU, hS, _, rfl, lv_sub hl [1] rfl⟩
      · refine x_aload_n hx hb dX4_line_81 rfl (lv_at hl 1 rfl) ?_
        refine x_iconst (v := 0) hx hb dX4_line_82 (by decide) ?_
        refine x_aload_n hx hb dX4_line_83 rfl (lv_at hl 1 rfl) ?_
        refine gM_newKnots E hU dX4_line_84 ?_
        refine X.join2 (fun (x : Int32) g H locs => UM D ct ad (uA 31 ad s.heap.size) S w H ∧ va_S (uA 31 ad s.heap.size) s.heap H locs ∧ ∃ ls : Array Slot, g = F0 m 95 ls [.int x, .int (0 : Int32), .ref (ad (0))] ∧ lv_has ls 2 [(0, .ref (ad (0)))]) ?_ (fun j33 hj33 => ?_)
        · rintro y32 _ H locs ⟨hU, hS, ls, rfl, hl⟩
          refine X.eqs (sp2 := sM_line_J95 S w y32) rfl ?_
          unfold sM_line_J95
          refine kM_begins E hU hS hA0 ⟨by decide, by decide⟩ hl.1 (Nat.le_of_ble_eq_true rfl) dX4_line_95 ⟨Nat.le_refl _, Nat.le_refl _⟩ (fun o34 H locs hU hS => ?_)
          refine x_if_eq (tgt := 238) hx hb dX4_line_98 (by decide) (fun hc => ?_) (fun hc => ?_)
          · refine x_aload_n hx hb dX4_line_238 rfl (lv_at hl 0 rfl) ?_
            refine x_aload_n hx hb dX4_line_239 rfl (lv_at hl 0 rfl) ?_
            refine x_bipush (v := 59) hx hb dX4_line_240 (by decide) ?_
            refine kM_isSign E hU hS hA0 ⟨by decide, by decide⟩ hl.1 (Nat.le_of_ble_eq_true rfl) dX4_line_242 ⟨Nat.le_refl _, Nat.le_refl _⟩ (fun o35 H locs hU hS => ?_)
            refine kM_need E hU hS hA0 ⟨by decide, by decide⟩ hl.1 (Nat.le_of_ble_eq_true rfl) dX4_line_245 ⟨Nat.le_refl _, Nat.le_refl _⟩ (fun o36 H locs hU hS => ?_)
            exact x_vret hx hb hr hlk hS rfl (hU.to fun _ _ => trivial) dX4_line_248
          · refine x_aload_n hx hb dX4_line_101 rfl (lv_at hl 0 rfl) ?_
            refine kM_readsKnots E hU hS hA0 ⟨by decide, by decide⟩ hl.1 (Nat.le_of_ble_eq_true rfl) dX4_line_102 ⟨Nat.le_refl _, Nat.le_refl _⟩ (fun o37 H locs hU hS => ?_)
            refine x_goto (tgt := 238) hx hb dX4_line_105 (by decide) ?_
            refine x_aload_n hx hb dX4_line_238 rfl (lv_at hl 0 rfl) ?_
            refine x_aload_n hx hb dX4_line_239 rfl (lv_at hl 0 rfl) ?_
            refine x_bipush (v := 59) hx hb dX4_line_240 (by decide) ?_
            refine kM_isSign E hU hS hA0 ⟨by decide, by decide⟩ hl.1 (Nat.le_of_ble_eq_true rfl) dX4_line_242 ⟨Nat.le_refl _, Nat.le_refl _⟩ (fun o38 H locs hU hS => ?_)
            refine kM_need E hU hS hA0 ⟨by decide, by decide⟩ hl.1 (Nat.le_of_ble_eq_true rfl) dX4_line_245 ⟨Nat.le_refl _, Nat.le_refl _⟩ (fun o39 H locs hU hS => ?_)
            exact x_vret hx hb hr hlk hS rfl (hU.to fun _ _ => trivial) dX4_line_248
        · refine x_if_le (tgt := 94) hx hb dX4_line_87 (by decide) (fun hc => ?_) (fun hc => ?_)
          · refine x_iconst (v := 0) hx hb dX4_line_94 (by decide) ?_
            exact hj33 (0 : Int32) _ _ _ ⟨hU, hS, _, rfl, lv_sub hl [1] rfl⟩
          · refine x_iconst (v := 1) hx hb dX4_line_90 (by decide) ?_
            refine x_goto (tgt := 95) hx hb dX4_line_91 (by decide) ?_
            exact hj33 (1 : Int32) _ _ _ ⟨hU, hS, _, rfl, lv_sub hl [1] rfl⟩
    · refine x_aload_n hx hb dX4_line_46 rfl (lv_at hl 1 rfl) ?_
      refine x_aload_n hx hb dX4_line_47 rfl (lv_at hl 1 rfl) ?_
      refine gM_newWomen E hU dX4_line_48 ?_
      refine x_bipush (v := 6) hx hb dX4_line_51 (by decide) ?_
      refine X.join2 (fun (x : Int32) g H locs => UM D ct ad (uA 31 ad s.heap.size) S w H ∧ va_S (uA 31 ad s.heap.size) s.heap H locs ∧ ∃ ls : Array Slot, g = F0 m 61 ls [.int x, .ref (ad (0))] ∧ lv_has ls 2 [(0, .ref (ad (0)))]) ?_ (fun j41 hj41 => ?_)
      · rintro y40 _ H locs ⟨hU, hS, ls, rfl, hl⟩
        refine X.eqs (sp2 := sM_line_J61 S w y40) rfl ?_
        unfold sM_line_J61
        refine x_iconst (v := 0) hx hb dX4_line_61 (by decide) ?_
        refine kM_begins E hU hS hA0 ⟨by decide, by decide⟩ hl.1 (Nat.le_of_ble_eq_true rfl) dX4_line_62 ⟨Nat.le_refl _, Nat.le_refl _⟩ (fun o42 H locs hU hS => ?_)
        refine x_if_eq (tgt := 238) hx hb dX4_line_65 (by decide) (fun hc => ?_) (fun hc => ?_)
        · refine x_aload_n hx hb dX4_line_238 rfl (lv_at hl 0 rfl) ?_
          refine x_aload_n hx hb dX4_line_239 rfl (lv_at hl 0 rfl) ?_
          refine x_bipush (v := 59) hx hb dX4_line_240 (by decide) ?_
          refine kM_isSign E hU hS hA0 ⟨by decide, by decide⟩ hl.1 (Nat.le_of_ble_eq_true rfl) dX4_line_242 ⟨Nat.le_refl _, Nat.le_refl _⟩ (fun o43 H locs hU hS => ?_)
          refine kM_need E hU hS hA0 ⟨by decide, by decide⟩ hl.1 (Nat.le_of_ble_eq_true rfl) dX4_line_245 ⟨Nat.le_refl _, Nat.le_refl _⟩ (fun o44 H locs hU hS => ?_)
          exact x_vret hx hb hr hlk hS rfl (hU.to fun _ _ => trivial) dX4_line_248
        · refine x_aload_n hx hb dX4_line_68 rfl (lv_at hl 0 rfl) ?_
          refine kM_readsWoman E hU hS hA0 ⟨by decide, by decide⟩ hl.1 (Nat.le_of_ble_eq_true rfl) dX4_line_69 ⟨Nat.le_refl _, Nat.le_refl _⟩ (fun o45 H locs hU hS => ?_)
          refine x_goto (tgt := 238) hx hb dX4_line_72 (by decide) ?_
          refine x_aload_n hx hb dX4_line_238 rfl (lv_at hl 0 rfl) ?_
          refine x_aload_n hx hb dX4_line_239 rfl (lv_at hl 0 rfl) ?_
          refine x_bipush (v := 59) hx hb dX4_line_240 (by decide) ?_
          refine kM_isSign E hU hS hA0 ⟨by decide, by decide⟩ hl.1 (Nat.le_of_ble_eq_true rfl) dX4_line_242 ⟨Nat.le_refl _, Nat.le_refl _⟩ (fun o46 H locs hU hS => ?_)
          refine kM_need E hU hS hA0 ⟨by decide, by decide⟩ hl.1 (Nat.le_of_ble_eq_true rfl) dX4_line_245 ⟨Nat.le_refl _, Nat.le_refl _⟩ (fun o47 H locs hU hS => ?_)
          exact x_vret hx hb hr hlk hS rfl (hU.to fun _ _ => trivial) dX4_line_248
      · refine x_icmp_ne (tgt := 60) hx hb dX4_line_53 (by decide) (fun hc => ?_) (fun hc => ?_)
        · refine x_iconst (v := 0) hx hb dX4_line_60 (by decide) ?_
          exact hj41 (0 : Int32) _ _ _ ⟨hU, hS, _, rfl, lv_sub hl [1] rfl⟩
        · refine x_iconst (v := 1) hx hb dX4_line_56 (by decide) ?_
          refine x_goto (tgt := 61) hx hb dX4_line_57 (by decide) ?_
          exact hj41 (1 : Int32) _ _ _ ⟨hU, hS, _, rfl, lv_sub hl [1] rfl⟩
  · refine x_aload_n hx hb dX4_line_11 rfl (lv_at hl 1 rfl) ?_
    refine x_aload_n hx hb dX4_line_12 rfl (lv_at hl 1 rfl) ?_
    refine gM_newMany E hU dX4_line_13 ?_
    refine x_bipush (v := 12) hx hb dX4_line_16 (by decide) ?_
    refine X.join2 (fun (x : Int32) g H locs => UM D ct ad (uA 31 ad s.heap.size) S w H ∧ va_S (uA 31 ad s.heap.size) s.heap H locs ∧ ∃ ls : Array Slot, g = F0 m 26 ls [.int x, .ref (ad (0))] ∧ lv_has ls 2 [(0, .ref (ad (0)))]) ?_ (fun j49 hj49 => ?_)
    · rintro y48 _ H locs ⟨hU, hS, ls, rfl, hl⟩
      refine X.eqs (sp2 := sM_line_J26 S w y48) rfl ?_
      unfold sM_line_J26
      refine x_iconst (v := 0) hx hb dX4_line_26 (by decide) ?_
      refine kM_begins E hU hS hA0 ⟨by decide, by decide⟩ hl.1 (Nat.le_of_ble_eq_true rfl) dX4_line_27 ⟨Nat.le_refl _, Nat.le_refl _⟩ (fun o50 H locs hU hS => ?_)
      refine x_if_eq (tgt := 238) hx hb dX4_line_30 (by decide) (fun hc => ?_) (fun hc => ?_)
      · refine x_aload_n hx hb dX4_line_238 rfl (lv_at hl 0 rfl) ?_
        refine x_aload_n hx hb dX4_line_239 rfl (lv_at hl 0 rfl) ?_
        refine x_bipush (v := 59) hx hb dX4_line_240 (by decide) ?_
        refine kM_isSign E hU hS hA0 ⟨by decide, by decide⟩ hl.1 (Nat.le_of_ble_eq_true rfl) dX4_line_242 ⟨Nat.le_refl _, Nat.le_refl _⟩ (fun o51 H locs hU hS => ?_)
        refine kM_need E hU hS hA0 ⟨by decide, by decide⟩ hl.1 (Nat.le_of_ble_eq_true rfl) dX4_line_245 ⟨Nat.le_refl _, Nat.le_refl _⟩ (fun o52 H locs hU hS => ?_)
        exact x_vret hx hb hr hlk hS rfl (hU.to fun _ _ => trivial) dX4_line_248
      · refine x_aload_n hx hb dX4_line_33 rfl (lv_at hl 0 rfl) ?_
        refine kM_readsStretch E hU hS hA0 ⟨by decide, by decide⟩ hl.1 (Nat.le_of_ble_eq_true rfl) dX4_line_34 ⟨Nat.le_refl _, Nat.le_refl _⟩ (fun o53 H locs hU hS => ?_)
        refine x_goto (tgt := 238) hx hb dX4_line_37 (by decide) ?_
        refine x_aload_n hx hb dX4_line_238 rfl (lv_at hl 0 rfl) ?_
        refine x_aload_n hx hb dX4_line_239 rfl (lv_at hl 0 rfl) ?_
        refine x_bipush (v := 59) hx hb dX4_line_240 (by decide) ?_
        refine kM_isSign E hU hS hA0 ⟨by decide, by decide⟩ hl.1 (Nat.le_of_ble_eq_true rfl) dX4_line_242 ⟨Nat.le_refl _, Nat.le_refl _⟩ (fun o54 H locs hU hS => ?_)
        refine kM_need E hU hS hA0 ⟨by decide, by decide⟩ hl.1 (Nat.le_of_ble_eq_true rfl) dX4_line_245 ⟨Nat.le_refl _, Nat.le_refl _⟩ (fun o55 H locs hU hS => ?_)
        exact x_vret hx hb hr hlk hS rfl (hU.to fun _ _ => trivial) dX4_line_248
    · refine x_icmp_ne (tgt := 25) hx hb dX4_line_18 (by decide) (fun hc => ?_) (fun hc => ?_)
      · refine x_iconst (v := 0) hx hb dX4_line_25 (by decide) ?_
        exact hj49 (0 : Int32) _ _ _ ⟨hU, hS, _, rfl, lv_sub hl [1] rfl⟩
      · refine x_iconst (v := 1) hx hb dX4_line_21 (by decide) ?_
        refine x_goto (tgt := 26) hx hb dX4_line_22 (by decide) ?_
        exact hj49 (1 : Int32) _ _ _ ⟨hU, hS, _, rfl, lv_sub hl [1] rfl⟩
section MK
variable {ρ : Type} {p : Program} {l : Launch} {e : Env} {R : Room} {s : State} {m : MethodId} {args : Array Value} {below : List Frame} {meth : Method} {c : Code} {H : Heap} {locs : List Loc} {cells slots : Nat} {Qf : ρ → State → Prop}
variable {cc : ByteArray} {pc nL : Nat} {ls : Array Slot} {rest : List Value}
variable {D : va_G} {ct : CT} {ad : Nat → Nat} {A A0 : Nat → Prop} {S : US} {w : Int64} {H0 : Heap}
theorem kM_line (E : ME p m c cc nL s args RX4 D clW ct) (hU : UM D ct ad A S w H) (hS : va_S A H0 H locs) (hA0 : ∀ q, H0.size ≤ q → A q) (hR : 7 + 1 ≤ R.frames ∧ 8 + (2 + 11) + 168 ≤ R.locals) (hsize : ls.size = nL) (hW : (rest.map fun v => v.category).sum ≤ 8) (hdg : decode cc pc = .ok (.invokevirtual 281, 3)) (hf : cells ≤ R.cells ∧ slots ≤ R.slots) {kp : (US × Int64) → Option ρ} (kk : ∀ (o : (US × Int64)) (H1 : Heap) (locs1 : List Loc), UM D ct ad A o.1 o.2 H1 → va_S A H0 H1 locs1 → X p l e R s m args below meth c H1 locs1 cells slots Qf (kp o) (F0 m (pc + 3) ls (rest))) : X p l e R s m args below meth c H locs cells slots Qf (callK (sM_line S w) kp) (F0 m pc ls (.ref (ad 0) :: rest)) := ucV_mod (i := 0) (So := fun (o : (US × Int64)) => o.1) (wo := fun (o : (US × Int64)) => o.2) (As := []) E hU hS hA0 (by decide) rfl rfl (fun sz o ho => mM_line l D ct ad S w sz o ho) (cwV 0 E.1.2.2.2.2 (lw_V q2072 q2074 qs54 q119 q2075) rfl rfl rfl (by decide +kernel) hR) rfl hsize rfl hW hdg hf kk
end MK

set_option maxHeartbeats 4000000 in
theorem mM_right (l : Launch) (D : va_G) (ct : CT) (ad : Nat → Nat) (S : US) (w : Int64) (p1 : Int32) (p2 : Int32) (sz : Nat) (o : (Bool × US)) (ho : sM_right S p1 p2 = some o) : Met l yX4_right (ws_ yX4_right cX4_right 3 (some .boolean)) { frames := 1, cells := 0, slots := 0, locals := 32 } (mP D clW ct [.ref (ad (0)), .int p1, .int p2] sz (UM D ct ad (fun _ => True) S w)) (mC (some (.int (bI o.1))) (UM D ct ad (fun _ => True) o.2 w) (uA 31 ad sz)) 0 0 (uA 31 ad sz) := by
  refine X.start (val := fun (o : (Bool × US)) => some (.int (bI o.1))) (Bt := fun (o : (Bool × US)) => UM D ct ad (fun _ => True) o.2 w) (A := uA 31 ad sz) ho (by decide) (Nat.le_of_ble_eq_true rfl) rfl ?_
  intro p e s m args below meth c E hr hlk hnm hsz hU ls hl
  subst hsz
  obtain ⟨⟨hx, hb, hml, hown, hts⟩, hK, hJ⟩ := id E
  replace hU := hU.to (B := uA 31 ad s.heap.size) (fun i hi => Or.inl ⟨i, hi, rfl⟩)
  have hA0 : ∀ q, s.heap.size ≤ q → (uA 31 ad s.heap.size) q := fun q h => Or.inr h
  have hS : va_S (uA 31 ad s.heap.size) s.heap s.heap [] := va_S.rf
  unfold sM_right
  refine x_aload_n hx hb dX4_right_0 rfl (lv_at hl 0 rfl) ?_
  refine gM_thrown E hU dX4_right_1 ?_
  refine X.join2 (fun (x : US) g H locs => UM D ct ad (uA 31 ad s.heap.size) x w H ∧ va_S (uA 31 ad s.heap.size) s.heap H locs ∧ ∃ ls : Array Slot, g = F0 m 16 ls [] ∧ lv_has ls 3 [(0, .ref (ad (0)))]) ?_ (fun j2 hj2 => ?_)
  · rintro S1 _ H locs ⟨hU, hS, ls, rfl, hl⟩
    refine X.eqs (sp2 := sM_right_J16 S1) rfl ?_
    unfold sM_right_J16
    refine x_aload_n hx hb dX4_right_16 rfl (lv_at hl 0 rfl) ?_
    refine gM_thrown E hU dX4_right_17 ?_
    refine x_if_ne (tgt := 27) hx hb dX4_right_20 (by decide) (fun hc => ?_) (fun hc => ?_)
    · refine x_iconst (v := 0) hx hb dX4_right_27 (by decide) ?_
      exact x_zret hx hb hr hlk hS rfl rfl (hU.to fun _ _ => trivial) dX4_right_28
    · refine x_iconst (v := 1) hx hb dX4_right_23 (by decide) ?_
      refine x_goto (tgt := 28) hx hb dX4_right_24 (by decide) ?_
      exact x_zret hx hb hr hlk hS rfl rfl (hU.to fun _ _ => trivial) dX4_right_28
  · refine x_if_ne (tgt := 16) hx hb dX4_right_4 (by decide) (fun hc => ?_) (fun hc => ?_)
    · exact hj2 S _ _ _ ⟨hU, hS, _, rfl, lv_sub hl [0] rfl⟩
    · refine x_iload_n hx hb dX4_right_7 rfl (lv_at hl 1 rfl) ?_
      refine x_if_ne (tgt := 16) hx hb dX4_right_8 (by decide) (fun hc => ?_) (fun hc => ?_)
      · exact hj2 S _ _ _ ⟨hU, hS, _, rfl, lv_sub hl [0] rfl⟩
      · refine x_aload_n hx hb dX4_right_11 rfl (lv_at hl 0 rfl) ?_
        refine x_iload_n hx hb dX4_right_12 rfl (lv_at hl 2 rfl) ?_
        refine pM_thrown E hU hS dX4_right_13 (fun S3 H locs hU hS => ?_)
        exact hj2 S3 _ _ _ ⟨hU, hS, _, rfl, lv_sub hl [0] rfl⟩
section MK
variable {ρ : Type} {p : Program} {l : Launch} {e : Env} {R : Room} {s : State} {m : MethodId} {args : Array Value} {below : List Frame} {meth : Method} {c : Code} {H : Heap} {locs : List Loc} {cells slots : Nat} {Qf : ρ → State → Prop}
variable {cc : ByteArray} {pc nL : Nat} {ls : Array Slot} {rest : List Value}
variable {D : va_G} {ct : CT} {ad : Nat → Nat} {A A0 : Nat → Prop} {S : US} {w : Int64} {H0 : Heap}
theorem kM_right {p1 : Int32} {p2 : Int32} (E : ME p m c cc nL s args RX4 D clW ct) (hU : UM D ct ad A S w H) (hS : va_S A H0 H locs) (hA0 : ∀ q, H0.size ≤ q → A q) (hR : 1 + 1 ≤ R.frames ∧ 8 + (3 + 11) + 32 ≤ R.locals) (hsize : ls.size = nL) (hW : (rest.map fun v => v.category).sum ≤ 8) (hdg : decode cc pc = .ok (.invokevirtual 277, 3)) (hf : cells ≤ R.cells ∧ slots ≤ R.slots) {kp : (Bool × US) → Option ρ} (kk : ∀ (o : (Bool × US)) (H1 : Heap) (locs1 : List Loc), UM D ct ad A o.2 w H1 → va_S A H0 H1 locs1 → X p l e R s m args below meth c H1 locs1 cells slots Qf (kp o) (F0 m (pc + 3) ls (.int (bI o.1) :: rest))) : X p l e R s m args below meth c H locs cells slots Qf (callK (sM_right S p1 p2) kp) (F0 m pc ls (.int p2 :: .int p1 :: .ref (ad 0) :: rest)) := ucV_mod (i := 0) (So := fun (o : (Bool × US)) => o.2) (wo := fun (o : (Bool × US)) => w) (As := [.int p1, .int p2]) E hU hS hA0 (by decide) rfl rfl (fun sz o ho => mM_right l D ct ad S w p1 p2 sz o ho) (cwV 2 E.1.2.2.2.2 (lw_V q2050 q2052 qs50 q119 q2053) rfl rfl rfl (by decide +kernel) hR) rfl hsize rfl hW hdg hf kk
end MK

set_option maxHeartbeats 4000000 in
theorem mM_ring (l : Launch) (D : va_G) (ct : CT) (ad : Nat → Nat) (S : US) (w : Int64) (p1 : Int32) (sz : Nat) (o : (Int32 × US × Int64)) (ho : sM_ring S w p1 = some o) : Met l yX4_ring (ws_ yX4_ring cX4_ring 3 (some .int)) { frames := 8, cells := 0, slots := 0, locals := 189 } (mP D clW ct [.ref (ad (0)), .int p1] sz (UM D ct ad (fun _ => True) S w)) (mC (some (.int o.1)) (UM D ct ad (fun _ => True) o.2.1 o.2.2) (uA 31 ad sz)) 0 0 (uA 31 ad sz) := by
  refine X.start (val := fun (o : (Int32 × US × Int64)) => some (.int o.1)) (Bt := fun (o : (Int32 × US × Int64)) => UM D ct ad (fun _ => True) o.2.1 o.2.2) (A := uA 31 ad sz) ho (by decide) (Nat.le_of_ble_eq_true rfl) rfl ?_
  intro p e s m args below meth c E hr hlk hnm hsz hU ls hl
  subst hsz
  obtain ⟨⟨hx, hb, hml, hown, hts⟩, hK, hJ⟩ := id E
  replace hU := hU.to (B := uA 31 ad s.heap.size) (fun i hi => Or.inl ⟨i, hi, rfl⟩)
  have hA0 : ∀ q, s.heap.size ≤ q → (uA 31 ad s.heap.size) q := fun q h => Or.inr h
  have hS : va_S (uA 31 ad s.heap.size) s.heap s.heap [] := va_S.rf
  unfold sM_ring
  refine x_aload_n hx hb dX4_ring_0 rfl (lv_at hl 0 rfl) ?_
  refine x_iconst (v := 0) hx hb dX4_ring_1 (by decide) ?_
  refine pM_thrown E hU hS dX4_ring_2 (fun S1 H locs hU hS => ?_)
  refine x_aload_n hx hb dX4_ring_5 rfl (lv_at hl 0 rfl) ?_
  refine x_iload_n hx hb dX4_ring_6 rfl (lv_at hl 1 rfl) ?_
  refine X.join2 (fun (x : Int32) g H locs => UM D ct ad (uA 31 ad s.heap.size) S1 w H ∧ va_S (uA 31 ad s.heap.size) s.heap H locs ∧ ∃ ls : Array Slot, g = F0 m 23 ls [.int x, .ref (ad (0))] ∧ lv_has ls 3 [(0, .ref (ad (0))), (1, .int p1)]) ?_ (fun j3 hj3 => ?_)
  · rintro y2 _ H locs ⟨hU, hS, ls, rfl, hl⟩
    refine X.eqs (sp2 := sM_ring_J23 p1 w S1 y2) rfl ?_
    unfold sM_ring_J23
    refine x_iconst (v := 1) hx hb dX4_ring_23 (by decide) ?_
    refine kM_right E hU hS hA0 ⟨by decide, by decide⟩ hl.1 (Nat.le_of_ble_eq_true rfl) dX4_ring_24 ⟨Nat.le_refl _, Nat.le_refl _⟩ (fun o4 H locs hU hS => ?_)
    refine x_if_ne (tgt := 32) hx hb dX4_ring_27 (by decide) (fun hc => ?_) (fun hc => ?_)
    · refine x_aload_n hx hb dX4_ring_32 rfl (lv_at hl 0 rfl) ?_
      refine x_iconst (v := 0) hx hb dX4_ring_33 (by decide) ?_
      refine pM_taped E hU hS dX4_ring_34 (fun S5 H locs hU hS => ?_)
      refine x_aload_n hx hb dX4_ring_37 rfl (lv_at hl 0 rfl) ?_
      refine x_iconst (v := -1) hx hb dX4_ring_38 (by decide) ?_
      refine pM_faultPlace E hU hS dX4_ring_39 (fun S6 H locs hU hS => ?_)
      refine x_aload_n hx hb dX4_ring_42 rfl (lv_at hl 0 rfl) ?_
      refine x_iconst (v := 0) hx hb dX4_ring_43 (by decide) ?_
      refine pM_faultKind E hU hS dX4_ring_44 (fun S7 H locs hU hS => ?_)
      refine x_aload_n hx hb dX4_ring_47 rfl (lv_at hl 0 rfl) ?_
      refine x_iload_n hx hb dX4_ring_48 rfl (lv_at hl 1 rfl) ?_
      refine pM_long1 E hU hS dX4_ring_49 (fun S8 H locs hU hS => ?_)
      refine x_aload_n hx hb dX4_ring_52 rfl (lv_at hl 0 rfl) ?_
      refine x_iconst (v := 0) hx hb dX4_ring_53 (by decide) ?_
      refine pM_next0 E hU hS dX4_ring_54 (fun S9 H locs hU hS => ?_)
      refine x_aload_n hx hb dX4_ring_57 rfl (lv_at hl 0 rfl) ?_
      refine x_iconst (v := 0) hx hb dX4_ring_58 (by decide) ?_
      refine pM_newMany E hU hS dX4_ring_59 (fun S10 H locs hU hS => ?_)
      refine x_aload_n hx hb dX4_ring_62 rfl (lv_at hl 0 rfl) ?_
      refine x_iconst (v := 0) hx hb dX4_ring_63 (by decide) ?_
      refine pM_newWomen E hU hS dX4_ring_64 (fun S11 H locs hU hS => ?_)
      refine x_aload_n hx hb dX4_ring_67 rfl (lv_at hl 0 rfl) ?_
      refine x_iconst (v := 0) hx hb dX4_ring_68 (by decide) ?_
      refine pM_newKnots E hU hS dX4_ring_69 (fun S12 H locs hU hS => ?_)
      refine x_aload_n hx hb dX4_ring_72 rfl (lv_at hl 0 rfl) ?_
      refine x_iconst (v := -1) hx hb dX4_ring_73 (by decide) ?_
      refine pM_newWeek E hU hS dX4_ring_74 (fun S13 H locs hU hS => ?_)
      refine x_aload_n hx hb dX4_ring_77 rfl (lv_at hl 0 rfl) ?_
      refine x_iconst (v := -1) hx hb dX4_ring_78 (by decide) ?_
      refine pM_newFraysAt E hU hS dX4_ring_79 (fun S14 H locs hU hS => ?_)
      refine x_aload_n hx hb dX4_ring_82 rfl (lv_at hl 0 rfl) ?_
      refine x_iconst (v := -1) hx hb dX4_ring_83 (by decide) ?_
      refine pM_newPullsAt E hU hS dX4_ring_84 (fun S15 H locs hU hS => ?_)
      refine x_iconst (v := 0) hx hb dX4_ring_87 (by decide) ?_
      refine x_istore_n (lv' := [(2, .int (0 : Int32)), (0, .ref (ad (0))), (1, .int p1)]) hx hb dX4_ring_88 rfl hl (by decide) rfl (fun ls hl => ?_)
      refine X.loop (I := fun (x : (US × Int32)) g H locs => UM D ct ad (uA 31 ad s.heap.size) x.1 w H ∧ va_S (uA 31 ad s.heap.size) s.heap H locs ∧ ∃ ls : Array Slot, g = F0 m 89 ls [] ∧ lv_has ls 3 [(0, .ref (ad (0))), (2, .int x.2)]) (fun rc18 ih18 => ?_) FUEL _ _ _ _ ⟨hU, hS, _, rfl, lv_sub hl [1, 0] rfl⟩
      rintro ⟨S16, v17⟩ _ H locs ⟨hU, hS, ls, rfl, hl⟩
      have hU : UM D ct ad (uA 31 ad s.heap.size) S16 w H := hU
      have hl : lv_has ls 3 [(0, .ref (ad (0))), (2, .int v17)] := hl
      refine X.eqs (sp2 := sM_ring_L89 w rc18 S16 v17) rfl ?_
      unfold sM_ring_L89
      refine x_iload_n hx hb dX4_ring_89 rfl (lv_at hl 1 rfl) ?_
      refine x_bipush (v := 49) hx hb dX4_ring_90 (by decide) ?_
      refine x_icmp_ge (tgt := 108) hx hb dX4_ring_92 (by decide) (fun hc => ?_) (fun hc => ?_)
      · refine x_aload_n hx hb dX4_ring_108 rfl (lv_at hl 0 rfl) ?_
        refine x_iconst (v := 0) hx hb dX4_ring_109 (by decide) ?_
        refine pM_top E hU hS dX4_ring_110 (fun S19 H locs hU hS => ?_)
        refine x_aload_n hx hb dX4_ring_113 rfl (lv_at hl 0 rfl) ?_
        refine kM_goes E hU hS hA0 ⟨by decide, by decide⟩ hl.1 (Nat.le_of_ble_eq_true rfl) dX4_ring_114 ⟨Nat.le_refl _, Nat.le_refl _⟩ (fun o20 H locs hU hS => ?_)
        refine X.join2 (fun (x : (US × Int64)) g H locs => UM D ct ad (uA 31 ad s.heap.size) x.1 x.2 H ∧ va_S (uA 31 ad s.heap.size) s.heap H locs ∧ ∃ ls : Array Slot, g = F0 m 138 ls [] ∧ lv_has ls 3 [(0, .ref (ad (0)))]) ?_ (fun j23 hj23 => ?_)
        · rintro ⟨S21, w22⟩ _ H locs ⟨hU, hS, ls, rfl, hl⟩
          have hU : UM D ct ad (uA 31 ad s.heap.size) S21 w22 H := hU
          have hl : lv_has ls 3 [(0, .ref (ad (0)))] := hl
          refine X.eqs (sp2 := sM_ring_J138 S21 w22) rfl ?_
          unfold sM_ring_J138
          refine x_aload_n hx hb dX4_ring_138 rfl (lv_at hl 0 rfl) ?_
          refine kM_isGood E hU hS hA0 ⟨by decide, by decide⟩ hl.1 (Nat.le_of_ble_eq_true rfl) dX4_ring_139 ⟨Nat.le_refl _, Nat.le_refl _⟩ (fun o24 H locs hU hS => ?_)
          refine x_if_ne (tgt := 160) hx hb dX4_ring_142 (by decide) (fun hc => ?_) (fun hc => ?_)
          · refine x_aload_n hx hb dX4_ring_160 rfl (lv_at hl 0 rfl) ?_
            refine x_aload_n hx hb dX4_ring_161 rfl (lv_at hl 0 rfl) ?_
            refine gM_newMany E hU dX4_ring_162 ?_
            refine x_iconst (v := 3) hx hb dX4_ring_165 (by decide) ?_
            refine X.join2 (fun (x : Int32) g H locs => UM D ct ad (uA 31 ad s.heap.size) S21 w22 H ∧ va_S (uA 31 ad s.heap.size) s.heap H locs ∧ ∃ ls : Array Slot, g = F0 m 177 ls [.int x, .ref (ad (0))] ∧ lv_has ls 3 [(0, .ref (ad (0)))]) ?_ (fun j26 hj26 => ?_)
            · rintro y25 _ H locs ⟨hU, hS, ls, rfl, hl⟩
              refine X.eqs (sp2 := sM_ring_J177 S21 w22 y25) rfl ?_
              unfold sM_ring_J177
              refine pM_many E hU hS dX4_ring_177 (fun S27 H locs hU hS => ?_)
              refine x_aload_n hx hb dX4_ring_180 rfl (lv_at hl 0 rfl) ?_
              refine x_aload_n hx hb dX4_ring_181 rfl (lv_at hl 0 rfl) ?_
              refine gM_newWomen E hU dX4_ring_182 ?_
              refine pM_women E hU hS dX4_ring_185 (fun S28 H locs hU hS => ?_)
              refine x_aload_n hx hb dX4_ring_188 rfl (lv_at hl 0 rfl) ?_
              refine x_aload_n hx hb dX4_ring_189 rfl (lv_at hl 0 rfl) ?_
              refine gM_newKnots E hU dX4_ring_190 ?_
              refine pM_knots E hU hS dX4_ring_193 (fun S29 H locs hU hS => ?_)
              refine x_aload_n hx hb dX4_ring_196 rfl (lv_at hl 0 rfl) ?_
              refine x_aload_n hx hb dX4_ring_197 rfl (lv_at hl 0 rfl) ?_
              refine gM_newWeek E hU dX4_ring_198 ?_
              refine x_iconst (v := -1) hx hb dX4_ring_201 (by decide) ?_
              refine X.join2 (fun (x : Int32) g H locs => UM D ct ad (uA 31 ad s.heap.size) S29 w22 H ∧ va_S (uA 31 ad s.heap.size) s.heap H locs ∧ ∃ ls : Array Slot, g = F0 m 214 ls [.int x, .ref (ad (0))] ∧ lv_has ls 3 [(0, .ref (ad (0)))]) ?_ (fun j31 hj31 => ?_)
              · rintro y30 _ H locs ⟨hU, hS, ls, rfl, hl⟩
                refine X.eqs (sp2 := sM_ring_J214 w22 S29 y30) rfl ?_
                unfold sM_ring_J214
                refine pM_week E hU hS dX4_ring_214 (fun S32 H locs hU hS => ?_)
                refine x_aload_n hx hb dX4_ring_217 rfl (lv_at hl 0 rfl) ?_
                refine x_aload_n hx hb dX4_ring_218 rfl (lv_at hl 0 rfl) ?_
                refine gM_newFraysAt E hU dX4_ring_219 ?_
                refine pM_fraysAt E hU hS dX4_ring_222 (fun S33 H locs hU hS => ?_)
                refine x_aload_n hx hb dX4_ring_225 rfl (lv_at hl 0 rfl) ?_
                refine x_aload_n hx hb dX4_ring_226 rfl (lv_at hl 0 rfl) ?_
                refine gM_newPullsAt E hU dX4_ring_227 ?_
                refine pM_pullsAt E hU hS dX4_ring_230 (fun S34 H locs hU hS => ?_)
                refine x_aload_n hx hb dX4_ring_233 rfl (lv_at hl 0 rfl) ?_
                refine x_aload_n hx hb dX4_ring_234 rfl (lv_at hl 0 rfl) ?_
                refine gM_newSkill E hU dX4_ring_235 ?_
                refine x_aload_n hx hb dX4_ring_238 rfl (lv_at hl 0 rfl) ?_
                refine gM_skill E hU dX4_ring_239 ?_
                refine kM_copies E hU hS hA0 (by decide) rfl (by decide) rfl ⟨by decide, by decide⟩ hl.1 (Nat.le_of_ble_eq_true rfl) dX4_ring_242 ⟨Nat.le_refl _, Nat.le_refl _⟩ (fun o35 H locs hU hS => ?_)
                refine x_aload_n hx hb dX4_ring_245 rfl (lv_at hl 0 rfl) ?_
                refine x_aload_n hx hb dX4_ring_246 rfl (lv_at hl 0 rfl) ?_
                refine gM_newKnot E hU dX4_ring_247 ?_
                refine x_aload_n hx hb dX4_ring_250 rfl (lv_at hl 0 rfl) ?_
                refine gM_knot E hU dX4_ring_251 ?_
                refine kM_copies E hU hS hA0 (by decide) rfl (by decide) rfl ⟨by decide, by decide⟩ hl.1 (Nat.le_of_ble_eq_true rfl) dX4_ring_254 ⟨Nat.le_refl _, Nat.le_refl _⟩ (fun o36 H locs hU hS => ?_)
                refine x_aload_n hx hb dX4_ring_257 rfl (lv_at hl 0 rfl) ?_
                refine x_aload_n hx hb dX4_ring_258 rfl (lv_at hl 0 rfl) ?_
                refine gM_newKnotLong E hU dX4_ring_259 ?_
                refine x_aload_n hx hb dX4_ring_262 rfl (lv_at hl 0 rfl) ?_
                refine gM_knotLong E hU dX4_ring_263 ?_
                refine kM_copies E hU hS hA0 (by decide) rfl (by decide) rfl ⟨by decide, by decide⟩ hl.1 (Nat.le_of_ble_eq_true rfl) dX4_ring_266 ⟨Nat.le_refl _, Nat.le_refl _⟩ (fun o37 H locs hU hS => ?_)
                refine x_aload_n hx hb dX4_ring_269 rfl (lv_at hl 0 rfl) ?_
                refine x_aload_n hx hb dX4_ring_270 rfl (lv_at hl 0 rfl) ?_
                refine gM_readCode E hU dX4_ring_271 ?_
                refine x_aload_n hx hb dX4_ring_274 rfl (lv_at hl 0 rfl) ?_
                refine gM_code E hU dX4_ring_275 ?_
                refine kM_copies E hU hS hA0 (by decide) rfl (by decide) rfl ⟨by decide, by decide⟩ hl.1 (Nat.le_of_ble_eq_true rfl) dX4_ring_278 ⟨Nat.le_refl _, Nat.le_refl _⟩ (fun o38 H locs hU hS => ?_)
                refine x_iconst (v := 0) hx hb dX4_ring_281 (by decide) ?_
                refine x_istore_n (lv' := [(2, .int (0 : Int32)), (0, .ref (ad (0)))]) hx hb dX4_ring_282 rfl hl (by decide) rfl (fun ls hl => ?_)
                refine X.loop (I := fun (x : (US × Int32)) g H locs => UM D ct ad (uA 31 ad s.heap.size) x.1 w22 H ∧ va_S (uA 31 ad s.heap.size) s.heap H locs ∧ ∃ ls : Array Slot, g = F0 m 283 ls [] ∧ lv_has ls 3 [(0, .ref (ad (0))), (2, .int x.2)]) (fun rc41 ih41 => ?_) FUEL _ _ _ _ ⟨hU, hS, _, rfl, lv_sub hl [1, 0] rfl⟩
                rintro ⟨S39, v40⟩ _ H locs ⟨hU, hS, ls, rfl, hl⟩
                have hU : UM D ct ad (uA 31 ad s.heap.size) S39 w22 H := hU
                have hl : lv_has ls 3 [(0, .ref (ad (0))), (2, .int v40)] := hl
                refine X.eqs (sp2 := sM_ring_L283 w22 rc41 S39 v40) rfl ?_
                unfold sM_ring_L283
                refine x_iload_n hx hb dX4_ring_283 rfl (lv_at hl 1 rfl) ?_
                refine x_bipush (v := 49) hx hb dX4_ring_284 (by decide) ?_
                refine x_icmp_ge (tgt := 307) hx hb dX4_ring_286 (by decide) (fun hc => ?_) (fun hc => ?_)
                · refine x_aload_n hx hb dX4_ring_307 rfl (lv_at hl 0 rfl) ?_
                  refine gM_newMany E hU dX4_ring_308 ?_
                  refine x_istore_n (lv' := [(2, .int (S39 0 24)), (0, .ref (ad (0)))]) hx hb dX4_ring_311 rfl hl (by decide) rfl (fun ls hl => ?_)
                  refine X.loop (I := fun (x : (US × Int32)) g H locs => UM D ct ad (uA 31 ad s.heap.size) x.1 w22 H ∧ va_S (uA 31 ad s.heap.size) s.heap H locs ∧ ∃ ls : Array Slot, g = F0 m 312 ls [] ∧ lv_has ls 3 [(0, .ref (ad (0))), (2, .int x.2)]) (fun rc44 ih44 => ?_) FUEL _ _ _ _ ⟨hU, hS, _, rfl, lv_sub hl [1, 0] rfl⟩
                  rintro ⟨S42, v43⟩ _ H locs ⟨hU, hS, ls, rfl, hl⟩
                  have hU : UM D ct ad (uA 31 ad s.heap.size) S42 w22 H := hU
                  have hl : lv_has ls 3 [(0, .ref (ad (0))), (2, .int v43)] := hl
                  refine X.eqs (sp2 := sM_ring_L312 w22 rc44 S42 v43) rfl ?_
                  unfold sM_ring_L312
                  refine x_iload_n hx hb dX4_ring_312 rfl (lv_at hl 1 rfl) ?_
                  refine x_iconst (v := 3) hx hb dX4_ring_313 (by decide) ?_
                  refine x_icmp_ge (tgt := 334) hx hb dX4_ring_314 (by decide) (fun hc => ?_) (fun hc => ?_)
                  · refine x_aload_n hx hb dX4_ring_334 rfl (lv_at hl 0 rfl) ?_
                    refine x_iconst (v := 0) hx hb dX4_ring_335 (by decide) ?_
                    refine pM_acts E hU hS dX4_ring_336 (fun S45 H locs hU hS => ?_)
                    refine x_aload_n hx hb dX4_ring_339 rfl (lv_at hl 0 rfl) ?_
                    refine x_iconst (v := 0) hx hb dX4_ring_340 (by decide) ?_
                    refine pM_seenMany E hU hS dX4_ring_341 (fun S46 H locs hU hS => ?_)
                    refine x_aload_n hx hb dX4_ring_344 rfl (lv_at hl 0 rfl) ?_
                    refine x_iconst (v := 0) hx hb dX4_ring_345 (by decide) ?_
                    refine pM_hasImage E hU hS rfl rfl dX4_ring_346 (fun S47 H locs hU hS => ?_)
                    refine x_iconst (v := 0) hx hb dX4_ring_349 (by decide) ?_
                    exact x_iret hx hb hr hlk hS rfl (hU.to fun _ _ => trivial) dX4_ring_350
                  · refine x_aload_n hx hb dX4_ring_317 rfl (lv_at hl 0 rfl) ?_
                    refine gM_rows E hU dX4_ring_318 ?_
                    refine x_bipush (v := 13) hx hb dX4_ring_321 (by decide) ?_
                    refine x_iload_n hx hb dX4_ring_323 rfl (lv_at hl 1 rfl) ?_
                    refine x_iadd hx hb dX4_ring_324 ?_
                    refine x_bipush (v := 50) hx hb dX4_ring_325 (by decide) ?_
                    refine ux_ast (i := 14) (n := 98) E hU hS (by decide) rfl dX4_ring_327 (fun S48 H locs hU hS => ?_)
                    refine x_iinc (v := (v43 + (1 : Int32))) (lv' := [(2, .int (v43 + (1 : Int32))), (0, .ref (ad (0)))]) (k := 1) hx hb dX4_ring_328 hl rfl rfl (by decide) rfl (fun ls hl => ?_)
                    refine x_goto (tgt := 312) hx hb dX4_ring_331 (by decide) ?_
                    exact ih44 (S48, (v43 + (1 : Int32))) _ _ _ ⟨hU, hS, _, rfl, lv_sub hl [1, 0] rfl⟩
                · refine x_aload_n hx hb dX4_ring_289 rfl (lv_at hl 0 rfl) ?_
                  refine gM_rows E hU dX4_ring_290 ?_
                  refine x_iload_n hx hb dX4_ring_293 rfl (lv_at hl 1 rfl) ?_
                  refine x_aload_n hx hb dX4_ring_294 rfl (lv_at hl 0 rfl) ?_
                  refine gM_newRow E hU dX4_ring_295 ?_
                  refine x_iload_n hx hb dX4_ring_298 rfl (lv_at hl 1 rfl) ?_
                  refine ux_ald (i := 10) (n := 49) E hU (by decide) rfl dX4_ring_299 ?_
                  refine ux_ast (i := 14) (n := 98) E hU hS (by decide) rfl dX4_ring_300 (fun S49 H locs hU hS => ?_)
                  refine x_iinc (v := (v40 + (1 : Int32))) (lv' := [(2, .int (v40 + (1 : Int32))), (0, .ref (ad (0)))]) (k := 1) hx hb dX4_ring_301 hl rfl rfl (by decide) rfl (fun ls hl => ?_)
                  refine x_goto (tgt := 283) hx hb dX4_ring_304 (by decide) ?_
                  exact ih41 (S49, (v40 + (1 : Int32))) _ _ _ ⟨hU, hS, _, rfl, lv_sub hl [1, 0] rfl⟩
              · refine x_icmp_ne (tgt := 210) hx hb dX4_ring_202 (by decide) (fun hc => ?_) (fun hc => ?_)
                · refine x_aload_n hx hb dX4_ring_210 rfl (lv_at hl 0 rfl) ?_
                  refine gM_newWeek E hU dX4_ring_211 ?_
                  exact hj31 (S29 0 27) _ _ _ ⟨hU, hS, _, rfl, lv_sub hl [0] rfl⟩
                · refine x_bipush (v := 7) hx hb dX4_ring_205 (by decide) ?_
                  refine x_goto (tgt := 214) hx hb dX4_ring_207 (by decide) ?_
                  exact hj31 (7 : Int32) _ _ _ ⟨hU, hS, _, rfl, lv_sub hl [0] rfl⟩
            · refine x_icmp_ge (tgt := 173) hx hb dX4_ring_166 (by decide) (fun hc => ?_) (fun hc => ?_)
              · refine x_aload_n hx hb dX4_ring_173 rfl (lv_at hl 0 rfl) ?_
                refine gM_newMany E hU dX4_ring_174 ?_
                exact hj26 (S21 0 24) _ _ _ ⟨hU, hS, _, rfl, lv_sub hl [0] rfl⟩
              · refine x_iconst (v := 3) hx hb dX4_ring_169 (by decide) ?_
                refine x_goto (tgt := 177) hx hb dX4_ring_170 (by decide) ?_
                exact hj26 (3 : Int32) _ _ _ ⟨hU, hS, _, rfl, lv_sub hl [0] rfl⟩
          · refine x_aload_n hx hb dX4_ring_145 rfl (lv_at hl 0 rfl) ?_
            refine gM_refused E hU dX4_ring_146 ?_
            refine x_iconst (v := 0) hx hb dX4_ring_149 (by decide) ?_
            refine x_dup2_11 hx hb dX4_ring_150 rfl rfl ?_
            refine ux_ald (i := 6) (n := 3) E hU (by decide) rfl dX4_ring_151 ?_
            refine x_iconst (v := 1) hx hb dX4_ring_152 (by decide) ?_
            refine x_iadd hx hb dX4_ring_153 ?_
            refine ux_ast (i := 6) (n := 3) E hU hS (by decide) rfl dX4_ring_154 (fun S50 H locs hU hS => ?_)
            refine x_aload_n hx hb dX4_ring_155 rfl (lv_at hl 0 rfl) ?_
            refine gM_faultKind E hU dX4_ring_156 ?_
            exact x_iret hx hb hr hlk hS rfl (hU.to fun _ _ => trivial) dX4_ring_159
        · refine X.loop (I := fun (x : (US × Int64)) g H locs => UM D ct ad (uA 31 ad s.heap.size) x.1 x.2 H ∧ va_S (uA 31 ad s.heap.size) s.heap H locs ∧ ∃ ls : Array Slot, g = F0 m 117 ls [] ∧ lv_has ls 3 [(0, .ref (ad (0)))]) (fun rc53 ih53 => ?_) FUEL _ _ _ _ ⟨hU, hS, _, rfl, lv_sub hl [0] rfl⟩
          rintro ⟨S51, w52⟩ _ H locs ⟨hU, hS, ls, rfl, hl⟩
          have hU : UM D ct ad (uA 31 ad s.heap.size) S51 w52 H := hU
          have hl : lv_has ls 3 [(0, .ref (ad (0)))] := hl
          refine X.eqs (sp2 := sM_ring_L117 j23 rc53 S51 w52) rfl ?_
          unfold sM_ring_L117
          refine x_aload_n hx hb dX4_ring_117 rfl (lv_at hl 0 rfl) ?_
          refine kM_isGood E hU hS hA0 ⟨by decide, by decide⟩ hl.1 (Nat.le_of_ble_eq_true rfl) dX4_ring_118 ⟨Nat.le_refl _, Nat.le_refl _⟩ (fun o54 H locs hU hS => ?_)
          refine x_if_eq (tgt := 138) hx hb dX4_ring_121 (by decide) (fun hc => ?_) (fun hc => ?_)
          · exact hj23 (S51, w52) _ _ _ ⟨hU, hS, _, rfl, lv_sub hl [0] rfl⟩
          · refine x_aload_n hx hb dX4_ring_124 rfl (lv_at hl 0 rfl) ?_
            refine gM_sort E hU dX4_ring_125 ?_
            refine x_if_eq (tgt := 138) hx hb dX4_ring_128 (by decide) (fun hc => ?_) (fun hc => ?_)
            · exact hj23 (S51, w52) _ _ _ ⟨hU, hS, _, rfl, lv_sub hl [0] rfl⟩
            · refine x_aload_n hx hb dX4_ring_131 rfl (lv_at hl 0 rfl) ?_
              refine kM_line E hU hS hA0 ⟨by decide, by decide⟩ hl.1 (Nat.le_of_ble_eq_true rfl) dX4_ring_132 ⟨Nat.le_refl _, Nat.le_refl _⟩ (fun o55 H locs hU hS => ?_)
              refine x_goto (tgt := 117) hx hb dX4_ring_135 (by decide) ?_
              exact ih53 (o55.1, o55.2) _ _ _ ⟨hU, hS, _, rfl, lv_sub hl [0] rfl⟩
      · refine x_aload_n hx hb dX4_ring_95 rfl (lv_at hl 0 rfl) ?_
        refine gM_newRow E hU dX4_ring_96 ?_
        refine x_iload_n hx hb dX4_ring_99 rfl (lv_at hl 1 rfl) ?_
        refine x_iconst (v := 0) hx hb dX4_ring_100 (by decide) ?_
        refine ux_ast (i := 10) (n := 49) E hU hS (by decide) rfl dX4_ring_101 (fun S56 H locs hU hS => ?_)
        refine x_iinc (v := (v17 + (1 : Int32))) (lv' := [(2, .int (v17 + (1 : Int32))), (0, .ref (ad (0)))]) (k := 1) hx hb dX4_ring_102 hl rfl rfl (by decide) rfl (fun ls hl => ?_)
        refine x_goto (tgt := 89) hx hb dX4_ring_105 (by decide) ?_
        exact ih18 (S56, (v17 + (1 : Int32))) _ _ _ ⟨hU, hS, _, rfl, lv_sub hl [1, 0] rfl⟩
    · refine x_iconst (v := 0) hx hb dX4_ring_30 (by decide) ?_
      exact x_iret hx hb hr hlk hS rfl (hU.to fun _ _ => trivial) dX4_ring_31
  · refine x_if_lt (tgt := 22) hx hb dX4_ring_7 (by decide) (fun hc => ?_) (fun hc => ?_)
    · refine x_iconst (v := 0) hx hb dX4_ring_22 (by decide) ?_
      exact hj3 (0 : Int32) _ _ _ ⟨hU, hS, _, rfl, lv_sub hl [0, 1] rfl⟩
    · refine x_iload_n hx hb dX4_ring_10 rfl (lv_at hl 1 rfl) ?_
      refine x_aload_n hx hb dX4_ring_11 rfl (lv_at hl 0 rfl) ?_
      refine gM_taped E hU dX4_ring_12 ?_
      refine x_icmp_gt (tgt := 22) hx hb dX4_ring_15 (by decide) (fun hc => ?_) (fun hc => ?_)
      · refine x_iconst (v := 0) hx hb dX4_ring_22 (by decide) ?_
        exact hj3 (0 : Int32) _ _ _ ⟨hU, hS, _, rfl, lv_sub hl [0, 1] rfl⟩
      · refine x_iconst (v := 1) hx hb dX4_ring_18 (by decide) ?_
        refine x_goto (tgt := 23) hx hb dX4_ring_19 (by decide) ?_
        exact hj3 (1 : Int32) _ _ _ ⟨hU, hS, _, rfl, lv_sub hl [0, 1] rfl⟩

set_option maxHeartbeats 4000000 in
theorem mM_fault (l : Launch) (D : va_G) (ct : CT) (ad : Nat → Nat) (S : US) (w : Int64) (sz : Nat) (o : (Int32 × US)) (ho : sM_fault S = some o) : Met l yX4_fault (ws_ yX4_fault cX4_fault 1 (some .int)) { frames := 1, cells := 0, slots := 0, locals := 32 } (mP D clW ct [.ref (ad (0))] sz (UM D ct ad (fun _ => True) S w)) (mC (some (.int o.1)) (UM D ct ad (fun _ => True) o.2 w) (uA 31 ad sz)) 0 0 (uA 31 ad sz) := by
  refine X.start (val := fun (o : (Int32 × US)) => some (.int o.1)) (Bt := fun (o : (Int32 × US)) => UM D ct ad (fun _ => True) o.2 w) (A := uA 31 ad sz) ho (by decide) (Nat.le_of_ble_eq_true rfl) rfl ?_
  intro p e s m args below meth c E hr hlk hnm hsz hU ls hl
  subst hsz
  obtain ⟨⟨hx, hb, hml, hown, hts⟩, hK, hJ⟩ := id E
  replace hU := hU.to (B := uA 31 ad s.heap.size) (fun i hi => Or.inl ⟨i, hi, rfl⟩)
  have hA0 : ∀ q, s.heap.size ≤ q → (uA 31 ad s.heap.size) q := fun q h => Or.inr h
  have hS : va_S (uA 31 ad s.heap.size) s.heap s.heap [] := va_S.rf
  unfold sM_fault
  refine x_aload_n hx hb dX4_fault_0 rfl (lv_at hl 0 rfl) ?_
  refine x_iconst (v := 0) hx hb dX4_fault_1 (by decide) ?_
  refine pM_thrown E hU hS dX4_fault_2 (fun S1 H locs hU hS => ?_)
  refine x_aload_n hx hb dX4_fault_5 rfl (lv_at hl 0 rfl) ?_
  refine gM_faultPlace E hU dX4_fault_6 ?_
  exact x_iret hx hb hr hlk hS rfl (hU.to fun _ _ => trivial) dX4_fault_9

set_option maxHeartbeats 4000000 in
theorem mM_undo (l : Launch) (D : va_G) (ct : CT) (ad : Nat → Nat) (S : US) (w : Int64) (sz : Nat) (o : (Int32 × US)) (ho : sM_undo S = some o) : Met l yX4_undo (ws_ yX4_undo cX4_undo 2 (some .int)) { frames := 1, cells := 0, slots := 0, locals := 32 } (mP D clW ct [.ref (ad (0))] sz (UM D ct ad (fun _ => True) S w)) (mC (some (.int o.1)) (UM D ct ad (fun _ => True) o.2 w) (uA 31 ad sz)) 0 0 (uA 31 ad sz) := by
  refine X.start (val := fun (o : (Int32 × US)) => some (.int o.1)) (Bt := fun (o : (Int32 × US)) => UM D ct ad (fun _ => True) o.2 w) (A := uA 31 ad sz) ho (by decide) (Nat.le_of_ble_eq_true rfl) rfl ?_
  intro p e s m args below meth c E hr hlk hnm hsz hU ls hl
  subst hsz
  obtain ⟨⟨hx, hb, hml, hown, hts⟩, hK, hJ⟩ := id E
  replace hU := hU.to (B := uA 31 ad s.heap.size) (fun i hi => Or.inl ⟨i, hi, rfl⟩)
  have hA0 : ∀ q, s.heap.size ≤ q → (uA 31 ad s.heap.size) q := fun q h => Or.inr h
  have hS : va_S (uA 31 ad s.heap.size) s.heap s.heap [] := va_S.rf
  unfold sM_undo
  refine x_aload_n hx hb dX4_undo_0 rfl (lv_at hl 0 rfl) ?_
  refine x_iconst (v := 0) hx hb dX4_undo_1 (by decide) ?_
  refine pM_thrown E hU hS dX4_undo_2 (fun S1 H locs hU hS => ?_)
  refine x_aload_n hx hb dX4_undo_5 rfl (lv_at hl 0 rfl) ?_
  refine gM_acts E hU dX4_undo_6 ?_
  refine x_if_ne (tgt := 14) hx hb dX4_undo_9 (by decide) (fun hc => ?_) (fun hc => ?_)
  · refine x_aload_n hx hb dX4_undo_14 rfl (lv_at hl 0 rfl) ?_
    refine x_dup hx hb dX4_undo_15 rfl ?_
    refine gM_acts E hU dX4_undo_16 ?_
    refine x_iconst (v := 1) hx hb dX4_undo_19 (by decide) ?_
    refine x_isub hx hb dX4_undo_20 ?_
    refine pM_acts E hU hS dX4_undo_21 (fun S2 H locs hU hS => ?_)
    refine x_iconst (v := 0) hx hb dX4_undo_24 (by decide) ?_
    refine x_istore_n (lv' := [(1, .int (0 : Int32)), (0, .ref (ad (0)))]) hx hb dX4_undo_25 rfl hl (by decide) rfl (fun ls hl => ?_)
    refine X.loop (I := fun (x : (US × Int32)) g H locs => UM D ct ad (uA 31 ad s.heap.size) x.1 w H ∧ va_S (uA 31 ad s.heap.size) s.heap H locs ∧ ∃ ls : Array Slot, g = F0 m 26 ls [] ∧ lv_has ls 2 [(0, .ref (ad (0))), (1, .int x.2)]) (fun rc5 ih5 => ?_) FUEL _ _ _ _ ⟨hU, hS, _, rfl, lv_sub hl [1, 0] rfl⟩
    rintro ⟨S3, v4⟩ _ H locs ⟨hU, hS, ls, rfl, hl⟩
    have hU : UM D ct ad (uA 31 ad s.heap.size) S3 w H := hU
    have hl : lv_has ls 2 [(0, .ref (ad (0))), (1, .int v4)] := hl
    refine X.eqs (sp2 := sM_undo_L26 rc5 S3 v4) rfl ?_
    unfold sM_undo_L26
    refine x_iload_n hx hb dX4_undo_26 rfl (lv_at hl 1 rfl) ?_
    refine x_bipush (v := 49) hx hb dX4_undo_27 (by decide) ?_
    refine x_icmp_ge (tgt := 58) hx hb dX4_undo_29 (by decide) (fun hc => ?_) (fun hc => ?_)
    · refine x_aload_n hx hb dX4_undo_58 rfl (lv_at hl 0 rfl) ?_
      refine gM_acts E hU dX4_undo_59 ?_
      exact x_iret hx hb hr hlk hS rfl (hU.to fun _ _ => trivial) dX4_undo_62
    · refine x_aload_n hx hb dX4_undo_32 rfl (lv_at hl 0 rfl) ?_
      refine gM_rows E hU dX4_undo_33 ?_
      refine x_iload_n hx hb dX4_undo_36 rfl (lv_at hl 1 rfl) ?_
      refine x_aload_n hx hb dX4_undo_37 rfl (lv_at hl 0 rfl) ?_
      refine gM_ahead E hU dX4_undo_38 ?_
      refine x_bipush (v := 49) hx hb dX4_undo_41 (by decide) ?_
      refine x_aload_n hx hb dX4_undo_43 rfl (lv_at hl 0 rfl) ?_
      refine gM_acts E hU dX4_undo_44 ?_
      refine x_imul hx hb dX4_undo_47 ?_
      refine x_iload_n hx hb dX4_undo_48 rfl (lv_at hl 1 rfl) ?_
      refine x_iadd hx hb dX4_undo_49 ?_
      refine ux_ald (i := 15) (n := 1960) E hU (by decide) rfl dX4_undo_50 ?_
      refine ux_ast (i := 14) (n := 98) E hU hS (by decide) rfl dX4_undo_51 (fun S6 H locs hU hS => ?_)
      refine x_iinc (v := (v4 + (1 : Int32))) (lv' := [(1, .int (v4 + (1 : Int32))), (0, .ref (ad (0)))]) (k := 1) hx hb dX4_undo_52 hl rfl rfl (by decide) rfl (fun ls hl => ?_)
      refine x_goto (tgt := 26) hx hb dX4_undo_55 (by decide) ?_
      exact ih5 (S6, (v4 + (1 : Int32))) _ _ _ ⟨hU, hS, _, rfl, lv_sub hl [1, 0] rfl⟩
  · refine x_iconst (v := -1) hx hb dX4_undo_12 (by decide) ?_
    exact x_iret hx hb hr hlk hS rfl (hU.to fun _ _ => trivial) dX4_undo_13

set_option maxHeartbeats 4000000 in
theorem mM_womenAt (l : Launch) (D : va_G) (ct : CT) (ad : Nat → Nat) (S : US) (w : Int64) (p1 : Int32) (p2 : Int32) (sz : Nat) (o : Int32) (ho : sM_womenAt S p1 p2 = some o) : Met l yX4_womenAt (ws_ yX4_womenAt cX4_womenAt 5 (some .int)) { frames := 1, cells := 0, slots := 0, locals := 32 } (mP D clW ct [.ref (ad (0)), .int p1, .int p2] sz (UM D ct ad (fun _ => True) S w)) (mC (some (.int o)) (fun _ => True) (nA sz)) 0 0 (nA sz) := by
  refine X.start (val := fun (o : Int32) => some (.int o)) (Bt := fun _ _ => True) (A := nA sz) ho (by decide) (Nat.le_of_ble_eq_true rfl) rfl ?_
  intro p e s m args below meth c E hr hlk hnm hsz hU ls hl
  subst hsz
  obtain ⟨⟨hx, hb, hml, hown, hts⟩, hK, hJ⟩ := id E
  have hA0 : ∀ q, s.heap.size ≤ q → (nA s.heap.size) q := fun q h => h
  have hS : va_S (nA s.heap.size) s.heap s.heap [] := va_S.rf
  unfold sM_womenAt
  refine x_iconst (v := 0) hx hb dX4_womenAt_0 (by decide) ?_
  refine x_istore_n (lv' := [(3, .int (0 : Int32)), (0, .ref (ad (0))), (1, .int p1), (2, .int p2)]) hx hb dX4_womenAt_1 rfl hl (by decide) rfl (fun ls hl => ?_)
  refine x_iconst (v := 0) hx hb dX4_womenAt_2 (by decide) ?_
  refine x_istore (lv' := [(4, .int (0 : Int32)), (3, .int (0 : Int32)), (0, .ref (ad (0))), (1, .int p1), (2, .int p2)]) hx hb dX4_womenAt_3 hl (by decide) rfl (fun ls hl => ?_)
  refine X.loop (I := fun (x : (Int32 × Int32)) g H locs => UM D ct ad (fun _ => True) S w H ∧ va_S (nA s.heap.size) s.heap H locs ∧ ∃ ls : Array Slot, g = F0 m 5 ls [] ∧ lv_has ls 5 [(0, .ref (ad (0))), (1, .int p1), (2, .int p2), (3, .int x.1), (4, .int x.2)]) (fun rc3 ih3 => ?_) FUEL _ _ _ _ ⟨hU, hS, _, rfl, lv_sub hl [2, 3, 4, 1, 0] rfl⟩
  rintro ⟨v1, v2⟩ _ H locs ⟨hU, hS, ls, rfl, hl⟩
  have hU : UM D ct ad (fun _ => True) S w H := hU
  have hl : lv_has ls 5 [(0, .ref (ad (0))), (1, .int p1), (2, .int p2), (3, .int v1), (4, .int v2)] := hl
  refine X.eqs (sp2 := sM_womenAt_L5 p1 p2 S rc3 v1 v2) rfl ?_
  unfold sM_womenAt_L5
  refine x_iload hx hb dX4_womenAt_5 (lv_at hl 4 rfl) ?_
  refine x_aload_n hx hb dX4_womenAt_7 rfl (lv_at hl 0 rfl) ?_
  refine gM_women E hU dX4_womenAt_8 ?_
  refine x_icmp_ge (tgt := 47) hx hb dX4_womenAt_11 (by decide) (fun hc => ?_) (fun hc => ?_)
  · refine x_iload_n hx hb dX4_womenAt_47 rfl (lv_at hl 3 rfl) ?_
    exact x_iret hx hb hr hlk hS rfl trivial dX4_womenAt_48
  · refine x_iload_n hx hb dX4_womenAt_14 rfl (lv_at hl 3 rfl) ?_
    refine x_aload_n hx hb dX4_womenAt_15 rfl (lv_at hl 0 rfl) ?_
    refine gM_rows E hU dX4_womenAt_16 ?_
    refine x_iload_n hx hb dX4_womenAt_19 rfl (lv_at hl 1 rfl) ?_
    refine x_bipush (v := 37) hx hb dX4_womenAt_20 (by decide) ?_
    refine x_iadd hx hb dX4_womenAt_22 ?_
    refine x_iload hx hb dX4_womenAt_23 (lv_at hl 4 rfl) ?_
    refine x_iadd hx hb dX4_womenAt_25 ?_
    refine ux_ald (i := 14) (n := 98) E hU (by decide) rfl dX4_womenAt_26 ?_
    refine x_iload_n hx hb dX4_womenAt_27 rfl (lv_at hl 2 rfl) ?_
    refine x_icmp_ne (tgt := 38) hx hb dX4_womenAt_28 (by decide) (fun hc => ?_) (fun hc => ?_)
    · refine x_iconst (v := 0) hx hb dX4_womenAt_38 (by decide) ?_
      refine x_ior hx hb dX4_womenAt_39 ?_
      refine x_istore_n (lv' := [(3, .int (v1 ||| (0 : Int32))), (0, .ref (ad (0))), (1, .int p1), (2, .int p2), (4, .int v2)]) hx hb dX4_womenAt_40 rfl hl (by decide) rfl (fun ls hl => ?_)
      refine x_iinc (v := (v2 + (1 : Int32))) (lv' := [(4, .int (v2 + (1 : Int32))), (3, .int (v1 ||| (0 : Int32))), (0, .ref (ad (0))), (1, .int p1), (2, .int p2)]) (k := 4) hx hb dX4_womenAt_41 hl rfl rfl (by decide) rfl (fun ls hl => ?_)
      refine x_goto (tgt := 5) hx hb dX4_womenAt_44 (by decide) ?_
      exact ih3 ((v1 ||| (0 : Int32)), (v2 + (1 : Int32))) _ _ _ ⟨hU, hS, _, rfl, lv_sub hl [2, 3, 4, 1, 0] rfl⟩
    · refine x_iconst (v := 1) hx hb dX4_womenAt_31 (by decide) ?_
      refine x_iload hx hb dX4_womenAt_32 (lv_at hl 4 rfl) ?_
      refine x_ishl hx hb dX4_womenAt_34 ?_
      refine x_goto (tgt := 39) hx hb dX4_womenAt_35 (by decide) ?_
      refine x_ior hx hb dX4_womenAt_39 ?_
      refine x_istore_n (lv' := [(3, .int (v1 ||| ((1 : Int32) <<< (v2 &&& 31)))), (0, .ref (ad (0))), (1, .int p1), (2, .int p2), (4, .int v2)]) hx hb dX4_womenAt_40 rfl hl (by decide) rfl (fun ls hl => ?_)
      refine x_iinc (v := (v2 + (1 : Int32))) (lv' := [(4, .int (v2 + (1 : Int32))), (3, .int (v1 ||| ((1 : Int32) <<< (v2 &&& 31)))), (0, .ref (ad (0))), (1, .int p1), (2, .int p2)]) (k := 4) hx hb dX4_womenAt_41 hl rfl rfl (by decide) rfl (fun ls hl => ?_)
      refine x_goto (tgt := 5) hx hb dX4_womenAt_44 (by decide) ?_
      exact ih3 ((v1 ||| ((1 : Int32) <<< (v2 &&& 31))), (v2 + (1 : Int32))) _ _ _ ⟨hU, hS, _, rfl, lv_sub hl [2, 3, 4, 1, 0] rfl⟩
section MK
variable {ρ : Type} {p : Program} {l : Launch} {e : Env} {R : Room} {s : State} {m : MethodId} {args : Array Value} {below : List Frame} {meth : Method} {c : Code} {H : Heap} {locs : List Loc} {cells slots : Nat} {Qf : ρ → State → Prop}
variable {cc : ByteArray} {pc nL : Nat} {ls : Array Slot} {rest : List Value}
variable {D : va_G} {ct : CT} {ad : Nat → Nat} {A A0 : Nat → Prop} {S : US} {w : Int64} {H0 : Heap}
theorem kM_womenAt {p1 : Int32} {p2 : Int32} (E : ME p m c cc nL s args RX4 D clW ct) (hU : UM D ct ad A S w H) (hS : va_S A0 H0 H locs) (hA0 : ∀ q, H0.size ≤ q → A0 q) (hR : 1 + 1 ≤ R.frames ∧ 8 + (5 + 11) + 32 ≤ R.locals) (hsize : ls.size = nL) (hW : (rest.map fun v => v.category).sum ≤ 8) (hdg : decode cc pc = .ok (.invokevirtual 317, 3)) (hf : cells ≤ R.cells ∧ slots ≤ R.slots) {kp : Int32 → Option ρ} (kk : ∀ (o : Int32) (H1 : Heap) (locs1 : List Loc), UM D ct ad A S w H1 → va_S A0 H0 H1 locs1 → X p l e R s m args below meth c H1 locs1 cells slots Qf (kp o) (F0 m (pc + 3) ls (.int o :: rest))) : X p l e R s m args below meth c H locs cells slots Qf (callK (sM_womenAt S p1 p2) kp) (F0 m pc ls (.int p2 :: .int p1 :: .ref (ad 0) :: rest)) := ucV_pure (i := 0) (As := [.int p1, .int p2]) E hU hS hA0 (by decide) rfl rfl (fun sz o ho => mM_womenAt l D ct ad S w p1 p2 sz o ho) (cwV 2 E.1.2.2.2.2 (lw_V q2200 q2202 qs79 q119 q2203) rfl rfl rfl (by decide +kernel) hR) rfl hsize rfl hW hdg hf kk
end MK

set_option maxHeartbeats 4000000 in
theorem mM_idle (l : Launch) (D : va_G) (ct : CT) (ad : Nat → Nat) (S : US) (w : Int64) (sz : Nat) (o : Int32) (ho : sM_idle S = some o) : Met l yX4_idle (ws_ yX4_idle cX4_idle 3 (some .int)) { frames := 2, cells := 0, slots := 0, locals := 56 } (mP D clW ct [.ref (ad (0))] sz (UM D ct ad (fun _ => True) S w)) (mC (some (.int o)) (fun _ => True) (nA sz)) 0 0 (nA sz) := by
  refine X.start (val := fun (o : Int32) => some (.int o)) (Bt := fun _ _ => True) (A := nA sz) ho (by decide) (Nat.le_of_ble_eq_true rfl) rfl ?_
  intro p e s m args below meth c E hr hlk hnm hsz hU ls hl
  subst hsz
  obtain ⟨⟨hx, hb, hml, hown, hts⟩, hK, hJ⟩ := id E
  have hA0 : ∀ q, s.heap.size ≤ q → (nA s.heap.size) q := fun q h => h
  have hS : va_S (nA s.heap.size) s.heap s.heap [] := va_S.rf
  unfold sM_idle
  refine x_iconst (v := 0) hx hb dX4_idle_0 (by decide) ?_
  refine x_istore_n (lv' := [(1, .int (0 : Int32)), (0, .ref (ad (0)))]) hx hb dX4_idle_1 rfl hl (by decide) rfl (fun ls hl => ?_)
  refine x_iconst (v := 0) hx hb dX4_idle_2 (by decide) ?_
  refine x_istore_n (lv' := [(2, .int (0 : Int32)), (1, .int (0 : Int32)), (0, .ref (ad (0)))]) hx hb dX4_idle_3 rfl hl (by decide) rfl (fun ls hl => ?_)
  refine X.loop (I := fun (x : (Int32 × Int32)) g H locs => UM D ct ad (fun _ => True) S w H ∧ va_S (nA s.heap.size) s.heap H locs ∧ ∃ ls : Array Slot, g = F0 m 4 ls [] ∧ lv_has ls 3 [(0, .ref (ad (0))), (1, .int x.1), (2, .int x.2)]) (fun rc3 ih3 => ?_) FUEL _ _ _ _ ⟨hU, hS, _, rfl, lv_sub hl [2, 1, 0] rfl⟩
  rintro ⟨v1, v2⟩ _ H locs ⟨hU, hS, ls, rfl, hl⟩
  have hU : UM D ct ad (fun _ => True) S w H := hU
  have hl : lv_has ls 3 [(0, .ref (ad (0))), (1, .int v1), (2, .int v2)] := hl
  refine X.eqs (sp2 := sM_idle_L4 S rc3 v1 v2) rfl ?_
  unfold sM_idle_L4
  refine x_iload_n hx hb dX4_idle_4 rfl (lv_at hl 2 rfl) ?_
  refine x_aload_n hx hb dX4_idle_5 rfl (lv_at hl 0 rfl) ?_
  refine gM_women E hU dX4_idle_6 ?_
  refine x_icmp_ge (tgt := 63) hx hb dX4_idle_9 (by decide) (fun hc => ?_) (fun hc => ?_)
  · refine x_iload_n hx hb dX4_idle_63 rfl (lv_at hl 1 rfl) ?_
    exact x_iret hx hb hr hlk hS rfl trivial dX4_idle_64
  · refine x_iload_n hx hb dX4_idle_12 rfl (lv_at hl 1 rfl) ?_
    refine x_aload_n hx hb dX4_idle_13 rfl (lv_at hl 0 rfl) ?_
    refine gM_rows E hU dX4_idle_14 ?_
    refine x_bipush (v := 43) hx hb dX4_idle_17 (by decide) ?_
    refine x_iload_n hx hb dX4_idle_19 rfl (lv_at hl 2 rfl) ?_
    refine x_iadd hx hb dX4_idle_20 ?_
    refine ux_ald (i := 14) (n := 98) E hU (by decide) rfl dX4_idle_21 ?_
    refine x_if_eq (tgt := 48) hx hb dX4_idle_22 (by decide) (fun hc => ?_) (fun hc => ?_)
    · refine x_iconst (v := 1) hx hb dX4_idle_48 (by decide) ?_
      refine x_iload_n hx hb dX4_idle_49 rfl (lv_at hl 2 rfl) ?_
      refine x_ishl hx hb dX4_idle_50 ?_
      refine x_goto (tgt := 55) hx hb dX4_idle_51 (by decide) ?_
      refine x_ior hx hb dX4_idle_55 ?_
      refine x_istore_n (lv' := [(1, .int (v1 ||| ((1 : Int32) <<< (v2 &&& 31)))), (0, .ref (ad (0))), (2, .int v2)]) hx hb dX4_idle_56 rfl hl (by decide) rfl (fun ls hl => ?_)
      refine x_iinc (v := (v2 + (1 : Int32))) (lv' := [(2, .int (v2 + (1 : Int32))), (1, .int (v1 ||| ((1 : Int32) <<< (v2 &&& 31)))), (0, .ref (ad (0)))]) (k := 2) hx hb dX4_idle_57 hl rfl rfl (by decide) rfl (fun ls hl => ?_)
      refine x_goto (tgt := 4) hx hb dX4_idle_60 (by decide) ?_
      exact ih3 ((v1 ||| ((1 : Int32) <<< (v2 &&& 31))), (v2 + (1 : Int32))) _ _ _ ⟨hU, hS, _, rfl, lv_sub hl [2, 1, 0] rfl⟩
    · refine x_aload_n hx hb dX4_idle_25 rfl (lv_at hl 0 rfl) ?_
      refine x_iconst (v := 0) hx hb dX4_idle_26 (by decide) ?_
      refine x_aload_n hx hb dX4_idle_27 rfl (lv_at hl 0 rfl) ?_
      refine gM_rows E hU dX4_idle_28 ?_
      refine x_bipush (v := 37) hx hb dX4_idle_31 (by decide) ?_
      refine x_iload_n hx hb dX4_idle_33 rfl (lv_at hl 2 rfl) ?_
      refine x_iadd hx hb dX4_idle_34 ?_
      refine ux_ald (i := 14) (n := 98) E hU (by decide) rfl dX4_idle_35 ?_
      refine kM_womenAt E hU hS hA0 ⟨by decide, by decide⟩ hl.1 (Nat.le_of_ble_eq_true rfl) dX4_idle_36 ⟨Nat.le_refl _, Nat.le_refl _⟩ (fun o4 H locs hU hS => ?_)
      refine x_iconst (v := 1) hx hb dX4_idle_39 (by decide) ?_
      refine x_iload_n hx hb dX4_idle_40 rfl (lv_at hl 2 rfl) ?_
      refine x_ishl hx hb dX4_idle_41 ?_
      refine x_iconst (v := 1) hx hb dX4_idle_42 (by decide) ?_
      refine x_isub hx hb dX4_idle_43 ?_
      refine x_iand hx hb dX4_idle_44 ?_
      refine x_if_eq (tgt := 54) hx hb dX4_idle_45 (by decide) (fun hc => ?_) (fun hc => ?_)
      · refine x_iconst (v := 0) hx hb dX4_idle_54 (by decide) ?_
        refine x_ior hx hb dX4_idle_55 ?_
        refine x_istore_n (lv' := [(1, .int (v1 ||| (0 : Int32))), (0, .ref (ad (0))), (2, .int v2)]) hx hb dX4_idle_56 rfl hl (by decide) rfl (fun ls hl => ?_)
        refine x_iinc (v := (v2 + (1 : Int32))) (lv' := [(2, .int (v2 + (1 : Int32))), (1, .int (v1 ||| (0 : Int32))), (0, .ref (ad (0)))]) (k := 2) hx hb dX4_idle_57 hl rfl rfl (by decide) rfl (fun ls hl => ?_)
        refine x_goto (tgt := 4) hx hb dX4_idle_60 (by decide) ?_
        exact ih3 ((v1 ||| (0 : Int32)), (v2 + (1 : Int32))) _ _ _ ⟨hU, hS, _, rfl, lv_sub hl [2, 1, 0] rfl⟩
      · refine x_iconst (v := 1) hx hb dX4_idle_48 (by decide) ?_
        refine x_iload_n hx hb dX4_idle_49 rfl (lv_at hl 2 rfl) ?_
        refine x_ishl hx hb dX4_idle_50 ?_
        refine x_goto (tgt := 55) hx hb dX4_idle_51 (by decide) ?_
        refine x_ior hx hb dX4_idle_55 ?_
        refine x_istore_n (lv' := [(1, .int (v1 ||| ((1 : Int32) <<< (v2 &&& 31)))), (0, .ref (ad (0))), (2, .int v2)]) hx hb dX4_idle_56 rfl hl (by decide) rfl (fun ls hl => ?_)
        refine x_iinc (v := (v2 + (1 : Int32))) (lv' := [(2, .int (v2 + (1 : Int32))), (1, .int (v1 ||| ((1 : Int32) <<< (v2 &&& 31)))), (0, .ref (ad (0)))]) (k := 2) hx hb dX4_idle_57 hl rfl rfl (by decide) rfl (fun ls hl => ?_)
        refine x_goto (tgt := 4) hx hb dX4_idle_60 (by decide) ?_
        exact ih3 ((v1 ||| ((1 : Int32) <<< (v2 &&& 31))), (v2 + (1 : Int32))) _ _ _ ⟨hU, hS, _, rfl, lv_sub hl [2, 1, 0] rfl⟩
section MK
variable {ρ : Type} {p : Program} {l : Launch} {e : Env} {R : Room} {s : State} {m : MethodId} {args : Array Value} {below : List Frame} {meth : Method} {c : Code} {H : Heap} {locs : List Loc} {cells slots : Nat} {Qf : ρ → State → Prop}
variable {cc : ByteArray} {pc nL : Nat} {ls : Array Slot} {rest : List Value}
variable {D : va_G} {ct : CT} {ad : Nat → Nat} {A A0 : Nat → Prop} {S : US} {w : Int64} {H0 : Heap}
theorem kM_idle (E : ME p m c cc nL s args RX4 D clW ct) (hU : UM D ct ad A S w H) (hS : va_S A0 H0 H locs) (hA0 : ∀ q, H0.size ≤ q → A0 q) (hR : 2 + 1 ≤ R.frames ∧ 8 + (3 + 11) + 56 ≤ R.locals) (hsize : ls.size = nL) (hW : (rest.map fun v => v.category).sum ≤ 8) (hdg : decode cc pc = .ok (.invokevirtual 372, 3)) (hf : cells ≤ R.cells ∧ slots ≤ R.slots) {kp : Int32 → Option ρ} (kk : ∀ (o : Int32) (H1 : Heap) (locs1 : List Loc), UM D ct ad A S w H1 → va_S A0 H0 H1 locs1 → X p l e R s m args below meth c H1 locs1 cells slots Qf (kp o) (F0 m (pc + 3) ls (.int o :: rest))) : X p l e R s m args below meth c H locs cells slots Qf (callK (sM_idle S) kp) (F0 m pc ls (.ref (ad 0) :: rest)) := ucV_pure (i := 0) (As := []) E hU hS hA0 (by decide) rfl rfl (fun sz o ho => mM_idle l D ct ad S w sz o ho) (cwV 0 E.1.2.2.2.2 (lw_V q2196 q2198 qs78 q119 q2199) rfl rfl rfl (by decide +kernel) hR) rfl hsize rfl hW hdg hf kk
end MK

set_option maxHeartbeats 4000000 in
theorem mM_isGap (l : Launch) (D : va_G) (ct : CT) (ad : Nat → Nat) (S : US) (w : Int64) (p1 : Int32) (p2 : Int32) (sz : Nat) (o : Bool) (ho : sM_isGap S p1 p2 = some o) : Met l yX4_isGap (ws_ yX4_isGap cX4_isGap 3 (some .boolean)) { frames := 1, cells := 0, slots := 0, locals := 32 } (mP D clW ct [.ref (ad (0)), .int p1, .int p2] sz (UM D ct ad (fun _ => True) S w)) (mC (some (.int (bI o))) (fun _ => True) (nA sz)) 0 0 (nA sz) := by
  refine X.start (val := fun (o : Bool) => some (.int (bI o))) (Bt := fun _ _ => True) (A := nA sz) ho (by decide) (Nat.le_of_ble_eq_true rfl) rfl ?_
  intro p e s m args below meth c E hr hlk hnm hsz hU ls hl
  subst hsz
  obtain ⟨⟨hx, hb, hml, hown, hts⟩, hK, hJ⟩ := id E
  have hA0 : ∀ q, s.heap.size ≤ q → (nA s.heap.size) q := fun q h => h
  have hS : va_S (nA s.heap.size) s.heap s.heap [] := va_S.rf
  unfold sM_isGap
  refine x_aload_n hx hb dX4_isGap_0 rfl (lv_at hl 0 rfl) ?_
  refine gM_rows E hU dX4_isGap_1 ?_
  refine x_iload_n hx hb dX4_isGap_4 rfl (lv_at hl 1 rfl) ?_
  refine x_bipush (v := 13) hx hb dX4_isGap_5 (by decide) ?_
  refine x_iadd hx hb dX4_isGap_7 ?_
  refine x_iload_n hx hb dX4_isGap_8 rfl (lv_at hl 2 rfl) ?_
  refine x_iadd hx hb dX4_isGap_9 ?_
  refine ux_ald (i := 14) (n := 98) E hU (by decide) rfl dX4_isGap_10 ?_
  refine x_if_ne (tgt := 18) hx hb dX4_isGap_11 (by decide) (fun hc => ?_) (fun hc => ?_)
  · refine x_iconst (v := 0) hx hb dX4_isGap_18 (by decide) ?_
    exact x_zret hx hb hr hlk hS rfl rfl trivial dX4_isGap_19
  · refine x_iconst (v := 1) hx hb dX4_isGap_14 (by decide) ?_
    refine x_goto (tgt := 19) hx hb dX4_isGap_15 (by decide) ?_
    exact x_zret hx hb hr hlk hS rfl rfl trivial dX4_isGap_19
section MK
variable {ρ : Type} {p : Program} {l : Launch} {e : Env} {R : Room} {s : State} {m : MethodId} {args : Array Value} {below : List Frame} {meth : Method} {c : Code} {H : Heap} {locs : List Loc} {cells slots : Nat} {Qf : ρ → State → Prop}
variable {cc : ByteArray} {pc nL : Nat} {ls : Array Slot} {rest : List Value}
variable {D : va_G} {ct : CT} {ad : Nat → Nat} {A A0 : Nat → Prop} {S : US} {w : Int64} {H0 : Heap}
theorem kM_isGap {p1 : Int32} {p2 : Int32} (E : ME p m c cc nL s args RX4 D clW ct) (hU : UM D ct ad A S w H) (hS : va_S A0 H0 H locs) (hA0 : ∀ q, H0.size ≤ q → A0 q) (hR : 1 + 1 ≤ R.frames ∧ 8 + (3 + 11) + 32 ≤ R.locals) (hsize : ls.size = nL) (hW : (rest.map fun v => v.category).sum ≤ 8) (hdg : decode cc pc = .ok (.invokevirtual 326, 3)) (hf : cells ≤ R.cells ∧ slots ≤ R.slots) {kp : Bool → Option ρ} (kk : ∀ (o : Bool) (H1 : Heap) (locs1 : List Loc), UM D ct ad A S w H1 → va_S A0 H0 H1 locs1 → X p l e R s m args below meth c H1 locs1 cells slots Qf (kp o) (F0 m (pc + 3) ls (.int (bI o) :: rest))) : X p l e R s m args below meth c H locs cells slots Qf (callK (sM_isGap S p1 p2) kp) (F0 m pc ls (.int p2 :: .int p1 :: .ref (ad 0) :: rest)) := ucV_pure (i := 0) (As := [.int p1, .int p2]) E hU hS hA0 (by decide) rfl rfl (fun sz o ho => mM_isGap l D ct ad S w p1 p2 sz o ho) (cwV 2 E.1.2.2.2.2 (lw_V q2188 q2190 qs76 q119 q2191) rfl rfl rfl (by decide +kernel) hR) rfl hsize rfl hW hdg hf kk
end MK

set_option maxHeartbeats 4000000 in
theorem mM_openOnes (l : Launch) (D : va_G) (ct : CT) (ad : Nat → Nat) (S : US) (w : Int64) (p1 : Int32) (sz : Nat) (o : Int32) (ho : sM_openOnes S p1 = some o) : Met l yX4_openOnes (ws_ yX4_openOnes cX4_openOnes 4 (some .int)) { frames := 2, cells := 0, slots := 0, locals := 54 } (mP D clW ct [.ref (ad (0)), .int p1] sz (UM D ct ad (fun _ => True) S w)) (mC (some (.int o)) (fun _ => True) (nA sz)) 0 0 (nA sz) := by
  refine X.start (val := fun (o : Int32) => some (.int o)) (Bt := fun _ _ => True) (A := nA sz) ho (by decide) (Nat.le_of_ble_eq_true rfl) rfl ?_
  intro p e s m args below meth c E hr hlk hnm hsz hU ls hl
  subst hsz
  obtain ⟨⟨hx, hb, hml, hown, hts⟩, hK, hJ⟩ := id E
  have hA0 : ∀ q, s.heap.size ≤ q → (nA s.heap.size) q := fun q h => h
  have hS : va_S (nA s.heap.size) s.heap s.heap [] := va_S.rf
  unfold sM_openOnes
  refine x_iconst (v := 0) hx hb dX4_openOnes_0 (by decide) ?_
  refine x_istore_n (lv' := [(2, .int (0 : Int32)), (0, .ref (ad (0))), (1, .int p1)]) hx hb dX4_openOnes_1 rfl hl (by decide) rfl (fun ls hl => ?_)
  refine x_iconst (v := 0) hx hb dX4_openOnes_2 (by decide) ?_
  refine x_istore_n (lv' := [(3, .int (0 : Int32)), (2, .int (0 : Int32)), (0, .ref (ad (0))), (1, .int p1)]) hx hb dX4_openOnes_3 rfl hl (by decide) rfl (fun ls hl => ?_)
  refine X.loop (I := fun (x : (Int32 × Int32)) g H locs => UM D ct ad (fun _ => True) S w H ∧ va_S (nA s.heap.size) s.heap H locs ∧ ∃ ls : Array Slot, g = F0 m 4 ls [] ∧ lv_has ls 4 [(0, .ref (ad (0))), (1, .int p1), (2, .int x.1), (3, .int x.2)]) (fun rc3 ih3 => ?_) FUEL _ _ _ _ ⟨hU, hS, _, rfl, lv_sub hl [2, 3, 1, 0] rfl⟩
  rintro ⟨v1, v2⟩ _ H locs ⟨hU, hS, ls, rfl, hl⟩
  have hU : UM D ct ad (fun _ => True) S w H := hU
  have hl : lv_has ls 4 [(0, .ref (ad (0))), (1, .int p1), (2, .int v1), (3, .int v2)] := hl
  refine X.eqs (sp2 := sM_openOnes_L4 p1 S rc3 v1 v2) rfl ?_
  unfold sM_openOnes_L4
  refine x_iload_n hx hb dX4_openOnes_4 rfl (lv_at hl 3 rfl) ?_
  refine x_aload_n hx hb dX4_openOnes_5 rfl (lv_at hl 0 rfl) ?_
  refine gM_many E hU dX4_openOnes_6 ?_
  refine x_icmp_ge (tgt := 37) hx hb dX4_openOnes_9 (by decide) (fun hc => ?_) (fun hc => ?_)
  · refine x_iload_n hx hb dX4_openOnes_37 rfl (lv_at hl 2 rfl) ?_
    exact x_iret hx hb hr hlk hS rfl trivial dX4_openOnes_38
  · refine x_iload_n hx hb dX4_openOnes_12 rfl (lv_at hl 2 rfl) ?_
    refine x_aload_n hx hb dX4_openOnes_13 rfl (lv_at hl 0 rfl) ?_
    refine x_iload_n hx hb dX4_openOnes_14 rfl (lv_at hl 1 rfl) ?_
    refine x_iload_n hx hb dX4_openOnes_15 rfl (lv_at hl 3 rfl) ?_
    refine kM_isGap E hU hS hA0 ⟨by decide, by decide⟩ hl.1 (Nat.le_of_ble_eq_true rfl) dX4_openOnes_16 ⟨Nat.le_refl _, Nat.le_refl _⟩ (fun o4 H locs hU hS => ?_)
    refine x_if_eq (tgt := 28) hx hb dX4_openOnes_19 (by decide) (fun hc => ?_) (fun hc => ?_)
    · refine x_iconst (v := 0) hx hb dX4_openOnes_28 (by decide) ?_
      refine x_ior hx hb dX4_openOnes_29 ?_
      refine x_istore_n (lv' := [(2, .int (v1 ||| (0 : Int32))), (0, .ref (ad (0))), (1, .int p1), (3, .int v2)]) hx hb dX4_openOnes_30 rfl hl (by decide) rfl (fun ls hl => ?_)
      refine x_iinc (v := (v2 + (1 : Int32))) (lv' := [(3, .int (v2 + (1 : Int32))), (2, .int (v1 ||| (0 : Int32))), (0, .ref (ad (0))), (1, .int p1)]) (k := 3) hx hb dX4_openOnes_31 hl rfl rfl (by decide) rfl (fun ls hl => ?_)
      refine x_goto (tgt := 4) hx hb dX4_openOnes_34 (by decide) ?_
      exact ih3 ((v1 ||| (0 : Int32)), (v2 + (1 : Int32))) _ _ _ ⟨hU, hS, _, rfl, lv_sub hl [2, 3, 1, 0] rfl⟩
    · refine x_iconst (v := 1) hx hb dX4_openOnes_22 (by decide) ?_
      refine x_iload_n hx hb dX4_openOnes_23 rfl (lv_at hl 3 rfl) ?_
      refine x_ishl hx hb dX4_openOnes_24 ?_
      refine x_goto (tgt := 29) hx hb dX4_openOnes_25 (by decide) ?_
      refine x_ior hx hb dX4_openOnes_29 ?_
      refine x_istore_n (lv' := [(2, .int (v1 ||| ((1 : Int32) <<< (v2 &&& 31)))), (0, .ref (ad (0))), (1, .int p1), (3, .int v2)]) hx hb dX4_openOnes_30 rfl hl (by decide) rfl (fun ls hl => ?_)
      refine x_iinc (v := (v2 + (1 : Int32))) (lv' := [(3, .int (v2 + (1 : Int32))), (2, .int (v1 ||| ((1 : Int32) <<< (v2 &&& 31)))), (0, .ref (ad (0))), (1, .int p1)]) (k := 3) hx hb dX4_openOnes_31 hl rfl rfl (by decide) rfl (fun ls hl => ?_)
      refine x_goto (tgt := 4) hx hb dX4_openOnes_34 (by decide) ?_
      exact ih3 ((v1 ||| ((1 : Int32) <<< (v2 &&& 31))), (v2 + (1 : Int32))) _ _ _ ⟨hU, hS, _, rfl, lv_sub hl [2, 3, 1, 0] rfl⟩
section MK
variable {ρ : Type} {p : Program} {l : Launch} {e : Env} {R : Room} {s : State} {m : MethodId} {args : Array Value} {below : List Frame} {meth : Method} {c : Code} {H : Heap} {locs : List Loc} {cells slots : Nat} {Qf : ρ → State → Prop}
variable {cc : ByteArray} {pc nL : Nat} {ls : Array Slot} {rest : List Value}
variable {D : va_G} {ct : CT} {ad : Nat → Nat} {A A0 : Nat → Prop} {S : US} {w : Int64} {H0 : Heap}
theorem kM_openOnes {p1 : Int32} (E : ME p m c cc nL s args RX4 D clW ct) (hU : UM D ct ad A S w H) (hS : va_S A0 H0 H locs) (hA0 : ∀ q, H0.size ≤ q → A0 q) (hR : 2 + 1 ≤ R.frames ∧ 8 + (4 + 11) + 54 ≤ R.locals) (hsize : ls.size = nL) (hW : (rest.map fun v => v.category).sum ≤ 8) (hdg : decode cc pc = .ok (.invokevirtual 366, 3)) (hf : cells ≤ R.cells ∧ slots ≤ R.slots) {kp : Int32 → Option ρ} (kk : ∀ (o : Int32) (H1 : Heap) (locs1 : List Loc), UM D ct ad A S w H1 → va_S A0 H0 H1 locs1 → X p l e R s m args below meth c H1 locs1 cells slots Qf (kp o) (F0 m (pc + 3) ls (.int o :: rest))) : X p l e R s m args below meth c H locs cells slots Qf (callK (sM_openOnes S p1) kp) (F0 m pc ls (.int p1 :: .ref (ad 0) :: rest)) := ucV_pure (i := 0) (As := [.int p1]) E hU hS hA0 (by decide) rfl rfl (fun sz o ho => mM_openOnes l D ct ad S w p1 sz o ho) (cwV 1 E.1.2.2.2.2 (lw_V q2184 q2186 qs75 q119 q2187) rfl rfl rfl (by decide +kernel) hR) rfl hsize rfl hW hdg hf kk
end MK

set_option maxHeartbeats 4000000 in
theorem mM_sumOf (l : Launch) (D : va_G) (ct : CT) (ad : Nat → Nat) (S : US) (w : Int64) (p1 : Int32) (p2 : Int32) (p3 : Int32) (sz : Nat) (o : Int32) (ho : sM_sumOf S p1 p2 p3 = some o) : Met l yX4_sumOf (ws_ yX4_sumOf cX4_sumOf 6 (some .int)) { frames := 1, cells := 0, slots := 0, locals := 32 } (mP D clW ct [.ref (ad (0)), .int p1, .int p2, .int p3] sz (UM D ct ad (fun _ => True) S w)) (mC (some (.int o)) (fun _ => True) (nA sz)) 0 0 (nA sz) := by
  refine X.start (val := fun (o : Int32) => some (.int o)) (Bt := fun _ _ => True) (A := nA sz) ho (by decide) (Nat.le_of_ble_eq_true rfl) rfl ?_
  intro p e s m args below meth c E hr hlk hnm hsz hU ls hl
  subst hsz
  obtain ⟨⟨hx, hb, hml, hown, hts⟩, hK, hJ⟩ := id E
  have hA0 : ∀ q, s.heap.size ≤ q → (nA s.heap.size) q := fun q h => h
  have hS : va_S (nA s.heap.size) s.heap s.heap [] := va_S.rf
  unfold sM_sumOf
  refine x_iconst (v := 0) hx hb dX4_sumOf_0 (by decide) ?_
  refine x_istore (lv' := [(4, .int (0 : Int32)), (0, .ref (ad (0))), (1, .int p1), (2, .int p2), (3, .int p3)]) hx hb dX4_sumOf_1 hl (by decide) rfl (fun ls hl => ?_)
  refine x_iconst (v := 0) hx hb dX4_sumOf_3 (by decide) ?_
  refine x_istore (lv' := [(5, .int (0 : Int32)), (4, .int (0 : Int32)), (0, .ref (ad (0))), (1, .int p1), (2, .int p2), (3, .int p3)]) hx hb dX4_sumOf_4 hl (by decide) rfl (fun ls hl => ?_)
  refine X.loop (I := fun (x : (Int32 × Int32)) g H locs => UM D ct ad (fun _ => True) S w H ∧ va_S (nA s.heap.size) s.heap H locs ∧ ∃ ls : Array Slot, g = F0 m 6 ls [] ∧ lv_has ls 6 [(0, .ref (ad (0))), (1, .int p1), (2, .int p2), (3, .int p3), (4, .int x.1), (5, .int x.2)]) (fun rc3 ih3 => ?_) FUEL _ _ _ _ ⟨hU, hS, _, rfl, lv_sub hl [2, 3, 4, 5, 1, 0] rfl⟩
  rintro ⟨v1, v2⟩ _ H locs ⟨hU, hS, ls, rfl, hl⟩
  have hU : UM D ct ad (fun _ => True) S w H := hU
  have hl : lv_has ls 6 [(0, .ref (ad (0))), (1, .int p1), (2, .int p2), (3, .int p3), (4, .int v1), (5, .int v2)] := hl
  refine X.eqs (sp2 := sM_sumOf_L6 p1 p2 p3 S rc3 v1 v2) rfl ?_
  unfold sM_sumOf_L6
  refine x_iload hx hb dX4_sumOf_6 (lv_at hl 5 rfl) ?_
  refine x_iload_n hx hb dX4_sumOf_8 rfl (lv_at hl 3 rfl) ?_
  refine x_icmp_ge (tgt := 34) hx hb dX4_sumOf_9 (by decide) (fun hc => ?_) (fun hc => ?_)
  · refine x_iload hx hb dX4_sumOf_34 (lv_at hl 4 rfl) ?_
    exact x_iret hx hb hr hlk hS rfl trivial dX4_sumOf_36
  · refine x_iload hx hb dX4_sumOf_12 (lv_at hl 4 rfl) ?_
    refine x_aload_n hx hb dX4_sumOf_14 rfl (lv_at hl 0 rfl) ?_
    refine gM_rows E hU dX4_sumOf_15 ?_
    refine x_iload_n hx hb dX4_sumOf_18 rfl (lv_at hl 1 rfl) ?_
    refine x_iload_n hx hb dX4_sumOf_19 rfl (lv_at hl 2 rfl) ?_
    refine x_iadd hx hb dX4_sumOf_20 ?_
    refine x_iload hx hb dX4_sumOf_21 (lv_at hl 5 rfl) ?_
    refine x_iadd hx hb dX4_sumOf_23 ?_
    refine ux_ald (i := 14) (n := 98) E hU (by decide) rfl dX4_sumOf_24 ?_
    refine x_iadd hx hb dX4_sumOf_25 ?_
    refine x_istore (lv' := [(4, .int (v1 + (S 14 ((p1 + p2) + v2).toNatClampNeg))), (0, .ref (ad (0))), (1, .int p1), (2, .int p2), (3, .int p3), (5, .int v2)]) hx hb dX4_sumOf_26 hl (by decide) rfl (fun ls hl => ?_)
    refine x_iinc (v := (v2 + (1 : Int32))) (lv' := [(5, .int (v2 + (1 : Int32))), (4, .int (v1 + (S 14 ((p1 + p2) + v2).toNatClampNeg))), (0, .ref (ad (0))), (1, .int p1), (2, .int p2), (3, .int p3)]) (k := 5) hx hb dX4_sumOf_28 hl rfl rfl (by decide) rfl (fun ls hl => ?_)
    refine x_goto (tgt := 6) hx hb dX4_sumOf_31 (by decide) ?_
    exact ih3 ((v1 + (S 14 ((p1 + p2) + v2).toNatClampNeg)), (v2 + (1 : Int32))) _ _ _ ⟨hU, hS, _, rfl, lv_sub hl [2, 3, 4, 5, 1, 0] rfl⟩
section MK
variable {ρ : Type} {p : Program} {l : Launch} {e : Env} {R : Room} {s : State} {m : MethodId} {args : Array Value} {below : List Frame} {meth : Method} {c : Code} {H : Heap} {locs : List Loc} {cells slots : Nat} {Qf : ρ → State → Prop}
variable {cc : ByteArray} {pc nL : Nat} {ls : Array Slot} {rest : List Value}
variable {D : va_G} {ct : CT} {ad : Nat → Nat} {A A0 : Nat → Prop} {S : US} {w : Int64} {H0 : Heap}
theorem kM_sumOf {p1 : Int32} {p2 : Int32} {p3 : Int32} (E : ME p m c cc nL s args RX4 D clW ct) (hU : UM D ct ad A S w H) (hS : va_S A0 H0 H locs) (hA0 : ∀ q, H0.size ≤ q → A0 q) (hR : 1 + 1 ≤ R.frames ∧ 8 + (6 + 11) + 32 ≤ R.locals) (hsize : ls.size = nL) (hW : (rest.map fun v => v.category).sum ≤ 8) (hdg : decode cc pc = .ok (.invokevirtual 369, 3)) (hf : cells ≤ R.cells ∧ slots ≤ R.slots) {kp : Int32 → Option ρ} (kk : ∀ (o : Int32) (H1 : Heap) (locs1 : List Loc), UM D ct ad A S w H1 → va_S A0 H0 H1 locs1 → X p l e R s m args below meth c H1 locs1 cells slots Qf (kp o) (F0 m (pc + 3) ls (.int o :: rest))) : X p l e R s m args below meth c H locs cells slots Qf (callK (sM_sumOf S p1 p2 p3) kp) (F0 m pc ls (.int p3 :: .int p2 :: .int p1 :: .ref (ad 0) :: rest)) := ucV_pure (i := 0) (As := [.int p1, .int p2, .int p3]) E hU hS hA0 (by decide) rfl rfl (fun sz o ho => mM_sumOf l D ct ad S w p1 p2 p3 sz o ho) (cwV 3 E.1.2.2.2.2 (lw_V q2192 q2194 qs77 q119 q2195) rfl rfl rfl (by decide +kernel) hR) rfl hsize rfl hW hdg hf kk
end MK

set_option maxHeartbeats 4000000 in
theorem mM_within (l : Launch) (D : va_G) (ct : CT) (p1 : Int32) (p2 : Int32) (p3 : Int32) (sz : Nat) (o : Bool) (ho : sM_within p1 p2 p3 = some o) : Met l yX4_within (ws_ yX4_within cX4_within 3 (some .boolean)) { frames := 1, cells := 0, slots := 0, locals := 32 } (mP D clW ct [.int p1, .int p2, .int p3] sz (fun _ => True)) (mC (some (.int (bI o))) (fun _ => True) (nA sz)) 0 0 (nA sz) := by
  refine X.start (val := fun (o : Bool) => some (.int (bI o))) (Bt := fun _ _ => True) (A := nA sz) ho (by decide) (Nat.le_of_ble_eq_true rfl) rfl ?_
  intro p e s m args below meth c E hr hlk hnm hsz hU ls hl
  subst hsz
  obtain ⟨⟨hx, hb, hml, hown, hts⟩, hK, hJ⟩ := id E
  have hA0 : ∀ q, s.heap.size ≤ q → (nA s.heap.size) q := fun q h => h
  have hS : va_S (nA s.heap.size) s.heap s.heap [] := va_S.rf
  unfold sM_within
  refine x_iload_n hx hb dX4_within_0 rfl (lv_at hl 0 rfl) ?_
  refine x_iload_n hx hb dX4_within_1 rfl (lv_at hl 1 rfl) ?_
  refine x_icmp_lt (tgt := 14) hx hb dX4_within_2 (by decide) (fun hc => ?_) (fun hc => ?_)
  · refine x_iconst (v := 0) hx hb dX4_within_14 (by decide) ?_
    exact x_zret hx hb hr hlk hS rfl rfl trivial dX4_within_15
  · refine x_iload_n hx hb dX4_within_5 rfl (lv_at hl 0 rfl) ?_
    refine x_iload_n hx hb dX4_within_6 rfl (lv_at hl 2 rfl) ?_
    refine x_icmp_gt (tgt := 14) hx hb dX4_within_7 (by decide) (fun hc => ?_) (fun hc => ?_)
    · refine x_iconst (v := 0) hx hb dX4_within_14 (by decide) ?_
      exact x_zret hx hb hr hlk hS rfl rfl trivial dX4_within_15
    · refine x_iconst (v := 1) hx hb dX4_within_10 (by decide) ?_
      refine x_goto (tgt := 15) hx hb dX4_within_11 (by decide) ?_
      exact x_zret hx hb hr hlk hS rfl rfl trivial dX4_within_15
section MK
variable {ρ : Type} {p : Program} {l : Launch} {e : Env} {R : Room} {s : State} {m : MethodId} {args : Array Value} {below : List Frame} {meth : Method} {c : Code} {H : Heap} {locs : List Loc} {cells slots : Nat} {Qf : ρ → State → Prop}
variable {cc : ByteArray} {pc nL : Nat} {ls : Array Slot} {rest : List Value}
variable {D : va_G} {ct : CT} {ad : Nat → Nat} {A A0 : Nat → Prop} {S : US} {w : Int64} {H0 : Heap}
theorem kM_within {p1 : Int32} {p2 : Int32} {p3 : Int32} (E : ME p m c cc nL s args RX4 D clW ct) (hS : va_S A0 H0 H locs) (hA0 : ∀ q, H0.size ≤ q → A0 q) (hR : 1 + 1 ≤ R.frames ∧ 8 + (3 + 11) + 32 ≤ R.locals) (hsize : ls.size = nL) (hW : (rest.map fun v => v.category).sum ≤ 8) (hdg : decode cc pc = .ok (.invokestatic 362, 3)) (hf : cells ≤ R.cells ∧ slots ≤ R.slots) {kp : Bool → Option ρ} (kk : ∀ (o : Bool) (H1 : Heap) (locs1 : List Loc), (∀ q : Nat, q < H.size → H1[q]? = H[q]?) → va_S A0 H0 H1 locs1 → X p l e R s m args below meth c H1 locs1 cells slots Qf (kp o) (F0 m (pc + 3) ls (.int (bI o) :: rest))) : X p l e R s m args below meth c H locs cells slots Qf (callK (sM_within p1 p2 p3) kp) (F0 m pc ls (.int p3 :: .int p2 :: .int p1 :: rest)) := ucS (As := [.int p1, .int p2, .int p3]) E hS hA0 (fun sz o ho => mM_within l D ct p1 p2 p3 sz o ho) (va_cwS 3 E.1.2.2.2.2 (lw_S q2181 q2182 q119 q2183) rfl rfl rfl (by decide +kernel) hR) rfl hsize rfl hW hdg hf kk
end MK

set_option maxHeartbeats 4000000 in
theorem mM_count (l : Launch) (D : va_G) (ct : CT) (ad : Nat → Nat) (S : US) (w : Int64) (p1 : Int32) (sz : Nat) (o : (Int32 × US)) (ho : sM_count S p1 = some o) : Met l yX4_count (ws_ yX4_count cX4_count 2 (some .int)) { frames := 3, cells := 0, slots := 0, locals := 78 } (mP D clW ct [.ref (ad (0)), .int p1] sz (UM D ct ad (fun _ => True) S w)) (mC (some (.int o.1)) (UM D ct ad (fun _ => True) o.2 w) (uA 31 ad sz)) 0 0 (uA 31 ad sz) := by
  refine X.start (val := fun (o : (Int32 × US)) => some (.int o.1)) (Bt := fun (o : (Int32 × US)) => UM D ct ad (fun _ => True) o.2 w) (A := uA 31 ad sz) ho (by decide) (Nat.le_of_ble_eq_true rfl) rfl ?_
  intro p e s m args below meth c E hr hlk hnm hsz hU ls hl
  subst hsz
  obtain ⟨⟨hx, hb, hml, hown, hts⟩, hK, hJ⟩ := id E
  replace hU := hU.to (B := uA 31 ad s.heap.size) (fun i hi => Or.inl ⟨i, hi, rfl⟩)
  have hA0 : ∀ q, s.heap.size ≤ q → (uA 31 ad s.heap.size) q := fun q h => Or.inr h
  have hS : va_S (uA 31 ad s.heap.size) s.heap s.heap [] := va_S.rf
  unfold sM_count
  refine x_aload_n hx hb dX4_count_0 rfl (lv_at hl 0 rfl) ?_
  refine x_iconst (v := 0) hx hb dX4_count_1 (by decide) ?_
  refine pM_thrown E hU hS dX4_count_2 (fun S1 H locs hU hS => ?_)
  refine x_aload_n hx hb dX4_count_5 rfl (lv_at hl 0 rfl) ?_
  refine x_iload_n hx hb dX4_count_6 rfl (lv_at hl 1 rfl) ?_
  refine x_iconst (v := 0) hx hb dX4_count_7 (by decide) ?_
  refine x_bipush (v := 14) hx hb dX4_count_8 (by decide) ?_
  refine kM_within E hS hA0 ⟨by decide, by decide⟩ hl.1 (Nat.le_of_ble_eq_true rfl) dX4_count_10 ⟨Nat.le_refl _, Nat.le_refl _⟩ (fun o2 H locs hk hS => ?_)
  replace hU := hU.kept (fun i hi => hk _ (hU.lt hi))
  refine x_iconst (v := 1) hx hb dX4_count_13 (by decide) ?_
  refine kM_right E hU hS hA0 ⟨by decide, by decide⟩ hl.1 (Nat.le_of_ble_eq_true rfl) dX4_count_14 ⟨Nat.le_refl _, Nat.le_refl _⟩ (fun o3 H locs hU hS => ?_)
  refine x_if_ne (tgt := 22) hx hb dX4_count_17 (by decide) (fun hc => ?_) (fun hc => ?_)
  · refine x_iload_n hx hb dX4_count_22 rfl (lv_at hl 1 rfl) ?_
    refine X.ite (fun hc => ?_) (fun hc0 => ?_)
    · refine x_tabEq (tgt := 84) hx hb hc dX4_count_23 (by decide) (by decide) rfl (by decide) ?_
      refine x_aload_n hx hb dX4_count_84 rfl (lv_at hl 0 rfl) ?_
      refine gM_many E hU dX4_count_85 ?_
      exact x_iret hx hb hr hlk hS rfl (hU.to fun _ _ => trivial) dX4_count_88
    refine X.ite (fun hc => ?_) (fun hc1 => ?_)
    · refine x_tabEq (tgt := 89) hx hb hc dX4_count_23 (by decide) (by decide) rfl (by decide) ?_
      refine x_aload_n hx hb dX4_count_89 rfl (lv_at hl 0 rfl) ?_
      refine gM_women E hU dX4_count_90 ?_
      exact x_iret hx hb hr hlk hS rfl (hU.to fun _ _ => trivial) dX4_count_93
    refine X.ite (fun hc => ?_) (fun hc2 => ?_)
    · refine x_tabEq (tgt := 94) hx hb hc dX4_count_23 (by decide) (by decide) rfl (by decide) ?_
      refine x_aload_n hx hb dX4_count_94 rfl (lv_at hl 0 rfl) ?_
      refine gM_knots E hU dX4_count_95 ?_
      exact x_iret hx hb hr hlk hS rfl (hU.to fun _ _ => trivial) dX4_count_98
    refine X.ite (fun hc => ?_) (fun hc3 => ?_)
    · refine x_tabEq (tgt := 99) hx hb hc dX4_count_23 (by decide) (by decide) rfl (by decide) ?_
      refine x_aload_n hx hb dX4_count_99 rfl (lv_at hl 0 rfl) ?_
      refine gM_week E hU dX4_count_100 ?_
      exact x_iret hx hb hr hlk hS rfl (hU.to fun _ _ => trivial) dX4_count_103
    refine X.ite (fun hc => ?_) (fun hc4 => ?_)
    · refine x_tabEq (tgt := 104) hx hb hc dX4_count_23 (by decide) (by decide) rfl (by decide) ?_
      refine x_aload_n hx hb dX4_count_104 rfl (lv_at hl 0 rfl) ?_
      refine gM_rows E hU dX4_count_105 ?_
      refine x_iconst (v := 0) hx hb dX4_count_108 (by decide) ?_
      refine ux_ald (i := 14) (n := 98) E hU (by decide) rfl dX4_count_109 ?_
      exact x_iret hx hb hr hlk hS rfl (hU.to fun _ _ => trivial) dX4_count_110
    refine X.ite (fun hc => ?_) (fun hc5 => ?_)
    · refine x_tabEq (tgt := 111) hx hb hc dX4_count_23 (by decide) (by decide) rfl (by decide) ?_
      refine x_aload_n hx hb dX4_count_111 rfl (lv_at hl 0 rfl) ?_
      refine x_iconst (v := 0) hx hb dX4_count_112 (by decide) ?_
      refine kM_openOnes E hU hS hA0 ⟨by decide, by decide⟩ hl.1 (Nat.le_of_ble_eq_true rfl) dX4_count_113 ⟨Nat.le_refl _, Nat.le_refl _⟩ (fun o4 H locs hU hS => ?_)
      exact x_iret hx hb hr hlk hS rfl (hU.to fun _ _ => trivial) dX4_count_116
    refine X.ite (fun hc => ?_) (fun hc6 => ?_)
    · refine x_tabEq (tgt := 117) hx hb hc dX4_count_23 (by decide) (by decide) rfl (by decide) ?_
      refine x_aload_n hx hb dX4_count_117 rfl (lv_at hl 0 rfl) ?_
      refine x_iconst (v := 0) hx hb dX4_count_118 (by decide) ?_
      refine x_bipush (v := 13) hx hb dX4_count_119 (by decide) ?_
      refine x_aload_n hx hb dX4_count_121 rfl (lv_at hl 0 rfl) ?_
      refine gM_many E hU dX4_count_122 ?_
      refine kM_sumOf E hU hS hA0 ⟨by decide, by decide⟩ hl.1 (Nat.le_of_ble_eq_true rfl) dX4_count_125 ⟨Nat.le_refl _, Nat.le_refl _⟩ (fun o5 H locs hU hS => ?_)
      exact x_iret hx hb hr hlk hS rfl (hU.to fun _ _ => trivial) dX4_count_128
    refine X.ite (fun hc => ?_) (fun hc7 => ?_)
    · refine x_tabEq (tgt := 129) hx hb hc dX4_count_23 (by decide) (by decide) rfl (by decide) ?_
      refine x_aload_n hx hb dX4_count_129 rfl (lv_at hl 0 rfl) ?_
      refine x_iconst (v := 0) hx hb dX4_count_130 (by decide) ?_
      refine x_bipush (v := 43) hx hb dX4_count_131 (by decide) ?_
      refine x_aload_n hx hb dX4_count_133 rfl (lv_at hl 0 rfl) ?_
      refine gM_women E hU dX4_count_134 ?_
      refine kM_sumOf E hU hS hA0 ⟨by decide, by decide⟩ hl.1 (Nat.le_of_ble_eq_true rfl) dX4_count_137 ⟨Nat.le_refl _, Nat.le_refl _⟩ (fun o6 H locs hU hS => ?_)
      exact x_iret hx hb hr hlk hS rfl (hU.to fun _ _ => trivial) dX4_count_140
    refine X.ite (fun hc => ?_) (fun hc8 => ?_)
    · refine x_tabEq (tgt := 141) hx hb hc dX4_count_23 (by decide) (by decide) rfl (by decide) ?_
      refine x_aload_n hx hb dX4_count_141 rfl (lv_at hl 0 rfl) ?_
      refine kM_idle E hU hS hA0 ⟨by decide, by decide⟩ hl.1 (Nat.le_of_ble_eq_true rfl) dX4_count_142 ⟨Nat.le_refl _, Nat.le_refl _⟩ (fun o7 H locs hU hS => ?_)
      exact x_iret hx hb hr hlk hS rfl (hU.to fun _ _ => trivial) dX4_count_145
    refine X.ite (fun hc => ?_) (fun hc9 => ?_)
    · refine x_tabEq (tgt := 146) hx hb hc dX4_count_23 (by decide) (by decide) rfl (by decide) ?_
      refine x_aload_n hx hb dX4_count_146 rfl (lv_at hl 0 rfl) ?_
      refine gM_acts E hU dX4_count_147 ?_
      exact x_iret hx hb hr hlk hS rfl (hU.to fun _ _ => trivial) dX4_count_150
    refine X.ite (fun hc => ?_) (fun hc10 => ?_)
    · refine x_tabEq (tgt := 151) hx hb hc dX4_count_23 (by decide) (by decide) rfl (by decide) ?_
      refine x_aload_n hx hb dX4_count_151 rfl (lv_at hl 0 rfl) ?_
      refine gM_seenMany E hU dX4_count_152 ?_
      exact x_iret hx hb hr hlk hS rfl (hU.to fun _ _ => trivial) dX4_count_155
    refine X.ite (fun hc => ?_) (fun hc11 => ?_)
    · refine x_tabEq (tgt := 156) hx hb hc dX4_count_23 (by decide) (by decide) rfl (by decide) ?_
      refine x_aload_n hx hb dX4_count_156 rfl (lv_at hl 0 rfl) ?_
      refine gM_taped E hU dX4_count_157 ?_
      exact x_iret hx hb hr hlk hS rfl (hU.to fun _ _ => trivial) dX4_count_160
    refine x_tabElse2 (n := 12) (tgt := 161) hx hb dX4_count_23 [0, 1, 2, 3, 4, 5, 6, 7, 8, 9, 10, 11] (by decide) (by decide) (List.forall_mem_cons.mpr ⟨fun he => absurd (x_i32 he (0 : Int32) (by decide)) hc0, (List.forall_mem_cons.mpr ⟨fun he => absurd (x_i32 he (1 : Int32) (by decide)) hc1, (List.forall_mem_cons.mpr ⟨fun he => absurd (x_i32 he (2 : Int32) (by decide)) hc2, (List.forall_mem_cons.mpr ⟨fun he => absurd (x_i32 he (3 : Int32) (by decide)) hc3, (List.forall_mem_cons.mpr ⟨fun he => absurd (x_i32 he (4 : Int32) (by decide)) hc4, (List.forall_mem_cons.mpr ⟨fun he => absurd (x_i32 he (5 : Int32) (by decide)) hc5, (List.forall_mem_cons.mpr ⟨fun he => absurd (x_i32 he (6 : Int32) (by decide)) hc6, (List.forall_mem_cons.mpr ⟨fun he => absurd (x_i32 he (7 : Int32) (by decide)) hc7, (List.forall_mem_cons.mpr ⟨fun he => absurd (x_i32 he (8 : Int32) (by decide)) hc8, (List.forall_mem_cons.mpr ⟨fun he => absurd (x_i32 he (9 : Int32) (by decide)) hc9, (List.forall_mem_cons.mpr ⟨fun he => absurd (x_i32 he (10 : Int32) (by decide)) hc10, (List.forall_mem_cons.mpr ⟨fun he => absurd (x_i32 he (11 : Int32) (by decide)) hc11, (fun _ h => absurd h List.not_mem_nil)⟩)⟩)⟩)⟩)⟩)⟩)⟩)⟩)⟩)⟩)⟩)⟩) (by decide) ?_
    refine x_aload_n hx hb dX4_count_161 rfl (lv_at hl 0 rfl) ?_
    refine gM_refused E hU dX4_count_162 ?_
    refine x_iload_n hx hb dX4_count_165 rfl (lv_at hl 1 rfl) ?_
    refine x_bipush (v := 12) hx hb dX4_count_166 (by decide) ?_
    refine x_isub hx hb dX4_count_168 ?_
    refine ux_ald (i := 6) (n := 3) E hU (by decide) rfl dX4_count_169 ?_
    exact x_iret hx hb hr hlk hS rfl (hU.to fun _ _ => trivial) dX4_count_170
  · refine x_iconst (v := 0) hx hb dX4_count_20 (by decide) ?_
    exact x_iret hx hb hr hlk hS rfl (hU.to fun _ _ => trivial) dX4_count_21

set_option maxHeartbeats 4000000 in
theorem mM_ahead1 (l : Launch) (D : va_G) (ct : CT) (ad : Nat → Nat) (S : US) (w : Int64) (p1 : Int32) (sz : Nat) (o : Int32) (ho : sM_ahead1 S p1 = some o) : Met l yX4_ahead1 (ws_ yX4_ahead1 cX4_ahead1 2 (some .int)) { frames := 1, cells := 0, slots := 0, locals := 32 } (mP D clW ct [.ref (ad (0)), .int p1] sz (UM D ct ad (fun _ => True) S w)) (mC (some (.int o)) (fun _ => True) (nA sz)) 0 0 (nA sz) := by
  refine X.start (val := fun (o : Int32) => some (.int o)) (Bt := fun _ _ => True) (A := nA sz) ho (by decide) (Nat.le_of_ble_eq_true rfl) rfl ?_
  intro p e s m args below meth c E hr hlk hnm hsz hU ls hl
  subst hsz
  obtain ⟨⟨hx, hb, hml, hown, hts⟩, hK, hJ⟩ := id E
  have hA0 : ∀ q, s.heap.size ≤ q → (nA s.heap.size) q := fun q h => h
  have hS : va_S (nA s.heap.size) s.heap s.heap [] := va_S.rf
  unfold sM_ahead1
  refine x_iload_n hx hb dX4_ahead1_0 rfl (lv_at hl 1 rfl) ?_
  refine x_if_ne (tgt := 13) hx hb dX4_ahead1_1 (by decide) (fun hc => ?_) (fun hc => ?_)
  · refine x_iload_n hx hb dX4_ahead1_13 rfl (lv_at hl 1 rfl) ?_
    refine x_iconst (v := 1) hx hb dX4_ahead1_14 (by decide) ?_
    refine x_isub hx hb dX4_ahead1_15 ?_
    exact x_iret hx hb hr hlk hS rfl trivial dX4_ahead1_16
  · refine x_aload_n hx hb dX4_ahead1_4 rfl (lv_at hl 0 rfl) ?_
    refine gM_many E hU dX4_ahead1_5 ?_
    refine x_iconst (v := 1) hx hb dX4_ahead1_8 (by decide) ?_
    refine x_isub hx hb dX4_ahead1_9 ?_
    refine x_goto (tgt := 16) hx hb dX4_ahead1_10 (by decide) ?_
    exact x_iret hx hb hr hlk hS rfl trivial dX4_ahead1_16
section MK
variable {ρ : Type} {p : Program} {l : Launch} {e : Env} {R : Room} {s : State} {m : MethodId} {args : Array Value} {below : List Frame} {meth : Method} {c : Code} {H : Heap} {locs : List Loc} {cells slots : Nat} {Qf : ρ → State → Prop}
variable {cc : ByteArray} {pc nL : Nat} {ls : Array Slot} {rest : List Value}
variable {D : va_G} {ct : CT} {ad : Nat → Nat} {A A0 : Nat → Prop} {S : US} {w : Int64} {H0 : Heap}
theorem kM_ahead1 {p1 : Int32} (E : ME p m c cc nL s args RX4 D clW ct) (hU : UM D ct ad A S w H) (hS : va_S A0 H0 H locs) (hA0 : ∀ q, H0.size ≤ q → A0 q) (hR : 1 + 1 ≤ R.frames ∧ 8 + (2 + 11) + 32 ≤ R.locals) (hsize : ls.size = nL) (hW : (rest.map fun v => v.category).sum ≤ 8) (hdg : decode cc pc = .ok (.invokevirtual 308, 3)) (hf : cells ≤ R.cells ∧ slots ≤ R.slots) {kp : Int32 → Option ρ} (kk : ∀ (o : Int32) (H1 : Heap) (locs1 : List Loc), UM D ct ad A S w H1 → va_S A0 H0 H1 locs1 → X p l e R s m args below meth c H1 locs1 cells slots Qf (kp o) (F0 m (pc + 3) ls (.int o :: rest))) : X p l e R s m args below meth c H locs cells slots Qf (callK (sM_ahead1 S p1) kp) (F0 m pc ls (.int p1 :: .ref (ad 0) :: rest)) := ucV_pure (i := 0) (As := [.int p1]) E hU hS hA0 (by decide) rfl rfl (fun sz o ho => mM_ahead1 l D ct ad S w p1 sz o ho) (cwV 1 E.1.2.2.2.2 (lw_V q2228 q2230 qs85 q119 q2231) rfl rfl rfl (by decide +kernel) hR) rfl hsize rfl hW hdg hf kk
end MK

set_option maxHeartbeats 4000000 in
theorem mM_behind1 (l : Launch) (D : va_G) (ct : CT) (ad : Nat → Nat) (S : US) (w : Int64) (p1 : Int32) (sz : Nat) (o : Int32) (ho : sM_behind1 S p1 = some o) : Met l yX4_behind1 (ws_ yX4_behind1 cX4_behind1 2 (some .int)) { frames := 1, cells := 0, slots := 0, locals := 32 } (mP D clW ct [.ref (ad (0)), .int p1] sz (UM D ct ad (fun _ => True) S w)) (mC (some (.int o)) (fun _ => True) (nA sz)) 0 0 (nA sz) := by
  refine X.start (val := fun (o : Int32) => some (.int o)) (Bt := fun _ _ => True) (A := nA sz) ho (by decide) (Nat.le_of_ble_eq_true rfl) rfl ?_
  intro p e s m args below meth c E hr hlk hnm hsz hU ls hl
  subst hsz
  obtain ⟨⟨hx, hb, hml, hown, hts⟩, hK, hJ⟩ := id E
  have hA0 : ∀ q, s.heap.size ≤ q → (nA s.heap.size) q := fun q h => h
  have hS : va_S (nA s.heap.size) s.heap s.heap [] := va_S.rf
  unfold sM_behind1
  refine x_iload_n hx hb dX4_behind1_0 rfl (lv_at hl 1 rfl) ?_
  refine x_aload_n hx hb dX4_behind1_1 rfl (lv_at hl 0 rfl) ?_
  refine gM_many E hU dX4_behind1_2 ?_
  refine x_iconst (v := 1) hx hb dX4_behind1_5 (by decide) ?_
  refine x_isub hx hb dX4_behind1_6 ?_
  refine x_icmp_ne (tgt := 14) hx hb dX4_behind1_7 (by decide) (fun hc => ?_) (fun hc => ?_)
  · refine x_iload_n hx hb dX4_behind1_14 rfl (lv_at hl 1 rfl) ?_
    refine x_iconst (v := 1) hx hb dX4_behind1_15 (by decide) ?_
    refine x_iadd hx hb dX4_behind1_16 ?_
    exact x_iret hx hb hr hlk hS rfl trivial dX4_behind1_17
  · refine x_iconst (v := 0) hx hb dX4_behind1_10 (by decide) ?_
    refine x_goto (tgt := 17) hx hb dX4_behind1_11 (by decide) ?_
    exact x_iret hx hb hr hlk hS rfl trivial dX4_behind1_17
section MK
variable {ρ : Type} {p : Program} {l : Launch} {e : Env} {R : Room} {s : State} {m : MethodId} {args : Array Value} {below : List Frame} {meth : Method} {c : Code} {H : Heap} {locs : List Loc} {cells slots : Nat} {Qf : ρ → State → Prop}
variable {cc : ByteArray} {pc nL : Nat} {ls : Array Slot} {rest : List Value}
variable {D : va_G} {ct : CT} {ad : Nat → Nat} {A A0 : Nat → Prop} {S : US} {w : Int64} {H0 : Heap}
theorem kM_behind1 {p1 : Int32} (E : ME p m c cc nL s args RX4 D clW ct) (hU : UM D ct ad A S w H) (hS : va_S A0 H0 H locs) (hA0 : ∀ q, H0.size ≤ q → A0 q) (hR : 1 + 1 ≤ R.frames ∧ 8 + (2 + 11) + 32 ≤ R.locals) (hsize : ls.size = nL) (hW : (rest.map fun v => v.category).sum ≤ 8) (hdg : decode cc pc = .ok (.invokevirtual 311, 3)) (hf : cells ≤ R.cells ∧ slots ≤ R.slots) {kp : Int32 → Option ρ} (kk : ∀ (o : Int32) (H1 : Heap) (locs1 : List Loc), UM D ct ad A S w H1 → va_S A0 H0 H1 locs1 → X p l e R s m args below meth c H1 locs1 cells slots Qf (kp o) (F0 m (pc + 3) ls (.int o :: rest))) : X p l e R s m args below meth c H locs cells slots Qf (callK (sM_behind1 S p1) kp) (F0 m pc ls (.int p1 :: .ref (ad 0) :: rest)) := ucV_pure (i := 0) (As := [.int p1]) E hU hS hA0 (by decide) rfl rfl (fun sz o ho => mM_behind1 l D ct ad S w p1 sz o ho) (cwV 1 E.1.2.2.2.2 (lw_V q2232 q2234 qs86 q119 q2235) rfl rfl rfl (by decide +kernel) hR) rfl hsize rfl hW hdg hf kk
end MK

set_option maxHeartbeats 4000000 in
theorem mM_besideOf (l : Launch) (D : va_G) (ct : CT) (ad : Nat → Nat) (S : US) (w : Int64) (p1 : Int32) (p2 : Int32) (sz : Nat) (o : Int32) (ho : sM_besideOf S p1 p2 = some o) : Met l yX4_besideOf (ws_ yX4_besideOf cX4_besideOf 3 (some .int)) { frames := 2, cells := 0, slots := 0, locals := 53 } (mP D clW ct [.ref (ad (0)), .int p1, .int p2] sz (UM D ct ad (fun _ => True) S w)) (mC (some (.int o)) (fun _ => True) (nA sz)) 0 0 (nA sz) := by
  refine X.start (val := fun (o : Int32) => some (.int o)) (Bt := fun _ _ => True) (A := nA sz) ho (by decide) (Nat.le_of_ble_eq_true rfl) rfl ?_
  intro p e s m args below meth c E hr hlk hnm hsz hU ls hl
  subst hsz
  obtain ⟨⟨hx, hb, hml, hown, hts⟩, hK, hJ⟩ := id E
  have hA0 : ∀ q, s.heap.size ≤ q → (nA s.heap.size) q := fun q h => h
  have hS : va_S (nA s.heap.size) s.heap s.heap [] := va_S.rf
  unfold sM_besideOf
  refine x_aload_n hx hb dX4_besideOf_0 rfl (lv_at hl 0 rfl) ?_
  refine gM_rows E hU dX4_besideOf_1 ?_
  refine x_iload_n hx hb dX4_besideOf_4 rfl (lv_at hl 1 rfl) ?_
  refine x_iconst (v := 1) hx hb dX4_besideOf_5 (by decide) ?_
  refine x_iadd hx hb dX4_besideOf_6 ?_
  refine x_aload_n hx hb dX4_besideOf_7 rfl (lv_at hl 0 rfl) ?_
  refine x_iload_n hx hb dX4_besideOf_8 rfl (lv_at hl 2 rfl) ?_
  refine kM_ahead1 E hU hS hA0 ⟨by decide, by decide⟩ hl.1 (Nat.le_of_ble_eq_true rfl) dX4_besideOf_9 ⟨Nat.le_refl _, Nat.le_refl _⟩ (fun o1 H locs hU hS => ?_)
  refine x_iadd hx hb dX4_besideOf_12 ?_
  refine ux_ald (i := 14) (n := 98) E hU (by decide) rfl dX4_besideOf_13 ?_
  refine x_aload_n hx hb dX4_besideOf_14 rfl (lv_at hl 0 rfl) ?_
  refine gM_rows E hU dX4_besideOf_15 ?_
  refine x_iload_n hx hb dX4_besideOf_18 rfl (lv_at hl 1 rfl) ?_
  refine x_iconst (v := 1) hx hb dX4_besideOf_19 (by decide) ?_
  refine x_iadd hx hb dX4_besideOf_20 ?_
  refine x_aload_n hx hb dX4_besideOf_21 rfl (lv_at hl 0 rfl) ?_
  refine x_iload_n hx hb dX4_besideOf_22 rfl (lv_at hl 2 rfl) ?_
  refine kM_behind1 E hU hS hA0 ⟨by decide, by decide⟩ hl.1 (Nat.le_of_ble_eq_true rfl) dX4_besideOf_23 ⟨Nat.le_refl _, Nat.le_refl _⟩ (fun o2 H locs hU hS => ?_)
  refine x_iadd hx hb dX4_besideOf_26 ?_
  refine ux_ald (i := 14) (n := 98) E hU (by decide) rfl dX4_besideOf_27 ?_
  refine x_iadd hx hb dX4_besideOf_28 ?_
  exact x_iret hx hb hr hlk hS rfl trivial dX4_besideOf_29
section MK
variable {ρ : Type} {p : Program} {l : Launch} {e : Env} {R : Room} {s : State} {m : MethodId} {args : Array Value} {below : List Frame} {meth : Method} {c : Code} {H : Heap} {locs : List Loc} {cells slots : Nat} {Qf : ρ → State → Prop}
variable {cc : ByteArray} {pc nL : Nat} {ls : Array Slot} {rest : List Value}
variable {D : va_G} {ct : CT} {ad : Nat → Nat} {A A0 : Nat → Prop} {S : US} {w : Int64} {H0 : Heap}
theorem kM_besideOf {p1 : Int32} {p2 : Int32} (E : ME p m c cc nL s args RX4 D clW ct) (hU : UM D ct ad A S w H) (hS : va_S A0 H0 H locs) (hA0 : ∀ q, H0.size ≤ q → A0 q) (hR : 2 + 1 ≤ R.frames ∧ 8 + (3 + 11) + 53 ≤ R.locals) (hsize : ls.size = nL) (hW : (rest.map fun v => v.category).sum ≤ 8) (hdg : decode cc pc = .ok (.invokevirtual 314, 3)) (hf : cells ≤ R.cells ∧ slots ≤ R.slots) {kp : Int32 → Option ρ} (kk : ∀ (o : Int32) (H1 : Heap) (locs1 : List Loc), UM D ct ad A S w H1 → va_S A0 H0 H1 locs1 → X p l e R s m args below meth c H1 locs1 cells slots Qf (kp o) (F0 m (pc + 3) ls (.int o :: rest))) : X p l e R s m args below meth c H locs cells slots Qf (callK (sM_besideOf S p1 p2) kp) (F0 m pc ls (.int p2 :: .int p1 :: .ref (ad 0) :: rest)) := ucV_pure (i := 0) (As := [.int p1, .int p2]) E hU hS hA0 (by decide) rfl rfl (fun sz o ho => mM_besideOf l D ct ad S w p1 p2 sz o ho) (cwV 2 E.1.2.2.2.2 (lw_V q2224 q2226 qs84 q119 q2227) rfl rfl rfl (by decide +kernel) hR) rfl hsize rfl hW hdg hf kk
end MK

set_option maxHeartbeats 4000000 in
theorem mM_bits (l : Launch) (D : va_G) (ct : CT) (p1 : Int32) (sz : Nat) (o : Int32) (ho : sM_bits p1 = some o) : Met l yX4_bits (ws_ yX4_bits cX4_bits 3 (some .int)) { frames := 1, cells := 0, slots := 0, locals := 32 } (mP D clW ct [.int p1] sz (fun _ => True)) (mC (some (.int o)) (fun _ => True) (nA sz)) 0 0 (nA sz) := by
  refine X.start (val := fun (o : Int32) => some (.int o)) (Bt := fun _ _ => True) (A := nA sz) ho (by decide) (Nat.le_of_ble_eq_true rfl) rfl ?_
  intro p e s m args below meth c E hr hlk hnm hsz hU ls hl
  subst hsz
  obtain ⟨⟨hx, hb, hml, hown, hts⟩, hK, hJ⟩ := id E
  have hA0 : ∀ q, s.heap.size ≤ q → (nA s.heap.size) q := fun q h => h
  have hS : va_S (nA s.heap.size) s.heap s.heap [] := va_S.rf
  unfold sM_bits
  refine x_iconst (v := 0) hx hb dX4_bits_0 (by decide) ?_
  refine x_istore_n (lv' := [(1, .int (0 : Int32)), (0, .int p1)]) hx hb dX4_bits_1 rfl hl (by decide) rfl (fun ls hl => ?_)
  refine x_iconst (v := 0) hx hb dX4_bits_2 (by decide) ?_
  refine x_istore_n (lv' := [(2, .int (0 : Int32)), (1, .int (0 : Int32)), (0, .int p1)]) hx hb dX4_bits_3 rfl hl (by decide) rfl (fun ls hl => ?_)
  refine X.loop (I := fun (x : (Int32 × Int32)) g H locs => va_S (nA s.heap.size) s.heap H locs ∧ ∃ ls : Array Slot, g = F0 m 4 ls [] ∧ lv_has ls 3 [(0, .int p1), (1, .int x.1), (2, .int x.2)]) (fun rc3 ih3 => ?_) FUEL _ _ _ _ ⟨hS, _, rfl, lv_sub hl [2, 1, 0] rfl⟩
  rintro ⟨v1, v2⟩ _ H locs ⟨hS, ls, rfl, hl⟩
  have hl : lv_has ls 3 [(0, .int p1), (1, .int v1), (2, .int v2)] := hl
  refine X.eqs (sp2 := sM_bits_L4 p1 rc3 v1 v2) rfl ?_
  unfold sM_bits_L4
  refine x_iload_n hx hb dX4_bits_4 rfl (lv_at hl 2 rfl) ?_
  refine x_bipush (v := 12) hx hb dX4_bits_5 (by decide) ?_
  refine x_icmp_ge (tgt := 24) hx hb dX4_bits_7 (by decide) (fun hc => ?_) (fun hc => ?_)
  · refine x_iload_n hx hb dX4_bits_24 rfl (lv_at hl 1 rfl) ?_
    exact x_iret hx hb hr hlk hS rfl trivial dX4_bits_25
  · refine x_iload_n hx hb dX4_bits_10 rfl (lv_at hl 1 rfl) ?_
    refine x_iload_n hx hb dX4_bits_11 rfl (lv_at hl 0 rfl) ?_
    refine x_iload_n hx hb dX4_bits_12 rfl (lv_at hl 2 rfl) ?_
    refine x_ishr hx hb dX4_bits_13 ?_
    refine x_iconst (v := 1) hx hb dX4_bits_14 (by decide) ?_
    refine x_iand hx hb dX4_bits_15 ?_
    refine x_iadd hx hb dX4_bits_16 ?_
    refine x_istore_n (lv' := [(1, .int (v1 + ((p1 >>> (v2 &&& 31)) &&& (1 : Int32)))), (0, .int p1), (2, .int v2)]) hx hb dX4_bits_17 rfl hl (by decide) rfl (fun ls hl => ?_)
    refine x_iinc (v := (v2 + (1 : Int32))) (lv' := [(2, .int (v2 + (1 : Int32))), (1, .int (v1 + ((p1 >>> (v2 &&& 31)) &&& (1 : Int32)))), (0, .int p1)]) (k := 2) hx hb dX4_bits_18 hl rfl rfl (by decide) rfl (fun ls hl => ?_)
    refine x_goto (tgt := 4) hx hb dX4_bits_21 (by decide) ?_
    exact ih3 ((v1 + ((p1 >>> (v2 &&& 31)) &&& (1 : Int32))), (v2 + (1 : Int32))) _ _ _ ⟨hS, _, rfl, lv_sub hl [2, 1, 0] rfl⟩
section MK
variable {ρ : Type} {p : Program} {l : Launch} {e : Env} {R : Room} {s : State} {m : MethodId} {args : Array Value} {below : List Frame} {meth : Method} {c : Code} {H : Heap} {locs : List Loc} {cells slots : Nat} {Qf : ρ → State → Prop}
variable {cc : ByteArray} {pc nL : Nat} {ls : Array Slot} {rest : List Value}
variable {D : va_G} {ct : CT} {ad : Nat → Nat} {A A0 : Nat → Prop} {S : US} {w : Int64} {H0 : Heap}
theorem kM_bits {p1 : Int32} (E : ME p m c cc nL s args RX4 D clW ct) (hS : va_S A0 H0 H locs) (hA0 : ∀ q, H0.size ≤ q → A0 q) (hR : 1 + 1 ≤ R.frames ∧ 8 + (3 + 11) + 32 ≤ R.locals) (hsize : ls.size = nL) (hW : (rest.map fun v => v.category).sum ≤ 8) (hdg : decode cc pc = .ok (.invokestatic 320, 3)) (hf : cells ≤ R.cells ∧ slots ≤ R.slots) {kp : Int32 → Option ρ} (kk : ∀ (o : Int32) (H1 : Heap) (locs1 : List Loc), (∀ q : Nat, q < H.size → H1[q]? = H[q]?) → va_S A0 H0 H1 locs1 → X p l e R s m args below meth c H1 locs1 cells slots Qf (kp o) (F0 m (pc + 3) ls (.int o :: rest))) : X p l e R s m args below meth c H locs cells slots Qf (callK (sM_bits p1) kp) (F0 m pc ls (.int p1 :: rest)) := ucS (As := [.int p1]) E hS hA0 (fun sz o ho => mM_bits l D ct p1 sz o ho) (va_cwS 1 E.1.2.2.2.2 (lw_S q2236 q2237 q119 q2238) rfl rfl rfl (by decide +kernel) hR) rfl hsize rfl hW hdg hf kk
end MK

set_option maxHeartbeats 4000000 in
theorem mM_works (l : Launch) (D : va_G) (ct : CT) (p1 : Int32) (p2 : Int32) (p3 : Int32) (sz : Nat) (o : Int32) (ho : sM_works p1 p2 p3 = some o) : Met l yX4_works (ws_ yX4_works cX4_works 3 (some .int)) { frames := 1, cells := 0, slots := 0, locals := 32 } (mP D clW ct [.int p1, .int p2, .int p3] sz (fun _ => True)) (mC (some (.int o)) (fun _ => True) (nA sz)) 0 0 (nA sz) := by
  refine X.start (val := fun (o : Int32) => some (.int o)) (Bt := fun _ _ => True) (A := nA sz) ho (by decide) (Nat.le_of_ble_eq_true rfl) rfl ?_
  intro p e s m args below meth c E hr hlk hnm hsz hU ls hl
  subst hsz
  obtain ⟨⟨hx, hb, hml, hown, hts⟩, hK, hJ⟩ := id E
  have hA0 : ∀ q, s.heap.size ≤ q → (nA s.heap.size) q := fun q h => h
  have hS : va_S (nA s.heap.size) s.heap s.heap [] := va_S.rf
  unfold sM_works
  refine x_iload_n hx hb dX4_works_0 rfl (lv_at hl 0 rfl) ?_
  refine X.ite (fun hc => ?_) (fun hc4 => ?_)
  · refine x_tabEq (tgt := 44) hx hb hc dX4_works_1 (by decide) (by decide) rfl (by decide) ?_
    refine x_iload_n hx hb dX4_works_44 rfl (lv_at hl 1 rfl) ?_
    refine x_if_eq (tgt := 56) hx hb dX4_works_45 (by decide) (fun hc => ?_) (fun hc => ?_)
    · refine x_iconst (v := 0) hx hb dX4_works_56 (by decide) ?_
      exact x_iret hx hb hr hlk hS rfl trivial dX4_works_57
    · refine x_iload_n hx hb dX4_works_48 rfl (lv_at hl 2 rfl) ?_
      refine x_if_eq (tgt := 56) hx hb dX4_works_49 (by decide) (fun hc => ?_) (fun hc => ?_)
      · refine x_iconst (v := 0) hx hb dX4_works_56 (by decide) ?_
        exact x_iret hx hb hr hlk hS rfl trivial dX4_works_57
      · refine x_iconst (v := 1) hx hb dX4_works_52 (by decide) ?_
        refine x_goto (tgt := 57) hx hb dX4_works_53 (by decide) ?_
        exact x_iret hx hb hr hlk hS rfl trivial dX4_works_57
  refine X.ite (fun hc => ?_) (fun hc5 => ?_)
  · refine x_tabEq (tgt := 58) hx hb hc dX4_works_1 (by decide) (by decide) rfl (by decide) ?_
    refine x_iload_n hx hb dX4_works_58 rfl (lv_at hl 1 rfl) ?_
    refine x_if_ne (tgt := 66) hx hb dX4_works_59 (by decide) (fun hc => ?_) (fun hc => ?_)
    · refine x_iconst (v := 1) hx hb dX4_works_66 (by decide) ?_
      refine x_goto (tgt := 71) hx hb dX4_works_67 (by decide) ?_
      exact x_iret hx hb hr hlk hS rfl trivial dX4_works_71
    · refine x_iload_n hx hb dX4_works_62 rfl (lv_at hl 2 rfl) ?_
      refine x_if_eq (tgt := 70) hx hb dX4_works_63 (by decide) (fun hc => ?_) (fun hc => ?_)
      · refine x_iconst (v := 0) hx hb dX4_works_70 (by decide) ?_
        exact x_iret hx hb hr hlk hS rfl trivial dX4_works_71
      · refine x_iconst (v := 1) hx hb dX4_works_66 (by decide) ?_
        refine x_goto (tgt := 71) hx hb dX4_works_67 (by decide) ?_
        exact x_iret hx hb hr hlk hS rfl trivial dX4_works_71
  refine X.ite (fun hc => ?_) (fun hc6 => ?_)
  · refine x_tabEq (tgt := 72) hx hb hc dX4_works_1 (by decide) (by decide) rfl (by decide) ?_
    refine x_iload_n hx hb dX4_works_72 rfl (lv_at hl 1 rfl) ?_
    refine x_iload_n hx hb dX4_works_73 rfl (lv_at hl 2 rfl) ?_
    refine x_icmp_ge (tgt := 81) hx hb dX4_works_74 (by decide) (fun hc => ?_) (fun hc => ?_)
    · refine x_iconst (v := 0) hx hb dX4_works_81 (by decide) ?_
      exact x_iret hx hb hr hlk hS rfl trivial dX4_works_82
    · refine x_iconst (v := 1) hx hb dX4_works_77 (by decide) ?_
      refine x_goto (tgt := 82) hx hb dX4_works_78 (by decide) ?_
      exact x_iret hx hb hr hlk hS rfl trivial dX4_works_82
  refine X.ite (fun hc => ?_) (fun hc7 => ?_)
  · refine x_tabEq (tgt := 83) hx hb hc dX4_works_1 (by decide) (by decide) rfl (by decide) ?_
    refine x_iload_n hx hb dX4_works_83 rfl (lv_at hl 1 rfl) ?_
    refine x_iload_n hx hb dX4_works_84 rfl (lv_at hl 2 rfl) ?_
    refine x_icmp_ne (tgt := 92) hx hb dX4_works_85 (by decide) (fun hc => ?_) (fun hc => ?_)
    · refine x_iconst (v := 0) hx hb dX4_works_92 (by decide) ?_
      exact x_iret hx hb hr hlk hS rfl trivial dX4_works_93
    · refine x_iconst (v := 1) hx hb dX4_works_88 (by decide) ?_
      refine x_goto (tgt := 93) hx hb dX4_works_89 (by decide) ?_
      exact x_iret hx hb hr hlk hS rfl trivial dX4_works_93
  refine X.ite (fun hc => ?_) (fun hc8 => ?_)
  · refine x_tabEq (tgt := 94) hx hb hc dX4_works_1 (by decide) (by decide) rfl (by decide) ?_
    refine x_iload_n hx hb dX4_works_94 rfl (lv_at hl 1 rfl) ?_
    refine x_iload_n hx hb dX4_works_95 rfl (lv_at hl 2 rfl) ?_
    refine x_iadd hx hb dX4_works_96 ?_
    exact x_iret hx hb hr hlk hS rfl trivial dX4_works_97
  refine X.ite (fun hc => ?_) (fun hc9 => ?_)
  · refine x_tabEq (tgt := 98) hx hb hc dX4_works_1 (by decide) (by decide) rfl (by decide) ?_
    refine x_iload_n hx hb dX4_works_98 rfl (lv_at hl 1 rfl) ?_
    refine x_iload_n hx hb dX4_works_99 rfl (lv_at hl 2 rfl) ?_
    refine x_isub hx hb dX4_works_100 ?_
    exact x_iret hx hb hr hlk hS rfl trivial dX4_works_101
  refine X.ite (fun hc => ?_) (fun hc10 => ?_)
  · refine x_tabEq (tgt := 102) hx hb hc dX4_works_1 (by decide) (by decide) rfl (by decide) ?_
    refine x_iload_n hx hb dX4_works_102 rfl (lv_at hl 1 rfl) ?_
    refine x_iload_n hx hb dX4_works_103 rfl (lv_at hl 2 rfl) ?_
    refine x_imul hx hb dX4_works_104 ?_
    exact x_iret hx hb hr hlk hS rfl trivial dX4_works_105
  refine x_tabElse2 (n := 7) (tgt := 106) hx hb dX4_works_1 [4, 5, 6, 7, 8, 9, 10] (by decide) (by decide) (List.forall_mem_cons.mpr ⟨fun he => absurd (x_i32 he (4 : Int32) (by decide)) hc4, (List.forall_mem_cons.mpr ⟨fun he => absurd (x_i32 he (5 : Int32) (by decide)) hc5, (List.forall_mem_cons.mpr ⟨fun he => absurd (x_i32 he (6 : Int32) (by decide)) hc6, (List.forall_mem_cons.mpr ⟨fun he => absurd (x_i32 he (7 : Int32) (by decide)) hc7, (List.forall_mem_cons.mpr ⟨fun he => absurd (x_i32 he (8 : Int32) (by decide)) hc8, (List.forall_mem_cons.mpr ⟨fun he => absurd (x_i32 he (9 : Int32) (by decide)) hc9, (List.forall_mem_cons.mpr ⟨fun he => absurd (x_i32 he (10 : Int32) (by decide)) hc10, (fun _ h => absurd h List.not_mem_nil)⟩)⟩)⟩)⟩)⟩)⟩)⟩) (by decide) ?_
  refine x_iload_n hx hb dX4_works_106 rfl (lv_at hl 2 rfl) ?_
  refine x_if_ne (tgt := 114) hx hb dX4_works_107 (by decide) (fun hc => ?_) (fun hc => ?_)
  · refine x_iload_n hx hb dX4_works_114 rfl (lv_at hl 1 rfl) ?_
    refine x_iload_n hx hb dX4_works_115 rfl (lv_at hl 2 rfl) ?_
    refine x_idivG hx hb dX4_works_116 ?_
    exact x_iret hx hb hr hlk hS rfl trivial dX4_works_117
  · refine x_iconst (v := 0) hx hb dX4_works_110 (by decide) ?_
    refine x_goto (tgt := 117) hx hb dX4_works_111 (by decide) ?_
    exact x_iret hx hb hr hlk hS rfl trivial dX4_works_117
section MK
variable {ρ : Type} {p : Program} {l : Launch} {e : Env} {R : Room} {s : State} {m : MethodId} {args : Array Value} {below : List Frame} {meth : Method} {c : Code} {H : Heap} {locs : List Loc} {cells slots : Nat} {Qf : ρ → State → Prop}
variable {cc : ByteArray} {pc nL : Nat} {ls : Array Slot} {rest : List Value}
variable {D : va_G} {ct : CT} {ad : Nat → Nat} {A A0 : Nat → Prop} {S : US} {w : Int64} {H0 : Heap}
theorem kM_works {p1 : Int32} {p2 : Int32} {p3 : Int32} (E : ME p m c cc nL s args RX4 D clW ct) (hS : va_S A0 H0 H locs) (hA0 : ∀ q, H0.size ≤ q → A0 q) (hR : 1 + 1 ≤ R.frames ∧ 8 + (3 + 11) + 32 ≤ R.locals) (hsize : ls.size = nL) (hW : (rest.map fun v => v.category).sum ≤ 8) (hdg : decode cc pc = .ok (.invokestatic 304, 3)) (hf : cells ≤ R.cells ∧ slots ≤ R.slots) {kp : Int32 → Option ρ} (kk : ∀ (o : Int32) (H1 : Heap) (locs1 : List Loc), (∀ q : Nat, q < H.size → H1[q]? = H[q]?) → va_S A0 H0 H1 locs1 → X p l e R s m args below meth c H1 locs1 cells slots Qf (kp o) (F0 m (pc + 3) ls (.int o :: rest))) : X p l e R s m args below meth c H locs cells slots Qf (callK (sM_works p1 p2 p3) kp) (F0 m pc ls (.int p3 :: .int p2 :: .int p1 :: rest)) := ucS (As := [.int p1, .int p2, .int p3]) E hS hA0 (fun sz o ho => mM_works l D ct p1 p2 p3 sz o ho) (va_cwS 3 E.1.2.2.2.2 (lw_S q2243 q2244 q119 q2245) rfl rfl rfl (by decide +kernel) hR) rfl hsize rfl hW hdg hf kk
end MK

set_option maxHeartbeats 4000000 in
theorem mM_reckons (l : Launch) (D : va_G) (ct : CT) (ad : Nat → Nat) (S : US) (w : Int64) (p1 : Int32) (sz : Nat) (o : (Int32 × US)) (ho : sM_reckons S p1 = some o) : Met l yX4_reckons (ws_ yX4_reckons cX4_reckons 5 (some .int)) { frames := 2, cells := 0, slots := 0, locals := 54 } (mP D clW ct [.ref (ad (0)), .int p1] sz (UM D ct ad (fun _ => True) S w)) (mC (some (.int o.1)) (UM D ct ad (fun _ => True) o.2 w) (uA 31 ad sz)) 0 0 (uA 31 ad sz) := by
  refine X.start (val := fun (o : (Int32 × US)) => some (.int o.1)) (Bt := fun (o : (Int32 × US)) => UM D ct ad (fun _ => True) o.2 w) (A := uA 31 ad sz) ho (by decide) (Nat.le_of_ble_eq_true rfl) rfl ?_
  intro p e s m args below meth c E hr hlk hnm hsz hU ls hl
  subst hsz
  obtain ⟨⟨hx, hb, hml, hown, hts⟩, hK, hJ⟩ := id E
  replace hU := hU.to (B := uA 31 ad s.heap.size) (fun i hi => Or.inl ⟨i, hi, rfl⟩)
  have hA0 : ∀ q, s.heap.size ≤ q → (uA 31 ad s.heap.size) q := fun q h => Or.inr h
  have hS : va_S (uA 31 ad s.heap.size) s.heap s.heap [] := va_S.rf
  unfold sM_reckons
  refine x_iconst (v := 0) hx hb dX4_reckons_0 (by decide) ?_
  refine x_istore_n (lv' := [(2, .int (0 : Int32)), (0, .ref (ad (0))), (1, .int p1)]) hx hb dX4_reckons_1 rfl hl (by decide) rfl (fun ls hl => ?_)
  refine x_iload_n hx hb dX4_reckons_2 rfl (lv_at hl 2 rfl) ?_
  refine x_istore_n (lv' := [(3, .int p1), (2, .int (0 : Int32)), (0, .ref (ad (0))), (1, .int p1)]) hx hb dX4_reckons_3 rfl hl (by decide) rfl (fun ls hl => ?_)
  refine X.loop (I := fun (x : (US × Int32 × Int32)) g H locs => UM D ct ad (uA 31 ad s.heap.size) x.1 w H ∧ va_S (uA 31 ad s.heap.size) s.heap H locs ∧ ∃ ls : Array Slot, g = F0 m 4 ls [] ∧ lv_has ls 5 [(0, .ref (ad (0))), (2, .int x.2.1), (3, .int x.2.2)]) (fun rc4 ih4 => ?_) FUEL _ _ _ _ ⟨hU, hS, _, rfl, lv_sub hl [2, 1, 0] rfl⟩
  rintro ⟨S1, v2, v3⟩ _ H locs ⟨hU, hS, ls, rfl, hl⟩
  have hU : UM D ct ad (uA 31 ad s.heap.size) S1 w H := hU
  have hl : lv_has ls 5 [(0, .ref (ad (0))), (2, .int v2), (3, .int v3)] := hl
  refine X.eqs (sp2 := sM_reckons_L4 rc4 S1 v2 v3) rfl ?_
  unfold sM_reckons_L4
  refine x_aload_n hx hb dX4_reckons_4 rfl (lv_at hl 0 rfl) ?_
  refine gM_code E hU dX4_reckons_5 ?_
  refine x_iload_n hx hb dX4_reckons_8 rfl (lv_at hl 2 rfl) ?_
  refine ux_ald (i := 4) (n := 1400) E hU (by decide) rfl dX4_reckons_9 ?_
  refine x_if_eq (tgt := 143) hx hb dX4_reckons_10 (by decide) (fun hc => ?_) (fun hc => ?_)
  · refine x_aload_n hx hb dX4_reckons_143 rfl (lv_at hl 0 rfl) ?_
    refine gM_pile E hU dX4_reckons_144 ?_
    refine x_iconst (v := 0) hx hb dX4_reckons_147 (by decide) ?_
    refine ux_ald (i := 17) (n := 950) E hU (by decide) rfl dX4_reckons_148 ?_
    exact x_iret hx hb hr hlk hS rfl (hU.to fun _ _ => trivial) dX4_reckons_149
  · refine x_aload_n hx hb dX4_reckons_13 rfl (lv_at hl 0 rfl) ?_
    refine gM_code E hU dX4_reckons_14 ?_
    refine x_iload_n hx hb dX4_reckons_17 rfl (lv_at hl 2 rfl) ?_
    refine ux_ald (i := 4) (n := 1400) E hU (by decide) rfl dX4_reckons_18 ?_
    refine x_istore (lv' := [(4, .int (S1 4 v3.toNatClampNeg)), (0, .ref (ad (0))), (2, .int v2), (3, .int v3)]) hx hb dX4_reckons_19 hl (by decide) rfl (fun ls hl => ?_)
    refine x_iinc (v := (v3 + (1 : Int32))) (lv' := [(3, .int (v3 + (1 : Int32))), (4, .int (S1 4 v3.toNatClampNeg)), (0, .ref (ad (0))), (2, .int v2)]) (k := 3) hx hb dX4_reckons_21 hl rfl rfl (by decide) rfl (fun ls hl => ?_)
    refine x_iload hx hb dX4_reckons_24 (lv_at hl 1 rfl) ?_
    refine x_iconst (v := 1) hx hb dX4_reckons_26 (by decide) ?_
    refine X.join2 (fun (x : Unit) g H locs => UM D ct ad (uA 31 ad s.heap.size) S1 w H ∧ va_S (uA 31 ad s.heap.size) s.heap H locs ∧ ∃ ls : Array Slot, g = F0 m 36 ls [] ∧ lv_has ls 5 [(0, .ref (ad (0))), (2, .int v2), (3, .int (v3 + (1 : Int32))), (4, .int (S1 4 v3.toNatClampNeg))]) ?_ (fun j5 hj5 => ?_)
    · rintro _ _ H locs ⟨hU, hS, ls, rfl, hl⟩
      refine X.eqs (sp2 := sM_reckons_J36 S1 v2 v3 rc4) rfl ?_
      unfold sM_reckons_J36
      refine x_aload_n hx hb dX4_reckons_36 rfl (lv_at hl 0 rfl) ?_
      refine gM_pile E hU dX4_reckons_37 ?_
      refine x_iload_n hx hb dX4_reckons_40 rfl (lv_at hl 1 rfl) ?_
      refine x_iload hx hb dX4_reckons_41 (lv_at hl 3 rfl) ?_
      refine x_iconst (v := 1) hx hb dX4_reckons_43 (by decide) ?_
      refine x_icmp_ne (tgt := 56) hx hb dX4_reckons_44 (by decide) (fun hc => ?_) (fun hc => ?_)
      · refine x_aload_n hx hb dX4_reckons_56 rfl (lv_at hl 0 rfl) ?_
        refine gM_told E hU dX4_reckons_57 ?_
        refine x_aload_n hx hb dX4_reckons_60 rfl (lv_at hl 0 rfl) ?_
        refine gM_code E hU dX4_reckons_61 ?_
        refine x_iload_n hx hb dX4_reckons_64 rfl (lv_at hl 2 rfl) ?_
        refine ux_ald (i := 4) (n := 1400) E hU (by decide) rfl dX4_reckons_65 ?_
        refine ux_ald (i := 16) (n := 6) E hU (by decide) rfl dX4_reckons_66 ?_
        refine ux_ast (i := 17) (n := 950) E hU hS (by decide) rfl dX4_reckons_67 (fun S6 H locs hU hS => ?_)
        refine x_iinc (v := ((v3 + (1 : Int32)) + (1 : Int32))) (lv' := [(3, .int ((v3 + (1 : Int32)) + (1 : Int32))), (0, .ref (ad (0))), (2, .int v2), (4, .int (S1 4 v3.toNatClampNeg))]) (k := 2) hx hb dX4_reckons_68 hl rfl rfl (by decide) rfl (fun ls hl => ?_)
        refine x_iinc (v := (v2 + (1 : Int32))) (lv' := [(2, .int (v2 + (1 : Int32))), (3, .int ((v3 + (1 : Int32)) + (1 : Int32))), (0, .ref (ad (0))), (4, .int (S1 4 v3.toNatClampNeg))]) (k := 2) hx hb dX4_reckons_71 hl rfl rfl (by decide) rfl (fun ls hl => ?_)
        refine x_goto (tgt := 140) hx hb dX4_reckons_74 (by decide) ?_
        refine x_goto (tgt := 4) hx hb dX4_reckons_140 (by decide) ?_
        exact ih4 (S6, (v2 + (1 : Int32)), ((v3 + (1 : Int32)) + (1 : Int32))) _ _ _ ⟨hU, hS, _, rfl, lv_sub hl [2, 0, 1] rfl⟩
      · refine x_aload_n hx hb dX4_reckons_47 rfl (lv_at hl 0 rfl) ?_
        refine gM_code E hU dX4_reckons_48 ?_
        refine x_iload_n hx hb dX4_reckons_51 rfl (lv_at hl 2 rfl) ?_
        refine ux_ald (i := 4) (n := 1400) E hU (by decide) rfl dX4_reckons_52 ?_
        refine x_goto (tgt := 67) hx hb dX4_reckons_53 (by decide) ?_
        refine ux_ast (i := 17) (n := 950) E hU hS (by decide) rfl dX4_reckons_67 (fun S7 H locs hU hS => ?_)
        refine x_iinc (v := ((v3 + (1 : Int32)) + (1 : Int32))) (lv' := [(3, .int ((v3 + (1 : Int32)) + (1 : Int32))), (0, .ref (ad (0))), (2, .int v2), (4, .int (S1 4 v3.toNatClampNeg))]) (k := 2) hx hb dX4_reckons_68 hl rfl rfl (by decide) rfl (fun ls hl => ?_)
        refine x_iinc (v := (v2 + (1 : Int32))) (lv' := [(2, .int (v2 + (1 : Int32))), (3, .int ((v3 + (1 : Int32)) + (1 : Int32))), (0, .ref (ad (0))), (4, .int (S1 4 v3.toNatClampNeg))]) (k := 2) hx hb dX4_reckons_71 hl rfl rfl (by decide) rfl (fun ls hl => ?_)
        refine x_goto (tgt := 140) hx hb dX4_reckons_74 (by decide) ?_
        refine x_goto (tgt := 4) hx hb dX4_reckons_140 (by decide) ?_
        exact ih4 (S7, (v2 + (1 : Int32)), ((v3 + (1 : Int32)) + (1 : Int32))) _ _ _ ⟨hU, hS, _, rfl, lv_sub hl [2, 0, 1] rfl⟩
    · refine x_icmp_eq (tgt := 36) hx hb dX4_reckons_27 (by decide) (fun hc => ?_) (fun hc => ?_)
      · exact hj5 () _ _ _ ⟨hU, hS, _, rfl, lv_sub hl [2, 3, 0, 1] rfl⟩
      · refine x_iload hx hb dX4_reckons_30 (lv_at hl 1 rfl) ?_
        refine x_iconst (v := 2) hx hb dX4_reckons_32 (by decide) ?_
        refine x_icmp_ne (tgt := 77) hx hb dX4_reckons_33 (by decide) (fun hc => ?_) (fun hc => ?_)
        · refine x_iload hx hb dX4_reckons_77 (lv_at hl 1 rfl) ?_
          refine x_iconst (v := 3) hx hb dX4_reckons_79 (by decide) ?_
          refine x_icmp_ne (tgt := 110) hx hb dX4_reckons_80 (by decide) (fun hc => ?_) (fun hc => ?_)
          · refine x_iinc (v := (v2 + (-1 : Int32))) (lv' := [(2, .int (v2 + (-1 : Int32))), (3, .int (v3 + (1 : Int32))), (4, .int (S1 4 v3.toNatClampNeg)), (0, .ref (ad (0)))]) (k := 3) hx hb dX4_reckons_110 hl rfl rfl (by decide) rfl (fun ls hl => ?_)
            refine x_aload_n hx hb dX4_reckons_113 rfl (lv_at hl 3 rfl) ?_
            refine gM_pile E hU dX4_reckons_114 ?_
            refine x_iload_n hx hb dX4_reckons_117 rfl (lv_at hl 0 rfl) ?_
            refine x_iconst (v := 1) hx hb dX4_reckons_118 (by decide) ?_
            refine x_isub hx hb dX4_reckons_119 ?_
            refine x_iload hx hb dX4_reckons_120 (lv_at hl 2 rfl) ?_
            refine x_aload_n hx hb dX4_reckons_122 rfl (lv_at hl 3 rfl) ?_
            refine gM_pile E hU dX4_reckons_123 ?_
            refine x_iload_n hx hb dX4_reckons_126 rfl (lv_at hl 0 rfl) ?_
            refine x_iconst (v := 1) hx hb dX4_reckons_127 (by decide) ?_
            refine x_isub hx hb dX4_reckons_128 ?_
            refine ux_ald (i := 17) (n := 950) E hU (by decide) rfl dX4_reckons_129 ?_
            refine x_aload_n hx hb dX4_reckons_130 rfl (lv_at hl 3 rfl) ?_
            refine gM_pile E hU dX4_reckons_131 ?_
            refine x_iload_n hx hb dX4_reckons_134 rfl (lv_at hl 0 rfl) ?_
            refine ux_ald (i := 17) (n := 950) E hU (by decide) rfl dX4_reckons_135 ?_
            refine kM_works E hS hA0 ⟨by decide, by decide⟩ hl.1 (Nat.le_of_ble_eq_true rfl) dX4_reckons_136 ⟨Nat.le_refl _, Nat.le_refl _⟩ (fun o8 H locs hk hS => ?_)
            replace hU := hU.kept (fun i hi => hk _ (hU.lt hi))
            refine ux_ast (i := 17) (n := 950) E hU hS (by decide) rfl dX4_reckons_139 (fun S9 H locs hU hS => ?_)
            refine x_goto (tgt := 4) hx hb dX4_reckons_140 (by decide) ?_
            exact ih4 (S9, (v2 + (-1 : Int32)), (v3 + (1 : Int32))) _ _ _ ⟨hU, hS, _, rfl, lv_sub hl [3, 0, 1] rfl⟩
          · refine x_aload_n hx hb dX4_reckons_83 rfl (lv_at hl 2 rfl) ?_
            refine gM_pile E hU dX4_reckons_84 ?_
            refine x_iload_n hx hb dX4_reckons_87 rfl (lv_at hl 3 rfl) ?_
            refine x_iconst (v := 1) hx hb dX4_reckons_88 (by decide) ?_
            refine x_isub hx hb dX4_reckons_89 ?_
            refine x_aload_n hx hb dX4_reckons_90 rfl (lv_at hl 2 rfl) ?_
            refine gM_pile E hU dX4_reckons_91 ?_
            refine x_iload_n hx hb dX4_reckons_94 rfl (lv_at hl 3 rfl) ?_
            refine x_iconst (v := 1) hx hb dX4_reckons_95 (by decide) ?_
            refine x_isub hx hb dX4_reckons_96 ?_
            refine ux_ald (i := 17) (n := 950) E hU (by decide) rfl dX4_reckons_97 ?_
            refine x_if_ne (tgt := 105) hx hb dX4_reckons_98 (by decide) (fun hc => ?_) (fun hc => ?_)
            · refine x_iconst (v := 0) hx hb dX4_reckons_105 (by decide) ?_
              refine ux_ast (i := 17) (n := 950) E hU hS (by decide) rfl dX4_reckons_106 (fun S10 H locs hU hS => ?_)
              refine x_goto (tgt := 140) hx hb dX4_reckons_107 (by decide) ?_
              refine x_goto (tgt := 4) hx hb dX4_reckons_140 (by decide) ?_
              exact ih4 (S10, v2, (v3 + (1 : Int32))) _ _ _ ⟨hU, hS, _, rfl, lv_sub hl [2, 3, 0] rfl⟩
            · refine x_iconst (v := 1) hx hb dX4_reckons_101 (by decide) ?_
              refine x_goto (tgt := 106) hx hb dX4_reckons_102 (by decide) ?_
              refine ux_ast (i := 17) (n := 950) E hU hS (by decide) rfl dX4_reckons_106 (fun S11 H locs hU hS => ?_)
              refine x_goto (tgt := 140) hx hb dX4_reckons_107 (by decide) ?_
              refine x_goto (tgt := 4) hx hb dX4_reckons_140 (by decide) ?_
              exact ih4 (S11, v2, (v3 + (1 : Int32))) _ _ _ ⟨hU, hS, _, rfl, lv_sub hl [2, 3, 0] rfl⟩
        · exact hj5 () _ _ _ ⟨hU, hS, _, rfl, lv_sub hl [2, 3, 0, 1] rfl⟩
section MK
variable {ρ : Type} {p : Program} {l : Launch} {e : Env} {R : Room} {s : State} {m : MethodId} {args : Array Value} {below : List Frame} {meth : Method} {c : Code} {H : Heap} {locs : List Loc} {cells slots : Nat} {Qf : ρ → State → Prop}
variable {cc : ByteArray} {pc nL : Nat} {ls : Array Slot} {rest : List Value}
variable {D : va_G} {ct : CT} {ad : Nat → Nat} {A A0 : Nat → Prop} {S : US} {w : Int64} {H0 : Heap}
theorem kM_reckons {p1 : Int32} (E : ME p m c cc nL s args RX4 D clW ct) (hU : UM D ct ad A S w H) (hS : va_S A H0 H locs) (hA0 : ∀ q, H0.size ≤ q → A q) (hR : 2 + 1 ≤ R.frames ∧ 8 + (5 + 11) + 54 ≤ R.locals) (hsize : ls.size = nL) (hW : (rest.map fun v => v.category).sum ≤ 8) (hdg : decode cc pc = .ok (.invokevirtual 323, 3)) (hf : cells ≤ R.cells ∧ slots ≤ R.slots) {kp : (Int32 × US) → Option ρ} (kk : ∀ (o : (Int32 × US)) (H1 : Heap) (locs1 : List Loc), UM D ct ad A o.2 w H1 → va_S A H0 H1 locs1 → X p l e R s m args below meth c H1 locs1 cells slots Qf (kp o) (F0 m (pc + 3) ls (.int o.1 :: rest))) : X p l e R s m args below meth c H locs cells slots Qf (callK (sM_reckons S p1) kp) (F0 m pc ls (.int p1 :: .ref (ad 0) :: rest)) := ucV_mod (i := 0) (So := fun (o : (Int32 × US)) => o.2) (wo := fun (o : (Int32 × US)) => w) (As := [.int p1]) E hU hS hA0 (by decide) rfl rfl (fun sz o ho => mM_reckons l D ct ad S w p1 sz o ho) (cwV 1 E.1.2.2.2.2 (lw_V q2239 q2241 qs87 q119 q2242) rfl rfl rfl (by decide +kernel) hR) rfl hsize rfl hW hdg hf kk
end MK

set_option maxHeartbeats 4000000 in
theorem mM_asks (l : Launch) (D : va_G) (ct : CT) (ad : Nat → Nat) (S : US) (w : Int64) (p1 : Int32) (p2 : Int32) (p3 : Int32) (sz : Nat) (o : (Int32 × US)) (ho : sM_asks S p1 p2 p3 = some o) : Met l yX4_asks (ws_ yX4_asks cX4_asks 4 (some .int)) { frames := 3, cells := 0, slots := 0, locals := 78 } (mP D clW ct [.ref (ad (0)), .int p1, .int p2, .int p3] sz (UM D ct ad (fun _ => True) S w)) (mC (some (.int o.1)) (UM D ct ad (fun _ => True) o.2 w) (uA 31 ad sz)) 0 0 (uA 31 ad sz) := by
  refine X.start (val := fun (o : (Int32 × US)) => some (.int o.1)) (Bt := fun (o : (Int32 × US)) => UM D ct ad (fun _ => True) o.2 w) (A := uA 31 ad sz) ho (by decide) (Nat.le_of_ble_eq_true rfl) rfl ?_
  intro p e s m args below meth c E hr hlk hnm hsz hU ls hl
  subst hsz
  obtain ⟨⟨hx, hb, hml, hown, hts⟩, hK, hJ⟩ := id E
  replace hU := hU.to (B := uA 31 ad s.heap.size) (fun i hi => Or.inl ⟨i, hi, rfl⟩)
  have hA0 : ∀ q, s.heap.size ≤ q → (uA 31 ad s.heap.size) q := fun q h => Or.inr h
  have hS : va_S (uA 31 ad s.heap.size) s.heap s.heap [] := va_S.rf
  unfold sM_asks
  refine x_aload_n hx hb dX4_asks_0 rfl (lv_at hl 0 rfl) ?_
  refine gM_told E hU dX4_asks_1 ?_
  refine x_iconst (v := 0) hx hb dX4_asks_4 (by decide) ?_
  refine x_aload_n hx hb dX4_asks_5 rfl (lv_at hl 0 rfl) ?_
  refine gM_rows E hU dX4_asks_6 ?_
  refine x_iload_n hx hb dX4_asks_9 rfl (lv_at hl 2 rfl) ?_
  refine x_iconst (v := 1) hx hb dX4_asks_10 (by decide) ?_
  refine x_iadd hx hb dX4_asks_11 ?_
  refine x_iload_n hx hb dX4_asks_12 rfl (lv_at hl 3 rfl) ?_
  refine x_iadd hx hb dX4_asks_13 ?_
  refine ux_ald (i := 14) (n := 98) E hU (by decide) rfl dX4_asks_14 ?_
  refine ux_ast (i := 16) (n := 6) E hU hS (by decide) rfl dX4_asks_15 (fun S1 H locs hU hS => ?_)
  refine x_aload_n hx hb dX4_asks_16 rfl (lv_at hl 0 rfl) ?_
  refine gM_told E hU dX4_asks_17 ?_
  refine x_iconst (v := 1) hx hb dX4_asks_20 (by decide) ?_
  refine x_aload_n hx hb dX4_asks_21 rfl (lv_at hl 0 rfl) ?_
  refine gM_rows E hU dX4_asks_22 ?_
  refine x_iload_n hx hb dX4_asks_25 rfl (lv_at hl 2 rfl) ?_
  refine x_bipush (v := 13) hx hb dX4_asks_26 (by decide) ?_
  refine x_iadd hx hb dX4_asks_28 ?_
  refine x_iload_n hx hb dX4_asks_29 rfl (lv_at hl 3 rfl) ?_
  refine x_iadd hx hb dX4_asks_30 ?_
  refine ux_ald (i := 14) (n := 98) E hU (by decide) rfl dX4_asks_31 ?_
  refine ux_ast (i := 16) (n := 6) E hU hS (by decide) rfl dX4_asks_32 (fun S2 H locs hU hS => ?_)
  refine x_aload_n hx hb dX4_asks_33 rfl (lv_at hl 0 rfl) ?_
  refine gM_told E hU dX4_asks_34 ?_
  refine x_iconst (v := 2) hx hb dX4_asks_37 (by decide) ?_
  refine x_aload_n hx hb dX4_asks_38 rfl (lv_at hl 0 rfl) ?_
  refine gM_rows E hU dX4_asks_39 ?_
  refine x_iload_n hx hb dX4_asks_42 rfl (lv_at hl 2 rfl) ?_
  refine x_bipush (v := 25) hx hb dX4_asks_43 (by decide) ?_
  refine x_iadd hx hb dX4_asks_45 ?_
  refine x_iload_n hx hb dX4_asks_46 rfl (lv_at hl 3 rfl) ?_
  refine x_iadd hx hb dX4_asks_47 ?_
  refine ux_ald (i := 14) (n := 98) E hU (by decide) rfl dX4_asks_48 ?_
  refine ux_ast (i := 16) (n := 6) E hU hS (by decide) rfl dX4_asks_49 (fun S3 H locs hU hS => ?_)
  refine x_aload_n hx hb dX4_asks_50 rfl (lv_at hl 0 rfl) ?_
  refine gM_told E hU dX4_asks_51 ?_
  refine x_iconst (v := 3) hx hb dX4_asks_54 (by decide) ?_
  refine x_aload_n hx hb dX4_asks_55 rfl (lv_at hl 0 rfl) ?_
  refine x_iload_n hx hb dX4_asks_56 rfl (lv_at hl 2 rfl) ?_
  refine x_iload_n hx hb dX4_asks_57 rfl (lv_at hl 3 rfl) ?_
  refine kM_besideOf E hU hS hA0 ⟨by decide, by decide⟩ hl.1 (Nat.le_of_ble_eq_true rfl) dX4_asks_58 ⟨Nat.le_refl _, Nat.le_refl _⟩ (fun o4 H locs hU hS => ?_)
  refine ux_ast (i := 16) (n := 6) E hU hS (by decide) rfl dX4_asks_61 (fun S5 H locs hU hS => ?_)
  refine x_aload_n hx hb dX4_asks_62 rfl (lv_at hl 0 rfl) ?_
  refine gM_told E hU dX4_asks_63 ?_
  refine x_iconst (v := 4) hx hb dX4_asks_66 (by decide) ?_
  refine x_aload_n hx hb dX4_asks_67 rfl (lv_at hl 0 rfl) ?_
  refine x_iload_n hx hb dX4_asks_68 rfl (lv_at hl 2 rfl) ?_
  refine x_iload_n hx hb dX4_asks_69 rfl (lv_at hl 3 rfl) ?_
  refine kM_womenAt E hU hS hA0 ⟨by decide, by decide⟩ hl.1 (Nat.le_of_ble_eq_true rfl) dX4_asks_70 ⟨Nat.le_refl _, Nat.le_refl _⟩ (fun o6 H locs hU hS => ?_)
  refine kM_bits E hS hA0 ⟨by decide, by decide⟩ hl.1 (Nat.le_of_ble_eq_true rfl) dX4_asks_73 ⟨Nat.le_refl _, Nat.le_refl _⟩ (fun o7 H locs hk hS => ?_)
  replace hU := hU.kept (fun i hi => hk _ (hU.lt hi))
  refine ux_ast (i := 16) (n := 6) E hU hS (by decide) rfl dX4_asks_76 (fun S8 H locs hU hS => ?_)
  refine x_aload_n hx hb dX4_asks_77 rfl (lv_at hl 0 rfl) ?_
  refine gM_told E hU dX4_asks_78 ?_
  refine x_iconst (v := 5) hx hb dX4_asks_81 (by decide) ?_
  refine x_aload_n hx hb dX4_asks_82 rfl (lv_at hl 0 rfl) ?_
  refine gM_rows E hU dX4_asks_83 ?_
  refine x_iload_n hx hb dX4_asks_86 rfl (lv_at hl 2 rfl) ?_
  refine x_iconst (v := 0) hx hb dX4_asks_87 (by decide) ?_
  refine x_iadd hx hb dX4_asks_88 ?_
  refine ux_ald (i := 14) (n := 98) E hU (by decide) rfl dX4_asks_89 ?_
  refine ux_ast (i := 16) (n := 6) E hU hS (by decide) rfl dX4_asks_90 (fun S9 H locs hU hS => ?_)
  refine x_aload_n hx hb dX4_asks_91 rfl (lv_at hl 0 rfl) ?_
  refine x_iload_n hx hb dX4_asks_92 rfl (lv_at hl 1 rfl) ?_
  refine kM_reckons E hU hS hA0 ⟨by decide, by decide⟩ hl.1 (Nat.le_of_ble_eq_true rfl) dX4_asks_93 ⟨Nat.le_refl _, Nat.le_refl _⟩ (fun o10 H locs hU hS => ?_)
  exact x_iret hx hb hr hlk hS rfl (hU.to fun _ _ => trivial) dX4_asks_96
section MK
variable {ρ : Type} {p : Program} {l : Launch} {e : Env} {R : Room} {s : State} {m : MethodId} {args : Array Value} {below : List Frame} {meth : Method} {c : Code} {H : Heap} {locs : List Loc} {cells slots : Nat} {Qf : ρ → State → Prop}
variable {cc : ByteArray} {pc nL : Nat} {ls : Array Slot} {rest : List Value}
variable {D : va_G} {ct : CT} {ad : Nat → Nat} {A A0 : Nat → Prop} {S : US} {w : Int64} {H0 : Heap}
theorem kM_asks {p1 : Int32} {p2 : Int32} {p3 : Int32} (E : ME p m c cc nL s args RX4 D clW ct) (hU : UM D ct ad A S w H) (hS : va_S A H0 H locs) (hA0 : ∀ q, H0.size ≤ q → A q) (hR : 3 + 1 ≤ R.frames ∧ 8 + (4 + 11) + 78 ≤ R.locals) (hsize : ls.size = nL) (hW : (rest.map fun v => v.category).sum ≤ 8) (hdg : decode cc pc = .ok (.invokevirtual 330, 3)) (hf : cells ≤ R.cells ∧ slots ≤ R.slots) {kp : (Int32 × US) → Option ρ} (kk : ∀ (o : (Int32 × US)) (H1 : Heap) (locs1 : List Loc), UM D ct ad A o.2 w H1 → va_S A H0 H1 locs1 → X p l e R s m args below meth c H1 locs1 cells slots Qf (kp o) (F0 m (pc + 3) ls (.int o.1 :: rest))) : X p l e R s m args below meth c H locs cells slots Qf (callK (sM_asks S p1 p2 p3) kp) (F0 m pc ls (.int p3 :: .int p2 :: .int p1 :: .ref (ad 0) :: rest)) := ucV_mod (i := 0) (So := fun (o : (Int32 × US)) => o.2) (wo := fun (o : (Int32 × US)) => w) (As := [.int p1, .int p2, .int p3]) E hU hS hA0 (by decide) rfl rfl (fun sz o ho => mM_asks l D ct ad S w p1 p2 p3 sz o ho) (cwV 3 E.1.2.2.2.2 (lw_V q2220 q2222 qs83 q119 q2223) rfl rfl rfl (by decide +kernel) hR) rfl hsize rfl hW hdg hf kk
end MK

set_option maxHeartbeats 4000000 in
theorem mM_bounded (l : Launch) (D : va_G) (ct : CT) (p1 : Int32) (p2 : Int32) (p3 : Int32) (sz : Nat) (o : Int32) (ho : sM_bounded p1 p2 p3 = some o) : Met l yX4_bounded (ws_ yX4_bounded cX4_bounded 3 (some .int)) { frames := 1, cells := 0, slots := 0, locals := 32 } (mP D clW ct [.int p1, .int p2, .int p3] sz (fun _ => True)) (mC (some (.int o)) (fun _ => True) (nA sz)) 0 0 (nA sz) := by
  refine X.start (val := fun (o : Int32) => some (.int o)) (Bt := fun _ _ => True) (A := nA sz) ho (by decide) (Nat.le_of_ble_eq_true rfl) rfl ?_
  intro p e s m args below meth c E hr hlk hnm hsz hU ls hl
  subst hsz
  obtain ⟨⟨hx, hb, hml, hown, hts⟩, hK, hJ⟩ := id E
  have hA0 : ∀ q, s.heap.size ≤ q → (nA s.heap.size) q := fun q h => h
  have hS : va_S (nA s.heap.size) s.heap s.heap [] := va_S.rf
  unfold sM_bounded
  refine x_iload_n hx hb dX4_bounded_0 rfl (lv_at hl 0 rfl) ?_
  refine x_iload_n hx hb dX4_bounded_1 rfl (lv_at hl 1 rfl) ?_
  refine x_icmp_ge (tgt := 9) hx hb dX4_bounded_2 (by decide) (fun hc => ?_) (fun hc => ?_)
  · refine x_iload_n hx hb dX4_bounded_9 rfl (lv_at hl 0 rfl) ?_
    refine x_iload_n hx hb dX4_bounded_10 rfl (lv_at hl 2 rfl) ?_
    refine x_icmp_le (tgt := 18) hx hb dX4_bounded_11 (by decide) (fun hc => ?_) (fun hc => ?_)
    · refine x_iload_n hx hb dX4_bounded_18 rfl (lv_at hl 0 rfl) ?_
      exact x_iret hx hb hr hlk hS rfl trivial dX4_bounded_19
    · refine x_iload_n hx hb dX4_bounded_14 rfl (lv_at hl 2 rfl) ?_
      refine x_goto (tgt := 19) hx hb dX4_bounded_15 (by decide) ?_
      exact x_iret hx hb hr hlk hS rfl trivial dX4_bounded_19
  · refine x_iload_n hx hb dX4_bounded_5 rfl (lv_at hl 1 rfl) ?_
    refine x_goto (tgt := 19) hx hb dX4_bounded_6 (by decide) ?_
    exact x_iret hx hb hr hlk hS rfl trivial dX4_bounded_19
section MK
variable {ρ : Type} {p : Program} {l : Launch} {e : Env} {R : Room} {s : State} {m : MethodId} {args : Array Value} {below : List Frame} {meth : Method} {c : Code} {H : Heap} {locs : List Loc} {cells slots : Nat} {Qf : ρ → State → Prop}
variable {cc : ByteArray} {pc nL : Nat} {ls : Array Slot} {rest : List Value}
variable {D : va_G} {ct : CT} {ad : Nat → Nat} {A A0 : Nat → Prop} {S : US} {w : Int64} {H0 : Heap}
theorem kM_bounded {p1 : Int32} {p2 : Int32} {p3 : Int32} (E : ME p m c cc nL s args RX4 D clW ct) (hS : va_S A0 H0 H locs) (hA0 : ∀ q, H0.size ≤ q → A0 q) (hR : 1 + 1 ≤ R.frames ∧ 8 + (3 + 11) + 32 ≤ R.locals) (hsize : ls.size = nL) (hW : (rest.map fun v => v.category).sum ≤ 8) (hdg : decode cc pc = .ok (.invokestatic 333, 3)) (hf : cells ≤ R.cells ∧ slots ≤ R.slots) {kp : Int32 → Option ρ} (kk : ∀ (o : Int32) (H1 : Heap) (locs1 : List Loc), (∀ q : Nat, q < H.size → H1[q]? = H[q]?) → va_S A0 H0 H1 locs1 → X p l e R s m args below meth c H1 locs1 cells slots Qf (kp o) (F0 m (pc + 3) ls (.int o :: rest))) : X p l e R s m args below meth c H locs cells slots Qf (callK (sM_bounded p1 p2 p3) kp) (F0 m pc ls (.int p3 :: .int p2 :: .int p1 :: rest)) := ucS (As := [.int p1, .int p2, .int p3]) E hS hA0 (fun sz o ho => mM_bounded l D ct p1 p2 p3 sz o ho) (va_cwS 3 E.1.2.2.2.2 (lw_S q2246 q2247 q119 q2248) rfl rfl rfl (by decide +kernel) hR) rfl hsize rfl hW hdg hf kk
end MK

set_option maxHeartbeats 4000000 in
theorem mM_fraysOf (l : Launch) (D : va_G) (ct : CT) (ad : Nat → Nat) (S : US) (w : Int64) (p1 : Int32) (p2 : Int32) (sz : Nat) (o : (Int32 × US)) (ho : sM_fraysOf S p1 p2 = some o) : Met l yX4_fraysOf (ws_ yX4_fraysOf cX4_fraysOf 3 (some .int)) { frames := 4, cells := 0, slots := 0, locals := 101 } (mP D clW ct [.ref (ad (0)), .int p1, .int p2] sz (UM D ct ad (fun _ => True) S w)) (mC (some (.int o.1)) (UM D ct ad (fun _ => True) o.2 w) (uA 31 ad sz)) 0 0 (uA 31 ad sz) := by
  refine X.start (val := fun (o : (Int32 × US)) => some (.int o.1)) (Bt := fun (o : (Int32 × US)) => UM D ct ad (fun _ => True) o.2 w) (A := uA 31 ad sz) ho (by decide) (Nat.le_of_ble_eq_true rfl) rfl ?_
  intro p e s m args below meth c E hr hlk hnm hsz hU ls hl
  subst hsz
  obtain ⟨⟨hx, hb, hml, hown, hts⟩, hK, hJ⟩ := id E
  replace hU := hU.to (B := uA 31 ad s.heap.size) (fun i hi => Or.inl ⟨i, hi, rfl⟩)
  have hA0 : ∀ q, s.heap.size ≤ q → (uA 31 ad s.heap.size) q := fun q h => Or.inr h
  have hS : va_S (uA 31 ad s.heap.size) s.heap s.heap [] := va_S.rf
  unfold sM_fraysOf
  refine x_aload_n hx hb dX4_fraysOf_0 rfl (lv_at hl 0 rfl) ?_
  refine x_iload_n hx hb dX4_fraysOf_1 rfl (lv_at hl 1 rfl) ?_
  refine x_iload_n hx hb dX4_fraysOf_2 rfl (lv_at hl 2 rfl) ?_
  refine kM_isGap E hU hS hA0 ⟨by decide, by decide⟩ hl.1 (Nat.le_of_ble_eq_true rfl) dX4_fraysOf_3 ⟨Nat.le_refl _, Nat.le_refl _⟩ (fun o1 H locs hU hS => ?_)
  refine x_if_eq (tgt := 11) hx hb dX4_fraysOf_6 (by decide) (fun hc => ?_) (fun hc => ?_)
  · refine x_aload_n hx hb dX4_fraysOf_11 rfl (lv_at hl 0 rfl) ?_
    refine gM_fraysAt E hU dX4_fraysOf_12 ?_
    refine x_iconst (v := -1) hx hb dX4_fraysOf_15 (by decide) ?_
    refine x_icmp_ne (tgt := 49) hx hb dX4_fraysOf_16 (by decide) (fun hc => ?_) (fun hc => ?_)
    · refine x_aload_n hx hb dX4_fraysOf_49 rfl (lv_at hl 0 rfl) ?_
      refine x_aload_n hx hb dX4_fraysOf_50 rfl (lv_at hl 0 rfl) ?_
      refine gM_fraysAt E hU dX4_fraysOf_51 ?_
      refine x_iload_n hx hb dX4_fraysOf_54 rfl (lv_at hl 1 rfl) ?_
      refine x_iload_n hx hb dX4_fraysOf_55 rfl (lv_at hl 2 rfl) ?_
      refine kM_asks E hU hS hA0 ⟨by decide, by decide⟩ hl.1 (Nat.le_of_ble_eq_true rfl) dX4_fraysOf_56 ⟨Nat.le_refl _, Nat.le_refl _⟩ (fun o2 H locs hU hS => ?_)
      refine x_iconst (v := 0) hx hb dX4_fraysOf_59 (by decide) ?_
      refine x_bipush (v := 20) hx hb dX4_fraysOf_60 (by decide) ?_
      refine kM_bounded E hS hA0 ⟨by decide, by decide⟩ hl.1 (Nat.le_of_ble_eq_true rfl) dX4_fraysOf_62 ⟨Nat.le_refl _, Nat.le_refl _⟩ (fun o3 H locs hk hS => ?_)
      replace hU := hU.kept (fun i hi => hk _ (hU.lt hi))
      exact x_iret hx hb hr hlk hS rfl (hU.to fun _ _ => trivial) dX4_fraysOf_65
    · refine x_aload_n hx hb dX4_fraysOf_19 rfl (lv_at hl 0 rfl) ?_
      refine gM_rows E hU dX4_fraysOf_20 ?_
      refine x_iload_n hx hb dX4_fraysOf_23 rfl (lv_at hl 1 rfl) ?_
      refine x_iconst (v := 1) hx hb dX4_fraysOf_24 (by decide) ?_
      refine x_iadd hx hb dX4_fraysOf_25 ?_
      refine x_iload_n hx hb dX4_fraysOf_26 rfl (lv_at hl 2 rfl) ?_
      refine x_iadd hx hb dX4_fraysOf_27 ?_
      refine ux_ald (i := 14) (n := 98) E hU (by decide) rfl dX4_fraysOf_28 ?_
      refine x_bipush (v := 9) hx hb dX4_fraysOf_29 (by decide) ?_
      refine x_idiv hx hb dX4_fraysOf_31 (by decide) ?_
      refine x_aload_n hx hb dX4_fraysOf_32 rfl (lv_at hl 0 rfl) ?_
      refine gM_rows E hU dX4_fraysOf_33 ?_
      refine x_iload_n hx hb dX4_fraysOf_36 rfl (lv_at hl 1 rfl) ?_
      refine x_bipush (v := 25) hx hb dX4_fraysOf_37 (by decide) ?_
      refine x_iadd hx hb dX4_fraysOf_39 ?_
      refine x_iload_n hx hb dX4_fraysOf_40 rfl (lv_at hl 2 rfl) ?_
      refine x_iadd hx hb dX4_fraysOf_41 ?_
      refine ux_ald (i := 14) (n := 98) E hU (by decide) rfl dX4_fraysOf_42 ?_
      refine x_iconst (v := 1) hx hb dX4_fraysOf_43 (by decide) ?_
      refine x_iadd hx hb dX4_fraysOf_44 ?_
      refine x_idivG hx hb dX4_fraysOf_45 ?_
      refine x_goto (tgt := 59) hx hb dX4_fraysOf_46 (by decide) ?_
      refine x_iconst (v := 0) hx hb dX4_fraysOf_59 (by decide) ?_
      refine x_bipush (v := 20) hx hb dX4_fraysOf_60 (by decide) ?_
      refine kM_bounded E hS hA0 ⟨by decide, by decide⟩ hl.1 (Nat.le_of_ble_eq_true rfl) dX4_fraysOf_62 ⟨Nat.le_refl _, Nat.le_refl _⟩ (fun o4 H locs hk hS => ?_)
      replace hU := hU.kept (fun i hi => hk _ (hU.lt hi))
      exact x_iret hx hb hr hlk hS rfl (hU.to fun _ _ => trivial) dX4_fraysOf_65
  · refine x_iconst (v := 0) hx hb dX4_fraysOf_9 (by decide) ?_
    exact x_iret hx hb hr hlk hS rfl (hU.to fun _ _ => trivial) dX4_fraysOf_10
section MK
variable {ρ : Type} {p : Program} {l : Launch} {e : Env} {R : Room} {s : State} {m : MethodId} {args : Array Value} {below : List Frame} {meth : Method} {c : Code} {H : Heap} {locs : List Loc} {cells slots : Nat} {Qf : ρ → State → Prop}
variable {cc : ByteArray} {pc nL : Nat} {ls : Array Slot} {rest : List Value}
variable {D : va_G} {ct : CT} {ad : Nat → Nat} {A A0 : Nat → Prop} {S : US} {w : Int64} {H0 : Heap}
theorem kM_fraysOf {p1 : Int32} {p2 : Int32} (E : ME p m c cc nL s args RX4 D clW ct) (hU : UM D ct ad A S w H) (hS : va_S A H0 H locs) (hA0 : ∀ q, H0.size ≤ q → A q) (hR : 4 + 1 ≤ R.frames ∧ 8 + (3 + 11) + 101 ≤ R.locals) (hsize : ls.size = nL) (hW : (rest.map fun v => v.category).sum ≤ 8) (hdg : decode cc pc = .ok (.invokevirtual 346, 3)) (hf : cells ≤ R.cells ∧ slots ≤ R.slots) {kp : (Int32 × US) → Option ρ} (kk : ∀ (o : (Int32 × US)) (H1 : Heap) (locs1 : List Loc), UM D ct ad A o.2 w H1 → va_S A H0 H1 locs1 → X p l e R s m args below meth c H1 locs1 cells slots Qf (kp o) (F0 m (pc + 3) ls (.int o.1 :: rest))) : X p l e R s m args below meth c H locs cells slots Qf (callK (sM_fraysOf S p1 p2) kp) (F0 m pc ls (.int p2 :: .int p1 :: .ref (ad 0) :: rest)) := ucV_mod (i := 0) (So := fun (o : (Int32 × US)) => o.2) (wo := fun (o : (Int32 × US)) => w) (As := [.int p1, .int p2]) E hU hS hA0 (by decide) rfl rfl (fun sz o ho => mM_fraysOf l D ct ad S w p1 p2 sz o ho) (cwV 2 E.1.2.2.2.2 (lw_V q2216 q2218 qs82 q119 q2219) rfl rfl rfl (by decide +kernel) hR) rfl hsize rfl hW hdg hf kk
end MK

set_option maxHeartbeats 4000000 in
theorem mM_isStretch (l : Launch) (D : va_G) (ct : CT) (ad : Nat → Nat) (S : US) (w : Int64) (p1 : Int32) (sz : Nat) (o : (Bool × US)) (ho : sM_isStretch S p1 = some o) : Met l yX4_isStretch (ws_ yX4_isStretch cX4_isStretch 2 (some .boolean)) { frames := 2, cells := 0, slots := 0, locals := 54 } (mP D clW ct [.ref (ad (0)), .int p1] sz (UM D ct ad (fun _ => True) S w)) (mC (some (.int (bI o.1))) (UM D ct ad (fun _ => True) o.2 w) (uA 31 ad sz)) 0 0 (uA 31 ad sz) := by
  refine X.start (val := fun (o : (Bool × US)) => some (.int (bI o.1))) (Bt := fun (o : (Bool × US)) => UM D ct ad (fun _ => True) o.2 w) (A := uA 31 ad sz) ho (by decide) (Nat.le_of_ble_eq_true rfl) rfl ?_
  intro p e s m args below meth c E hr hlk hnm hsz hU ls hl
  subst hsz
  obtain ⟨⟨hx, hb, hml, hown, hts⟩, hK, hJ⟩ := id E
  replace hU := hU.to (B := uA 31 ad s.heap.size) (fun i hi => Or.inl ⟨i, hi, rfl⟩)
  have hA0 : ∀ q, s.heap.size ≤ q → (uA 31 ad s.heap.size) q := fun q h => Or.inr h
  have hS : va_S (uA 31 ad s.heap.size) s.heap s.heap [] := va_S.rf
  unfold sM_isStretch
  refine x_aload_n hx hb dX4_isStretch_0 rfl (lv_at hl 0 rfl) ?_
  refine x_iload_n hx hb dX4_isStretch_1 rfl (lv_at hl 1 rfl) ?_
  refine x_if_lt (tgt := 17) hx hb dX4_isStretch_2 (by decide) (fun hc => ?_) (fun hc => ?_)
  · refine x_iconst (v := 0) hx hb dX4_isStretch_17 (by decide) ?_
    refine x_iconst (v := 1) hx hb dX4_isStretch_18 (by decide) ?_
    refine kM_right E hU hS hA0 ⟨by decide, by decide⟩ hl.1 (Nat.le_of_ble_eq_true rfl) dX4_isStretch_19 ⟨Nat.le_refl _, Nat.le_refl _⟩ (fun o1 H locs hU hS => ?_)
    exact x_zret hx hb hr hlk hS (bI_z _) rfl (hU.to fun _ _ => trivial) dX4_isStretch_22
  · refine x_iload_n hx hb dX4_isStretch_5 rfl (lv_at hl 1 rfl) ?_
    refine x_aload_n hx hb dX4_isStretch_6 rfl (lv_at hl 0 rfl) ?_
    refine gM_many E hU dX4_isStretch_7 ?_
    refine x_icmp_ge (tgt := 17) hx hb dX4_isStretch_10 (by decide) (fun hc => ?_) (fun hc => ?_)
    · refine x_iconst (v := 0) hx hb dX4_isStretch_17 (by decide) ?_
      refine x_iconst (v := 1) hx hb dX4_isStretch_18 (by decide) ?_
      refine kM_right E hU hS hA0 ⟨by decide, by decide⟩ hl.1 (Nat.le_of_ble_eq_true rfl) dX4_isStretch_19 ⟨Nat.le_refl _, Nat.le_refl _⟩ (fun o2 H locs hU hS => ?_)
      exact x_zret hx hb hr hlk hS (bI_z _) rfl (hU.to fun _ _ => trivial) dX4_isStretch_22
    · refine x_iconst (v := 1) hx hb dX4_isStretch_13 (by decide) ?_
      refine x_goto (tgt := 18) hx hb dX4_isStretch_14 (by decide) ?_
      refine x_iconst (v := 1) hx hb dX4_isStretch_18 (by decide) ?_
      refine kM_right E hU hS hA0 ⟨by decide, by decide⟩ hl.1 (Nat.le_of_ble_eq_true rfl) dX4_isStretch_19 ⟨Nat.le_refl _, Nat.le_refl _⟩ (fun o3 H locs hU hS => ?_)
      exact x_zret hx hb hr hlk hS (bI_z _) rfl (hU.to fun _ _ => trivial) dX4_isStretch_22
section MK
variable {ρ : Type} {p : Program} {l : Launch} {e : Env} {R : Room} {s : State} {m : MethodId} {args : Array Value} {below : List Frame} {meth : Method} {c : Code} {H : Heap} {locs : List Loc} {cells slots : Nat} {Qf : ρ → State → Prop}
variable {cc : ByteArray} {pc nL : Nat} {ls : Array Slot} {rest : List Value}
variable {D : va_G} {ct : CT} {ad : Nat → Nat} {A A0 : Nat → Prop} {S : US} {w : Int64} {H0 : Heap}
theorem kM_isStretch {p1 : Int32} (E : ME p m c cc nL s args RX4 D clW ct) (hU : UM D ct ad A S w H) (hS : va_S A H0 H locs) (hA0 : ∀ q, H0.size ≤ q → A q) (hR : 2 + 1 ≤ R.frames ∧ 8 + (2 + 11) + 54 ≤ R.locals) (hsize : ls.size = nL) (hW : (rest.map fun v => v.category).sum ≤ 8) (hdg : decode cc pc = .ok (.invokevirtual 375, 3)) (hf : cells ≤ R.cells ∧ slots ≤ R.slots) {kp : (Bool × US) → Option ρ} (kk : ∀ (o : (Bool × US)) (H1 : Heap) (locs1 : List Loc), UM D ct ad A o.2 w H1 → va_S A H0 H1 locs1 → X p l e R s m args below meth c H1 locs1 cells slots Qf (kp o) (F0 m (pc + 3) ls (.int (bI o.1) :: rest))) : X p l e R s m args below meth c H locs cells slots Qf (callK (sM_isStretch S p1) kp) (F0 m pc ls (.int p1 :: .ref (ad 0) :: rest)) := ucV_mod (i := 0) (So := fun (o : (Bool × US)) => o.2) (wo := fun (o : (Bool × US)) => w) (As := [.int p1]) E hU hS hA0 (by decide) rfl rfl (fun sz o ho => mM_isStretch l D ct ad S w p1 sz o ho) (cwV 1 E.1.2.2.2.2 (lw_V q2208 q2210 qs80 q119 q2211) rfl rfl rfl (by decide +kernel) hR) rfl hsize rfl hW hdg hf kk
end MK

set_option maxHeartbeats 4000000 in
theorem mM_isWhat (l : Launch) (D : va_G) (ct : CT) (ad : Nat → Nat) (S : US) (w : Int64) (p1 : Int32) (p2 : Int32) (sz : Nat) (o : (Bool × US)) (ho : sM_isWhat S p1 p2 = some o) : Met l yX4_isWhat (ws_ yX4_isWhat cX4_isWhat 3 (some .boolean)) { frames := 2, cells := 0, slots := 0, locals := 54 } (mP D clW ct [.ref (ad (0)), .int p1, .int p2] sz (UM D ct ad (fun _ => True) S w)) (mC (some (.int (bI o.1))) (UM D ct ad (fun _ => True) o.2 w) (uA 31 ad sz)) 0 0 (uA 31 ad sz) := by
  refine X.start (val := fun (o : (Bool × US)) => some (.int (bI o.1))) (Bt := fun (o : (Bool × US)) => UM D ct ad (fun _ => True) o.2 w) (A := uA 31 ad sz) ho (by decide) (Nat.le_of_ble_eq_true rfl) rfl ?_
  intro p e s m args below meth c E hr hlk hnm hsz hU ls hl
  subst hsz
  obtain ⟨⟨hx, hb, hml, hown, hts⟩, hK, hJ⟩ := id E
  replace hU := hU.to (B := uA 31 ad s.heap.size) (fun i hi => Or.inl ⟨i, hi, rfl⟩)
  have hA0 : ∀ q, s.heap.size ≤ q → (uA 31 ad s.heap.size) q := fun q h => Or.inr h
  have hS : va_S (uA 31 ad s.heap.size) s.heap s.heap [] := va_S.rf
  unfold sM_isWhat
  refine x_aload_n hx hb dX4_isWhat_0 rfl (lv_at hl 0 rfl) ?_
  refine x_iload_n hx hb dX4_isWhat_1 rfl (lv_at hl 1 rfl) ?_
  refine x_iconst (v := 0) hx hb dX4_isWhat_2 (by decide) ?_
  refine x_iload_n hx hb dX4_isWhat_3 rfl (lv_at hl 2 rfl) ?_
  refine kM_within E hS hA0 ⟨by decide, by decide⟩ hl.1 (Nat.le_of_ble_eq_true rfl) dX4_isWhat_4 ⟨Nat.le_refl _, Nat.le_refl _⟩ (fun o1 H locs hk hS => ?_)
  replace hU := hU.kept (fun i hi => hk _ (hU.lt hi))
  refine x_iconst (v := 1) hx hb dX4_isWhat_7 (by decide) ?_
  refine kM_right E hU hS hA0 ⟨by decide, by decide⟩ hl.1 (Nat.le_of_ble_eq_true rfl) dX4_isWhat_8 ⟨Nat.le_refl _, Nat.le_refl _⟩ (fun o2 H locs hU hS => ?_)
  exact x_zret hx hb hr hlk hS (bI_z _) rfl (hU.to fun _ _ => trivial) dX4_isWhat_11
section MK
variable {ρ : Type} {p : Program} {l : Launch} {e : Env} {R : Room} {s : State} {m : MethodId} {args : Array Value} {below : List Frame} {meth : Method} {c : Code} {H : Heap} {locs : List Loc} {cells slots : Nat} {Qf : ρ → State → Prop}
variable {cc : ByteArray} {pc nL : Nat} {ls : Array Slot} {rest : List Value}
variable {D : va_G} {ct : CT} {ad : Nat → Nat} {A A0 : Nat → Prop} {S : US} {w : Int64} {H0 : Heap}
theorem kM_isWhat {p1 : Int32} {p2 : Int32} (E : ME p m c cc nL s args RX4 D clW ct) (hU : UM D ct ad A S w H) (hS : va_S A H0 H locs) (hA0 : ∀ q, H0.size ≤ q → A q) (hR : 2 + 1 ≤ R.frames ∧ 8 + (3 + 11) + 54 ≤ R.locals) (hsize : ls.size = nL) (hW : (rest.map fun v => v.category).sum ≤ 8) (hdg : decode cc pc = .ok (.invokevirtual 378, 3)) (hf : cells ≤ R.cells ∧ slots ≤ R.slots) {kp : (Bool × US) → Option ρ} (kk : ∀ (o : (Bool × US)) (H1 : Heap) (locs1 : List Loc), UM D ct ad A o.2 w H1 → va_S A H0 H1 locs1 → X p l e R s m args below meth c H1 locs1 cells slots Qf (kp o) (F0 m (pc + 3) ls (.int (bI o.1) :: rest))) : X p l e R s m args below meth c H locs cells slots Qf (callK (sM_isWhat S p1 p2) kp) (F0 m pc ls (.int p2 :: .int p1 :: .ref (ad 0) :: rest)) := ucV_mod (i := 0) (So := fun (o : (Bool × US)) => o.2) (wo := fun (o : (Bool × US)) => w) (As := [.int p1, .int p2]) E hU hS hA0 (by decide) rfl rfl (fun sz o ho => mM_isWhat l D ct ad S w p1 p2 sz o ho) (cwV 2 E.1.2.2.2.2 (lw_V q2212 q2214 qs81 q119 q2215) rfl rfl rfl (by decide +kernel) hR) rfl hsize rfl hW hdg hf kk
end MK

set_option maxHeartbeats 4000000 in
theorem mM_pullsOf (l : Launch) (D : va_G) (ct : CT) (ad : Nat → Nat) (S : US) (w : Int64) (p1 : Int32) (p2 : Int32) (sz : Nat) (o : (Int32 × US)) (ho : sM_pullsOf S p1 p2 = some o) : Met l yX4_pullsOf (ws_ yX4_pullsOf cX4_pullsOf 3 (some .int)) { frames := 4, cells := 0, slots := 0, locals := 101 } (mP D clW ct [.ref (ad (0)), .int p1, .int p2] sz (UM D ct ad (fun _ => True) S w)) (mC (some (.int o.1)) (UM D ct ad (fun _ => True) o.2 w) (uA 31 ad sz)) 0 0 (uA 31 ad sz) := by
  refine X.start (val := fun (o : (Int32 × US)) => some (.int o.1)) (Bt := fun (o : (Int32 × US)) => UM D ct ad (fun _ => True) o.2 w) (A := uA 31 ad sz) ho (by decide) (Nat.le_of_ble_eq_true rfl) rfl ?_
  intro p e s m args below meth c E hr hlk hnm hsz hU ls hl
  subst hsz
  obtain ⟨⟨hx, hb, hml, hown, hts⟩, hK, hJ⟩ := id E
  replace hU := hU.to (B := uA 31 ad s.heap.size) (fun i hi => Or.inl ⟨i, hi, rfl⟩)
  have hA0 : ∀ q, s.heap.size ≤ q → (uA 31 ad s.heap.size) q := fun q h => Or.inr h
  have hS : va_S (uA 31 ad s.heap.size) s.heap s.heap [] := va_S.rf
  unfold sM_pullsOf
  refine x_aload_n hx hb dX4_pullsOf_0 rfl (lv_at hl 0 rfl) ?_
  refine x_iload_n hx hb dX4_pullsOf_1 rfl (lv_at hl 1 rfl) ?_
  refine x_iload_n hx hb dX4_pullsOf_2 rfl (lv_at hl 2 rfl) ?_
  refine kM_isGap E hU hS hA0 ⟨by decide, by decide⟩ hl.1 (Nat.le_of_ble_eq_true rfl) dX4_pullsOf_3 ⟨Nat.le_refl _, Nat.le_refl _⟩ (fun o1 H locs hU hS => ?_)
  refine x_if_eq (tgt := 11) hx hb dX4_pullsOf_6 (by decide) (fun hc => ?_) (fun hc => ?_)
  · refine x_aload_n hx hb dX4_pullsOf_11 rfl (lv_at hl 0 rfl) ?_
    refine gM_pullsAt E hU dX4_pullsOf_12 ?_
    refine x_iconst (v := -1) hx hb dX4_pullsOf_15 (by decide) ?_
    refine x_icmp_ne (tgt := 44) hx hb dX4_pullsOf_16 (by decide) (fun hc => ?_) (fun hc => ?_)
    · refine x_aload_n hx hb dX4_pullsOf_44 rfl (lv_at hl 0 rfl) ?_
      refine x_aload_n hx hb dX4_pullsOf_45 rfl (lv_at hl 0 rfl) ?_
      refine gM_pullsAt E hU dX4_pullsOf_46 ?_
      refine x_iload_n hx hb dX4_pullsOf_49 rfl (lv_at hl 1 rfl) ?_
      refine x_iload_n hx hb dX4_pullsOf_50 rfl (lv_at hl 2 rfl) ?_
      refine kM_asks E hU hS hA0 ⟨by decide, by decide⟩ hl.1 (Nat.le_of_ble_eq_true rfl) dX4_pullsOf_51 ⟨Nat.le_refl _, Nat.le_refl _⟩ (fun o2 H locs hU hS => ?_)
      refine x_bipush (v := -9) hx hb dX4_pullsOf_54 (by decide) ?_
      refine x_bipush (v := 9) hx hb dX4_pullsOf_56 (by decide) ?_
      refine kM_bounded E hS hA0 ⟨by decide, by decide⟩ hl.1 (Nat.le_of_ble_eq_true rfl) dX4_pullsOf_58 ⟨Nat.le_refl _, Nat.le_refl _⟩ (fun o3 H locs hk hS => ?_)
      replace hU := hU.kept (fun i hi => hk _ (hU.lt hi))
      exact x_iret hx hb hr hlk hS rfl (hU.to fun _ _ => trivial) dX4_pullsOf_61
    · refine x_aload_n hx hb dX4_pullsOf_19 rfl (lv_at hl 0 rfl) ?_
      refine x_iload_n hx hb dX4_pullsOf_20 rfl (lv_at hl 1 rfl) ?_
      refine x_iload_n hx hb dX4_pullsOf_21 rfl (lv_at hl 2 rfl) ?_
      refine kM_besideOf E hU hS hA0 ⟨by decide, by decide⟩ hl.1 (Nat.le_of_ble_eq_true rfl) dX4_pullsOf_22 ⟨Nat.le_refl _, Nat.le_refl _⟩ (fun o4 H locs hU hS => ?_)
      refine x_iconst (v := 2) hx hb dX4_pullsOf_25 (by decide) ?_
      refine x_aload_n hx hb dX4_pullsOf_26 rfl (lv_at hl 0 rfl) ?_
      refine gM_rows E hU dX4_pullsOf_27 ?_
      refine x_iload_n hx hb dX4_pullsOf_30 rfl (lv_at hl 1 rfl) ?_
      refine x_iconst (v := 1) hx hb dX4_pullsOf_31 (by decide) ?_
      refine x_iadd hx hb dX4_pullsOf_32 ?_
      refine x_iload_n hx hb dX4_pullsOf_33 rfl (lv_at hl 2 rfl) ?_
      refine x_iadd hx hb dX4_pullsOf_34 ?_
      refine ux_ald (i := 14) (n := 98) E hU (by decide) rfl dX4_pullsOf_35 ?_
      refine x_imul hx hb dX4_pullsOf_36 ?_
      refine x_isub hx hb dX4_pullsOf_37 ?_
      refine x_bipush (v := 9) hx hb dX4_pullsOf_38 (by decide) ?_
      refine x_idiv hx hb dX4_pullsOf_40 (by decide) ?_
      refine x_goto (tgt := 54) hx hb dX4_pullsOf_41 (by decide) ?_
      refine x_bipush (v := -9) hx hb dX4_pullsOf_54 (by decide) ?_
      refine x_bipush (v := 9) hx hb dX4_pullsOf_56 (by decide) ?_
      refine kM_bounded E hS hA0 ⟨by decide, by decide⟩ hl.1 (Nat.le_of_ble_eq_true rfl) dX4_pullsOf_58 ⟨Nat.le_refl _, Nat.le_refl _⟩ (fun o5 H locs hk hS => ?_)
      replace hU := hU.kept (fun i hi => hk _ (hU.lt hi))
      exact x_iret hx hb hr hlk hS rfl (hU.to fun _ _ => trivial) dX4_pullsOf_61
  · refine x_iconst (v := 0) hx hb dX4_pullsOf_9 (by decide) ?_
    exact x_iret hx hb hr hlk hS rfl (hU.to fun _ _ => trivial) dX4_pullsOf_10
section MK
variable {ρ : Type} {p : Program} {l : Launch} {e : Env} {R : Room} {s : State} {m : MethodId} {args : Array Value} {below : List Frame} {meth : Method} {c : Code} {H : Heap} {locs : List Loc} {cells slots : Nat} {Qf : ρ → State → Prop}
variable {cc : ByteArray} {pc nL : Nat} {ls : Array Slot} {rest : List Value}
variable {D : va_G} {ct : CT} {ad : Nat → Nat} {A A0 : Nat → Prop} {S : US} {w : Int64} {H0 : Heap}
theorem kM_pullsOf {p1 : Int32} {p2 : Int32} (E : ME p m c cc nL s args RX4 D clW ct) (hU : UM D ct ad A S w H) (hS : va_S A H0 H locs) (hA0 : ∀ q, H0.size ≤ q → A q) (hR : 4 + 1 ≤ R.frames ∧ 8 + (3 + 11) + 101 ≤ R.locals) (hsize : ls.size = nL) (hW : (rest.map fun v => v.category).sum ≤ 8) (hdg : decode cc pc = .ok (.invokevirtual 343, 3)) (hf : cells ≤ R.cells ∧ slots ≤ R.slots) {kp : (Int32 × US) → Option ρ} (kk : ∀ (o : (Int32 × US)) (H1 : Heap) (locs1 : List Loc), UM D ct ad A o.2 w H1 → va_S A H0 H1 locs1 → X p l e R s m args below meth c H1 locs1 cells slots Qf (kp o) (F0 m (pc + 3) ls (.int o.1 :: rest))) : X p l e R s m args below meth c H locs cells slots Qf (callK (sM_pullsOf S p1 p2) kp) (F0 m pc ls (.int p2 :: .int p1 :: .ref (ad 0) :: rest)) := ucV_mod (i := 0) (So := fun (o : (Int32 × US)) => o.2) (wo := fun (o : (Int32 × US)) => w) (As := [.int p1, .int p2]) E hU hS hA0 (by decide) rfl rfl (fun sz o ho => mM_pullsOf l D ct ad S w p1 p2 sz o ho) (cwV 2 E.1.2.2.2.2 (lw_V q2249 q2251 qs88 q119 q2252) rfl rfl rfl (by decide +kernel) hR) rfl hsize rfl hW hdg hf kk
end MK

set_option maxHeartbeats 4000000 in
theorem mM_stretch (l : Launch) (D : va_G) (ct : CT) (ad : Nat → Nat) (S : US) (w : Int64) (p1 : Int32) (p2 : Int32) (sz : Nat) (o : (Int32 × US)) (ho : sM_stretch S p1 p2 = some o) : Met l yX4_stretch (ws_ yX4_stretch cX4_stretch 3 (some .int)) { frames := 5, cells := 0, slots := 0, locals := 123 } (mP D clW ct [.ref (ad (0)), .int p1, .int p2] sz (UM D ct ad (fun _ => True) S w)) (mC (some (.int o.1)) (UM D ct ad (fun _ => True) o.2 w) (uA 31 ad sz)) 0 0 (uA 31 ad sz) := by
  refine X.start (val := fun (o : (Int32 × US)) => some (.int o.1)) (Bt := fun (o : (Int32 × US)) => UM D ct ad (fun _ => True) o.2 w) (A := uA 31 ad sz) ho (by decide) (Nat.le_of_ble_eq_true rfl) rfl ?_
  intro p e s m args below meth c E hr hlk hnm hsz hU ls hl
  subst hsz
  obtain ⟨⟨hx, hb, hml, hown, hts⟩, hK, hJ⟩ := id E
  replace hU := hU.to (B := uA 31 ad s.heap.size) (fun i hi => Or.inl ⟨i, hi, rfl⟩)
  have hA0 : ∀ q, s.heap.size ≤ q → (uA 31 ad s.heap.size) q := fun q h => Or.inr h
  have hS : va_S (uA 31 ad s.heap.size) s.heap s.heap [] := va_S.rf
  unfold sM_stretch
  refine x_aload_n hx hb dX4_stretch_0 rfl (lv_at hl 0 rfl) ?_
  refine x_iconst (v := 0) hx hb dX4_stretch_1 (by decide) ?_
  refine pM_thrown E hU hS dX4_stretch_2 (fun S1 H locs hU hS => ?_)
  refine x_aload_n hx hb dX4_stretch_5 rfl (lv_at hl 0 rfl) ?_
  refine x_iload_n hx hb dX4_stretch_6 rfl (lv_at hl 1 rfl) ?_
  refine kM_isStretch E hU hS hA0 ⟨by decide, by decide⟩ hl.1 (Nat.le_of_ble_eq_true rfl) dX4_stretch_7 ⟨Nat.le_refl _, Nat.le_refl _⟩ (fun o2 H locs hU hS => ?_)
  refine x_if_eq (tgt := 22) hx hb dX4_stretch_10 (by decide) (fun hc => ?_) (fun hc => ?_)
  · refine x_iconst (v := 0) hx hb dX4_stretch_22 (by decide) ?_
    exact x_iret hx hb hr hlk hS rfl (hU.to fun _ _ => trivial) dX4_stretch_23
  · refine x_aload_n hx hb dX4_stretch_13 rfl (lv_at hl 0 rfl) ?_
    refine x_iload_n hx hb dX4_stretch_14 rfl (lv_at hl 2 rfl) ?_
    refine x_iconst (v := 5) hx hb dX4_stretch_15 (by decide) ?_
    refine kM_isWhat E hU hS hA0 ⟨by decide, by decide⟩ hl.1 (Nat.le_of_ble_eq_true rfl) dX4_stretch_16 ⟨Nat.le_refl _, Nat.le_refl _⟩ (fun o3 H locs hU hS => ?_)
    refine x_if_ne (tgt := 24) hx hb dX4_stretch_19 (by decide) (fun hc => ?_) (fun hc => ?_)
    · refine x_iload_n hx hb dX4_stretch_24 rfl (lv_at hl 2 rfl) ?_
      refine X.ite (fun hc => ?_) (fun hc0 => ?_)
      · refine x_tabEq (tgt := 60) hx hb hc dX4_stretch_25 (by decide) (by decide) rfl (by decide) ?_
        refine x_aload_n hx hb dX4_stretch_60 rfl (lv_at hl 0 rfl) ?_
        refine gM_rows E hU dX4_stretch_61 ?_
        refine x_iconst (v := 1) hx hb dX4_stretch_64 (by decide) ?_
        refine x_iload_n hx hb dX4_stretch_65 rfl (lv_at hl 1 rfl) ?_
        refine x_iadd hx hb dX4_stretch_66 ?_
        refine ux_ald (i := 14) (n := 98) E hU (by decide) rfl dX4_stretch_67 ?_
        exact x_iret hx hb hr hlk hS rfl (hU.to fun _ _ => trivial) dX4_stretch_68
      refine X.ite (fun hc => ?_) (fun hc1 => ?_)
      · refine x_tabEq (tgt := 69) hx hb hc dX4_stretch_25 (by decide) (by decide) rfl (by decide) ?_
        refine x_aload_n hx hb dX4_stretch_69 rfl (lv_at hl 0 rfl) ?_
        refine gM_rows E hU dX4_stretch_70 ?_
        refine x_bipush (v := 13) hx hb dX4_stretch_73 (by decide) ?_
        refine x_iload_n hx hb dX4_stretch_75 rfl (lv_at hl 1 rfl) ?_
        refine x_iadd hx hb dX4_stretch_76 ?_
        refine ux_ald (i := 14) (n := 98) E hU (by decide) rfl dX4_stretch_77 ?_
        exact x_iret hx hb hr hlk hS rfl (hU.to fun _ _ => trivial) dX4_stretch_78
      refine X.ite (fun hc => ?_) (fun hc2 => ?_)
      · refine x_tabEq (tgt := 79) hx hb hc dX4_stretch_25 (by decide) (by decide) rfl (by decide) ?_
        refine x_aload_n hx hb dX4_stretch_79 rfl (lv_at hl 0 rfl) ?_
        refine gM_rows E hU dX4_stretch_80 ?_
        refine x_bipush (v := 25) hx hb dX4_stretch_83 (by decide) ?_
        refine x_iload_n hx hb dX4_stretch_85 rfl (lv_at hl 1 rfl) ?_
        refine x_iadd hx hb dX4_stretch_86 ?_
        refine ux_ald (i := 14) (n := 98) E hU (by decide) rfl dX4_stretch_87 ?_
        exact x_iret hx hb hr hlk hS rfl (hU.to fun _ _ => trivial) dX4_stretch_88
      refine X.ite (fun hc => ?_) (fun hc3 => ?_)
      · refine x_tabEq (tgt := 89) hx hb hc dX4_stretch_25 (by decide) (by decide) rfl (by decide) ?_
        refine x_aload_n hx hb dX4_stretch_89 rfl (lv_at hl 0 rfl) ?_
        refine x_iconst (v := 0) hx hb dX4_stretch_90 (by decide) ?_
        refine x_iload_n hx hb dX4_stretch_91 rfl (lv_at hl 1 rfl) ?_
        refine kM_womenAt E hU hS hA0 ⟨by decide, by decide⟩ hl.1 (Nat.le_of_ble_eq_true rfl) dX4_stretch_92 ⟨Nat.le_refl _, Nat.le_refl _⟩ (fun o4 H locs hU hS => ?_)
        exact x_iret hx hb hr hlk hS rfl (hU.to fun _ _ => trivial) dX4_stretch_95
      refine X.ite (fun hc => ?_) (fun hc4 => ?_)
      · refine x_tabEq (tgt := 96) hx hb hc dX4_stretch_25 (by decide) (by decide) rfl (by decide) ?_
        refine x_aload_n hx hb dX4_stretch_96 rfl (lv_at hl 0 rfl) ?_
        refine x_iconst (v := 0) hx hb dX4_stretch_97 (by decide) ?_
        refine x_iload_n hx hb dX4_stretch_98 rfl (lv_at hl 1 rfl) ?_
        refine kM_fraysOf E hU hS hA0 ⟨by decide, by decide⟩ hl.1 (Nat.le_of_ble_eq_true rfl) dX4_stretch_99 ⟨Nat.le_refl _, Nat.le_refl _⟩ (fun o5 H locs hU hS => ?_)
        exact x_iret hx hb hr hlk hS rfl (hU.to fun _ _ => trivial) dX4_stretch_102
      refine x_tabElse2 (n := 5) (tgt := 103) hx hb dX4_stretch_25 [0, 1, 2, 3, 4] (by decide) (by decide) (List.forall_mem_cons.mpr ⟨fun he => absurd (x_i32 he (0 : Int32) (by decide)) hc0, (List.forall_mem_cons.mpr ⟨fun he => absurd (x_i32 he (1 : Int32) (by decide)) hc1, (List.forall_mem_cons.mpr ⟨fun he => absurd (x_i32 he (2 : Int32) (by decide)) hc2, (List.forall_mem_cons.mpr ⟨fun he => absurd (x_i32 he (3 : Int32) (by decide)) hc3, (List.forall_mem_cons.mpr ⟨fun he => absurd (x_i32 he (4 : Int32) (by decide)) hc4, (fun _ h => absurd h List.not_mem_nil)⟩)⟩)⟩)⟩)⟩) (by decide) ?_
      refine x_aload_n hx hb dX4_stretch_103 rfl (lv_at hl 0 rfl) ?_
      refine x_iconst (v := 0) hx hb dX4_stretch_104 (by decide) ?_
      refine x_iload_n hx hb dX4_stretch_105 rfl (lv_at hl 1 rfl) ?_
      refine kM_pullsOf E hU hS hA0 ⟨by decide, by decide⟩ hl.1 (Nat.le_of_ble_eq_true rfl) dX4_stretch_106 ⟨Nat.le_refl _, Nat.le_refl _⟩ (fun o6 H locs hU hS => ?_)
      exact x_iret hx hb hr hlk hS rfl (hU.to fun _ _ => trivial) dX4_stretch_109
    · refine x_iconst (v := 0) hx hb dX4_stretch_22 (by decide) ?_
      exact x_iret hx hb hr hlk hS rfl (hU.to fun _ _ => trivial) dX4_stretch_23

set_option maxHeartbeats 4000000 in
theorem mM_isWoman (l : Launch) (D : va_G) (ct : CT) (ad : Nat → Nat) (S : US) (w : Int64) (p1 : Int32) (sz : Nat) (o : (Bool × US)) (ho : sM_isWoman S p1 = some o) : Met l yX4_isWoman (ws_ yX4_isWoman cX4_isWoman 2 (some .boolean)) { frames := 2, cells := 0, slots := 0, locals := 54 } (mP D clW ct [.ref (ad (0)), .int p1] sz (UM D ct ad (fun _ => True) S w)) (mC (some (.int (bI o.1))) (UM D ct ad (fun _ => True) o.2 w) (uA 31 ad sz)) 0 0 (uA 31 ad sz) := by
  refine X.start (val := fun (o : (Bool × US)) => some (.int (bI o.1))) (Bt := fun (o : (Bool × US)) => UM D ct ad (fun _ => True) o.2 w) (A := uA 31 ad sz) ho (by decide) (Nat.le_of_ble_eq_true rfl) rfl ?_
  intro p e s m args below meth c E hr hlk hnm hsz hU ls hl
  subst hsz
  obtain ⟨⟨hx, hb, hml, hown, hts⟩, hK, hJ⟩ := id E
  replace hU := hU.to (B := uA 31 ad s.heap.size) (fun i hi => Or.inl ⟨i, hi, rfl⟩)
  have hA0 : ∀ q, s.heap.size ≤ q → (uA 31 ad s.heap.size) q := fun q h => Or.inr h
  have hS : va_S (uA 31 ad s.heap.size) s.heap s.heap [] := va_S.rf
  unfold sM_isWoman
  refine x_aload_n hx hb dX4_isWoman_0 rfl (lv_at hl 0 rfl) ?_
  refine x_iload_n hx hb dX4_isWoman_1 rfl (lv_at hl 1 rfl) ?_
  refine x_if_lt (tgt := 17) hx hb dX4_isWoman_2 (by decide) (fun hc => ?_) (fun hc => ?_)
  · refine x_iconst (v := 0) hx hb dX4_isWoman_17 (by decide) ?_
    refine x_iconst (v := 1) hx hb dX4_isWoman_18 (by decide) ?_
    refine kM_right E hU hS hA0 ⟨by decide, by decide⟩ hl.1 (Nat.le_of_ble_eq_true rfl) dX4_isWoman_19 ⟨Nat.le_refl _, Nat.le_refl _⟩ (fun o1 H locs hU hS => ?_)
    exact x_zret hx hb hr hlk hS (bI_z _) rfl (hU.to fun _ _ => trivial) dX4_isWoman_22
  · refine x_iload_n hx hb dX4_isWoman_5 rfl (lv_at hl 1 rfl) ?_
    refine x_aload_n hx hb dX4_isWoman_6 rfl (lv_at hl 0 rfl) ?_
    refine gM_women E hU dX4_isWoman_7 ?_
    refine x_icmp_ge (tgt := 17) hx hb dX4_isWoman_10 (by decide) (fun hc => ?_) (fun hc => ?_)
    · refine x_iconst (v := 0) hx hb dX4_isWoman_17 (by decide) ?_
      refine x_iconst (v := 1) hx hb dX4_isWoman_18 (by decide) ?_
      refine kM_right E hU hS hA0 ⟨by decide, by decide⟩ hl.1 (Nat.le_of_ble_eq_true rfl) dX4_isWoman_19 ⟨Nat.le_refl _, Nat.le_refl _⟩ (fun o2 H locs hU hS => ?_)
      exact x_zret hx hb hr hlk hS (bI_z _) rfl (hU.to fun _ _ => trivial) dX4_isWoman_22
    · refine x_iconst (v := 1) hx hb dX4_isWoman_13 (by decide) ?_
      refine x_goto (tgt := 18) hx hb dX4_isWoman_14 (by decide) ?_
      refine x_iconst (v := 1) hx hb dX4_isWoman_18 (by decide) ?_
      refine kM_right E hU hS hA0 ⟨by decide, by decide⟩ hl.1 (Nat.le_of_ble_eq_true rfl) dX4_isWoman_19 ⟨Nat.le_refl _, Nat.le_refl _⟩ (fun o3 H locs hU hS => ?_)
      exact x_zret hx hb hr hlk hS (bI_z _) rfl (hU.to fun _ _ => trivial) dX4_isWoman_22
section MK
variable {ρ : Type} {p : Program} {l : Launch} {e : Env} {R : Room} {s : State} {m : MethodId} {args : Array Value} {below : List Frame} {meth : Method} {c : Code} {H : Heap} {locs : List Loc} {cells slots : Nat} {Qf : ρ → State → Prop}
variable {cc : ByteArray} {pc nL : Nat} {ls : Array Slot} {rest : List Value}
variable {D : va_G} {ct : CT} {ad : Nat → Nat} {A A0 : Nat → Prop} {S : US} {w : Int64} {H0 : Heap}
theorem kM_isWoman {p1 : Int32} (E : ME p m c cc nL s args RX4 D clW ct) (hU : UM D ct ad A S w H) (hS : va_S A H0 H locs) (hA0 : ∀ q, H0.size ≤ q → A q) (hR : 2 + 1 ≤ R.frames ∧ 8 + (2 + 11) + 54 ≤ R.locals) (hsize : ls.size = nL) (hW : (rest.map fun v => v.category).sum ≤ 8) (hdg : decode cc pc = .ok (.invokevirtual 381, 3)) (hf : cells ≤ R.cells ∧ slots ≤ R.slots) {kp : (Bool × US) → Option ρ} (kk : ∀ (o : (Bool × US)) (H1 : Heap) (locs1 : List Loc), UM D ct ad A o.2 w H1 → va_S A H0 H1 locs1 → X p l e R s m args below meth c H1 locs1 cells slots Qf (kp o) (F0 m (pc + 3) ls (.int (bI o.1) :: rest))) : X p l e R s m args below meth c H locs cells slots Qf (callK (sM_isWoman S p1) kp) (F0 m pc ls (.int p1 :: .ref (ad 0) :: rest)) := ucV_mod (i := 0) (So := fun (o : (Bool × US)) => o.2) (wo := fun (o : (Bool × US)) => w) (As := [.int p1]) E hU hS hA0 (by decide) rfl rfl (fun sz o ho => mM_isWoman l D ct ad S w p1 sz o ho) (cwV 1 E.1.2.2.2.2 (lw_V q2257 q2259 qs89 q119 q2260) rfl rfl rfl (by decide +kernel) hR) rfl hsize rfl hW hdg hf kk
end MK

set_option maxHeartbeats 4000000 in
theorem mM_woman (l : Launch) (D : va_G) (ct : CT) (ad : Nat → Nat) (S : US) (w : Int64) (p1 : Int32) (p2 : Int32) (sz : Nat) (o : (Int32 × US)) (ho : sM_woman S p1 p2 = some o) : Met l yX4_woman (ws_ yX4_woman cX4_woman 3 (some .int)) { frames := 3, cells := 0, slots := 0, locals := 76 } (mP D clW ct [.ref (ad (0)), .int p1, .int p2] sz (UM D ct ad (fun _ => True) S w)) (mC (some (.int o.1)) (UM D ct ad (fun _ => True) o.2 w) (uA 31 ad sz)) 0 0 (uA 31 ad sz) := by
  refine X.start (val := fun (o : (Int32 × US)) => some (.int o.1)) (Bt := fun (o : (Int32 × US)) => UM D ct ad (fun _ => True) o.2 w) (A := uA 31 ad sz) ho (by decide) (Nat.le_of_ble_eq_true rfl) rfl ?_
  intro p e s m args below meth c E hr hlk hnm hsz hU ls hl
  subst hsz
  obtain ⟨⟨hx, hb, hml, hown, hts⟩, hK, hJ⟩ := id E
  replace hU := hU.to (B := uA 31 ad s.heap.size) (fun i hi => Or.inl ⟨i, hi, rfl⟩)
  have hA0 : ∀ q, s.heap.size ≤ q → (uA 31 ad s.heap.size) q := fun q h => Or.inr h
  have hS : va_S (uA 31 ad s.heap.size) s.heap s.heap [] := va_S.rf
  unfold sM_woman
  refine x_aload_n hx hb dX4_woman_0 rfl (lv_at hl 0 rfl) ?_
  refine x_iconst (v := 0) hx hb dX4_woman_1 (by decide) ?_
  refine pM_thrown E hU hS dX4_woman_2 (fun S1 H locs hU hS => ?_)
  refine x_aload_n hx hb dX4_woman_5 rfl (lv_at hl 0 rfl) ?_
  refine x_iload_n hx hb dX4_woman_6 rfl (lv_at hl 1 rfl) ?_
  refine kM_isWoman E hU hS hA0 ⟨by decide, by decide⟩ hl.1 (Nat.le_of_ble_eq_true rfl) dX4_woman_7 ⟨Nat.le_refl _, Nat.le_refl _⟩ (fun o2 H locs hU hS => ?_)
  refine x_if_eq (tgt := 22) hx hb dX4_woman_10 (by decide) (fun hc => ?_) (fun hc => ?_)
  · refine x_iconst (v := 0) hx hb dX4_woman_22 (by decide) ?_
    exact x_iret hx hb hr hlk hS rfl (hU.to fun _ _ => trivial) dX4_woman_23
  · refine x_aload_n hx hb dX4_woman_13 rfl (lv_at hl 0 rfl) ?_
    refine x_iload_n hx hb dX4_woman_14 rfl (lv_at hl 2 rfl) ?_
    refine x_iconst (v := 2) hx hb dX4_woman_15 (by decide) ?_
    refine kM_isWhat E hU hS hA0 ⟨by decide, by decide⟩ hl.1 (Nat.le_of_ble_eq_true rfl) dX4_woman_16 ⟨Nat.le_refl _, Nat.le_refl _⟩ (fun o3 H locs hU hS => ?_)
    refine x_if_ne (tgt := 24) hx hb dX4_woman_19 (by decide) (fun hc => ?_) (fun hc => ?_)
    · refine x_iload_n hx hb dX4_woman_24 rfl (lv_at hl 2 rfl) ?_
      refine x_if_ne (tgt := 37) hx hb dX4_woman_25 (by decide) (fun hc => ?_) (fun hc => ?_)
      · refine x_iload_n hx hb dX4_woman_37 rfl (lv_at hl 2 rfl) ?_
        refine x_iconst (v := 1) hx hb dX4_woman_38 (by decide) ?_
        refine x_icmp_ne (tgt := 54) hx hb dX4_woman_39 (by decide) (fun hc => ?_) (fun hc => ?_)
        · refine x_aload_n hx hb dX4_woman_54 rfl (lv_at hl 0 rfl) ?_
          refine gM_rows E hU dX4_woman_55 ?_
          refine x_bipush (v := 43) hx hb dX4_woman_58 (by decide) ?_
          refine x_iload_n hx hb dX4_woman_60 rfl (lv_at hl 1 rfl) ?_
          refine x_iadd hx hb dX4_woman_61 ?_
          refine ux_ald (i := 14) (n := 98) E hU (by decide) rfl dX4_woman_62 ?_
          exact x_iret hx hb hr hlk hS rfl (hU.to fun _ _ => trivial) dX4_woman_63
        · refine x_aload_n hx hb dX4_woman_42 rfl (lv_at hl 0 rfl) ?_
          refine gM_rows E hU dX4_woman_43 ?_
          refine x_bipush (v := 37) hx hb dX4_woman_46 (by decide) ?_
          refine x_iload_n hx hb dX4_woman_48 rfl (lv_at hl 1 rfl) ?_
          refine x_iadd hx hb dX4_woman_49 ?_
          refine ux_ald (i := 14) (n := 98) E hU (by decide) rfl dX4_woman_50 ?_
          refine x_goto (tgt := 63) hx hb dX4_woman_51 (by decide) ?_
          exact x_iret hx hb hr hlk hS rfl (hU.to fun _ _ => trivial) dX4_woman_63
      · refine x_aload_n hx hb dX4_woman_28 rfl (lv_at hl 0 rfl) ?_
        refine gM_skill E hU dX4_woman_29 ?_
        refine x_iload_n hx hb dX4_woman_32 rfl (lv_at hl 1 rfl) ?_
        refine ux_ald (i := 1) (n := 6) E hU (by decide) rfl dX4_woman_33 ?_
        refine x_goto (tgt := 63) hx hb dX4_woman_34 (by decide) ?_
        exact x_iret hx hb hr hlk hS rfl (hU.to fun _ _ => trivial) dX4_woman_63
    · refine x_iconst (v := 0) hx hb dX4_woman_22 (by decide) ?_
      exact x_iret hx hb hr hlk hS rfl (hU.to fun _ _ => trivial) dX4_woman_23

set_option maxHeartbeats 4000000 in
theorem mM_goesOn (l : Launch) (D : va_G) (ct : CT) (ad : Nat → Nat) (S : US) (w : Int64) (p1 : Int32) (p2 : Int32) (sz : Nat) (o : US) (ho : sM_goesOn S p1 p2 = some o) : Met l yX4_goesOn (ws_ yX4_goesOn cX4_goesOn 3 none) { frames := 2, cells := 0, slots := 0, locals := 53 } (mP D clW ct [.ref (ad (0)), .int p1, .int p2] sz (UM D ct ad (fun _ => True) S w)) (mC (none) (UM D ct ad (fun _ => True) o w) (uA 31 ad sz)) 0 0 (uA 31 ad sz) := by
  refine X.start (val := fun (o : US) => none) (Bt := fun (o : US) => UM D ct ad (fun _ => True) o w) (A := uA 31 ad sz) ho (by decide) (Nat.le_of_ble_eq_true rfl) rfl ?_
  intro p e s m args below meth c E hr hlk hnm hsz hU ls hl
  subst hsz
  obtain ⟨⟨hx, hb, hml, hown, hts⟩, hK, hJ⟩ := id E
  replace hU := hU.to (B := uA 31 ad s.heap.size) (fun i hi => Or.inl ⟨i, hi, rfl⟩)
  have hA0 : ∀ q, s.heap.size ≤ q → (uA 31 ad s.heap.size) q := fun q h => Or.inr h
  have hS : va_S (uA 31 ad s.heap.size) s.heap s.heap [] := va_S.rf
  unfold sM_goesOn
  refine x_aload_n hx hb dX4_goesOn_0 rfl (lv_at hl 0 rfl) ?_
  refine gM_rows E hU dX4_goesOn_1 ?_
  refine x_iload_n hx hb dX4_goesOn_4 rfl (lv_at hl 1 rfl) ?_
  refine x_bipush (v := 37) hx hb dX4_goesOn_5 (by decide) ?_
  refine x_iadd hx hb dX4_goesOn_7 ?_
  refine x_iload_n hx hb dX4_goesOn_8 rfl (lv_at hl 2 rfl) ?_
  refine x_iadd hx hb dX4_goesOn_9 ?_
  refine x_aload_n hx hb dX4_goesOn_10 rfl (lv_at hl 0 rfl) ?_
  refine x_aload_n hx hb dX4_goesOn_11 rfl (lv_at hl 0 rfl) ?_
  refine gM_rows E hU dX4_goesOn_12 ?_
  refine x_iload_n hx hb dX4_goesOn_15 rfl (lv_at hl 1 rfl) ?_
  refine x_bipush (v := 37) hx hb dX4_goesOn_16 (by decide) ?_
  refine x_iadd hx hb dX4_goesOn_18 ?_
  refine x_iload_n hx hb dX4_goesOn_19 rfl (lv_at hl 2 rfl) ?_
  refine x_iadd hx hb dX4_goesOn_20 ?_
  refine ux_ald (i := 14) (n := 98) E hU (by decide) rfl dX4_goesOn_21 ?_
  refine kM_behind1 E hU hS hA0 ⟨by decide, by decide⟩ hl.1 (Nat.le_of_ble_eq_true rfl) dX4_goesOn_22 ⟨Nat.le_refl _, Nat.le_refl _⟩ (fun o1 H locs hU hS => ?_)
  refine ux_ast (i := 14) (n := 98) E hU hS (by decide) rfl dX4_goesOn_25 (fun S2 H locs hU hS => ?_)
  exact x_vret hx hb hr hlk hS rfl (hU.to fun _ _ => trivial) dX4_goesOn_26
section MK
variable {ρ : Type} {p : Program} {l : Launch} {e : Env} {R : Room} {s : State} {m : MethodId} {args : Array Value} {below : List Frame} {meth : Method} {c : Code} {H : Heap} {locs : List Loc} {cells slots : Nat} {Qf : ρ → State → Prop}
variable {cc : ByteArray} {pc nL : Nat} {ls : Array Slot} {rest : List Value}
variable {D : va_G} {ct : CT} {ad : Nat → Nat} {A A0 : Nat → Prop} {S : US} {w : Int64} {H0 : Heap}
theorem kM_goesOn {p1 : Int32} {p2 : Int32} (E : ME p m c cc nL s args RX4 D clW ct) (hU : UM D ct ad A S w H) (hS : va_S A H0 H locs) (hA0 : ∀ q, H0.size ≤ q → A q) (hR : 2 + 1 ≤ R.frames ∧ 8 + (3 + 11) + 53 ≤ R.locals) (hsize : ls.size = nL) (hW : (rest.map fun v => v.category).sum ≤ 8) (hdg : decode cc pc = .ok (.invokevirtual 356, 3)) (hf : cells ≤ R.cells ∧ slots ≤ R.slots) {kp : US → Option ρ} (kk : ∀ (o : US) (H1 : Heap) (locs1 : List Loc), UM D ct ad A o w H1 → va_S A H0 H1 locs1 → X p l e R s m args below meth c H1 locs1 cells slots Qf (kp o) (F0 m (pc + 3) ls (rest))) : X p l e R s m args below meth c H locs cells slots Qf (callK (sM_goesOn S p1 p2) kp) (F0 m pc ls (.int p2 :: .int p1 :: .ref (ad 0) :: rest)) := ucV_mod (i := 0) (So := fun (o : US) => o) (wo := fun (o : US) => w) (As := [.int p1, .int p2]) E hU hS hA0 (by decide) rfl rfl (fun sz o ho => mM_goesOn l D ct ad S w p1 p2 sz o ho) (cwV 2 E.1.2.2.2.2 (lw_V q2292 q2294 qs96 q119 q2295) rfl rfl rfl (by decide +kernel) hR) rfl hsize rfl hW hdg hf kk
end MK

set_option maxHeartbeats 4000000 in
theorem mM_lesser (l : Launch) (D : va_G) (ct : CT) (p1 : Int32) (p2 : Int32) (sz : Nat) (o : Int32) (ho : sM_lesser p1 p2 = some o) : Met l yX4_lesser (ws_ yX4_lesser cX4_lesser 2 (some .int)) { frames := 1, cells := 0, slots := 0, locals := 32 } (mP D clW ct [.int p1, .int p2] sz (fun _ => True)) (mC (some (.int o)) (fun _ => True) (nA sz)) 0 0 (nA sz) := by
  refine X.start (val := fun (o : Int32) => some (.int o)) (Bt := fun _ _ => True) (A := nA sz) ho (by decide) (Nat.le_of_ble_eq_true rfl) rfl ?_
  intro p e s m args below meth c E hr hlk hnm hsz hU ls hl
  subst hsz
  obtain ⟨⟨hx, hb, hml, hown, hts⟩, hK, hJ⟩ := id E
  have hA0 : ∀ q, s.heap.size ≤ q → (nA s.heap.size) q := fun q h => h
  have hS : va_S (nA s.heap.size) s.heap s.heap [] := va_S.rf
  unfold sM_lesser
  refine x_iload_n hx hb dX4_lesser_0 rfl (lv_at hl 0 rfl) ?_
  refine x_iload_n hx hb dX4_lesser_1 rfl (lv_at hl 1 rfl) ?_
  refine x_icmp_ge (tgt := 9) hx hb dX4_lesser_2 (by decide) (fun hc => ?_) (fun hc => ?_)
  · refine x_iload_n hx hb dX4_lesser_9 rfl (lv_at hl 1 rfl) ?_
    exact x_iret hx hb hr hlk hS rfl trivial dX4_lesser_10
  · refine x_iload_n hx hb dX4_lesser_5 rfl (lv_at hl 0 rfl) ?_
    refine x_goto (tgt := 10) hx hb dX4_lesser_6 (by decide) ?_
    exact x_iret hx hb hr hlk hS rfl trivial dX4_lesser_10
section MK
variable {ρ : Type} {p : Program} {l : Launch} {e : Env} {R : Room} {s : State} {m : MethodId} {args : Array Value} {below : List Frame} {meth : Method} {c : Code} {H : Heap} {locs : List Loc} {cells slots : Nat} {Qf : ρ → State → Prop}
variable {cc : ByteArray} {pc nL : Nat} {ls : Array Slot} {rest : List Value}
variable {D : va_G} {ct : CT} {ad : Nat → Nat} {A A0 : Nat → Prop} {S : US} {w : Int64} {H0 : Heap}
theorem kM_lesser {p1 : Int32} {p2 : Int32} (E : ME p m c cc nL s args RX4 D clW ct) (hS : va_S A0 H0 H locs) (hA0 : ∀ q, H0.size ≤ q → A0 q) (hR : 1 + 1 ≤ R.frames ∧ 8 + (2 + 11) + 32 ≤ R.locals) (hsize : ls.size = nL) (hW : (rest.map fun v => v.category).sum ≤ 8) (hdg : decode cc pc = .ok (.invokestatic 336, 3)) (hf : cells ≤ R.cells ∧ slots ≤ R.slots) {kp : Int32 → Option ρ} (kk : ∀ (o : Int32) (H1 : Heap) (locs1 : List Loc), (∀ q : Nat, q < H.size → H1[q]? = H[q]?) → va_S A0 H0 H1 locs1 → X p l e R s m args below meth c H1 locs1 cells slots Qf (kp o) (F0 m (pc + 3) ls (.int o :: rest))) : X p l e R s m args below meth c H locs cells slots Qf (callK (sM_lesser p1 p2) kp) (F0 m pc ls (.int p2 :: .int p1 :: rest)) := ucS (As := [.int p1, .int p2]) E hS hA0 (fun sz o ho => mM_lesser l D ct p1 p2 sz o ho) (va_cwS 2 E.1.2.2.2.2 (lw_S q2285 q2286 q119 q2287) rfl rfl rfl (by decide +kernel) hR) rfl hsize rfl hW hdg hf kk
end MK

set_option maxHeartbeats 4000000 in
theorem mM_strains (l : Launch) (D : va_G) (ct : CT) (ad : Nat → Nat) (S : US) (w : Int64) (p1 : Int32) (p2 : Int32) (p3 : Int32) (sz : Nat) (o : US) (ho : sM_strains S p1 p2 p3 = some o) : Met l yX4_strains (ws_ yX4_strains cX4_strains 4 none) { frames := 2, cells := 0, slots := 0, locals := 53 } (mP D clW ct [.ref (ad (0)), .int p1, .int p2, .int p3] sz (UM D ct ad (fun _ => True) S w)) (mC (none) (UM D ct ad (fun _ => True) o w) (uA 31 ad sz)) 0 0 (uA 31 ad sz) := by
  refine X.start (val := fun (o : US) => none) (Bt := fun (o : US) => UM D ct ad (fun _ => True) o w) (A := uA 31 ad sz) ho (by decide) (Nat.le_of_ble_eq_true rfl) rfl ?_
  intro p e s m args below meth c E hr hlk hnm hsz hU ls hl
  subst hsz
  obtain ⟨⟨hx, hb, hml, hown, hts⟩, hK, hJ⟩ := id E
  replace hU := hU.to (B := uA 31 ad s.heap.size) (fun i hi => Or.inl ⟨i, hi, rfl⟩)
  have hA0 : ∀ q, s.heap.size ≤ q → (uA 31 ad s.heap.size) q := fun q h => Or.inr h
  have hS : va_S (uA 31 ad s.heap.size) s.heap s.heap [] := va_S.rf
  unfold sM_strains
  refine x_aload_n hx hb dX4_strains_0 rfl (lv_at hl 0 rfl) ?_
  refine gM_rows E hU dX4_strains_1 ?_
  refine x_iload_n hx hb dX4_strains_4 rfl (lv_at hl 1 rfl) ?_
  refine x_iconst (v := 1) hx hb dX4_strains_5 (by decide) ?_
  refine x_iadd hx hb dX4_strains_6 ?_
  refine x_iload_n hx hb dX4_strains_7 rfl (lv_at hl 2 rfl) ?_
  refine x_iadd hx hb dX4_strains_8 ?_
  refine x_bipush (v := 99) hx hb dX4_strains_9 (by decide) ?_
  refine x_aload_n hx hb dX4_strains_11 rfl (lv_at hl 0 rfl) ?_
  refine gM_rows E hU dX4_strains_12 ?_
  refine x_iload_n hx hb dX4_strains_15 rfl (lv_at hl 1 rfl) ?_
  refine x_iconst (v := 1) hx hb dX4_strains_16 (by decide) ?_
  refine x_iadd hx hb dX4_strains_17 ?_
  refine x_iload_n hx hb dX4_strains_18 rfl (lv_at hl 2 rfl) ?_
  refine x_iadd hx hb dX4_strains_19 ?_
  refine ux_ald (i := 14) (n := 98) E hU (by decide) rfl dX4_strains_20 ?_
  refine x_iload_n hx hb dX4_strains_21 rfl (lv_at hl 3 rfl) ?_
  refine x_iadd hx hb dX4_strains_22 ?_
  refine kM_lesser E hS hA0 ⟨by decide, by decide⟩ hl.1 (Nat.le_of_ble_eq_true rfl) dX4_strains_23 ⟨Nat.le_refl _, Nat.le_refl _⟩ (fun o1 H locs hk hS => ?_)
  replace hU := hU.kept (fun i hi => hk _ (hU.lt hi))
  refine ux_ast (i := 14) (n := 98) E hU hS (by decide) rfl dX4_strains_26 (fun S2 H locs hU hS => ?_)
  exact x_vret hx hb hr hlk hS rfl (hU.to fun _ _ => trivial) dX4_strains_27
section MK
variable {ρ : Type} {p : Program} {l : Launch} {e : Env} {R : Room} {s : State} {m : MethodId} {args : Array Value} {below : List Frame} {meth : Method} {c : Code} {H : Heap} {locs : List Loc} {cells slots : Nat} {Qf : ρ → State → Prop}
variable {cc : ByteArray} {pc nL : Nat} {ls : Array Slot} {rest : List Value}
variable {D : va_G} {ct : CT} {ad : Nat → Nat} {A A0 : Nat → Prop} {S : US} {w : Int64} {H0 : Heap}
theorem kM_strains {p1 : Int32} {p2 : Int32} {p3 : Int32} (E : ME p m c cc nL s args RX4 D clW ct) (hU : UM D ct ad A S w H) (hS : va_S A H0 H locs) (hA0 : ∀ q, H0.size ≤ q → A q) (hR : 2 + 1 ≤ R.frames ∧ 8 + (4 + 11) + 53 ≤ R.locals) (hsize : ls.size = nL) (hW : (rest.map fun v => v.category).sum ≤ 8) (hdg : decode cc pc = .ok (.invokevirtual 339, 3)) (hf : cells ≤ R.cells ∧ slots ≤ R.slots) {kp : US → Option ρ} (kk : ∀ (o : US) (H1 : Heap) (locs1 : List Loc), UM D ct ad A o w H1 → va_S A H0 H1 locs1 → X p l e R s m args below meth c H1 locs1 cells slots Qf (kp o) (F0 m (pc + 3) ls (rest))) : X p l e R s m args below meth c H locs cells slots Qf (callK (sM_strains S p1 p2 p3) kp) (F0 m pc ls (.int p3 :: .int p2 :: .int p1 :: .ref (ad 0) :: rest)) := ucV_mod (i := 0) (So := fun (o : US) => o) (wo := fun (o : US) => w) (As := [.int p1, .int p2, .int p3]) E hU hS hA0 (by decide) rfl rfl (fun sz o ho => mM_strains l D ct ad S w p1 p2 p3 sz o ho) (cwV 3 E.1.2.2.2.2 (lw_V q2281 q2283 qs94 q119 q2284) rfl rfl rfl (by decide +kernel) hR) rfl hsize rfl hW hdg hf kk
end MK

set_option maxHeartbeats 4000000 in
theorem mM_loosens (l : Launch) (D : va_G) (ct : CT) (ad : Nat → Nat) (S : US) (w : Int64) (p1 : Int32) (p2 : Int32) (p3 : Int32) (sz : Nat) (o : US) (ho : sM_loosens S p1 p2 p3 = some o) : Met l yX4_loosens (ws_ yX4_loosens cX4_loosens 5 none) { frames := 3, cells := 0, slots := 0, locals := 76 } (mP D clW ct [.ref (ad (0)), .int p1, .int p2, .int p3] sz (UM D ct ad (fun _ => True) S w)) (mC (none) (UM D ct ad (fun _ => True) o w) (uA 31 ad sz)) 0 0 (uA 31 ad sz) := by
  refine X.start (val := fun (o : US) => none) (Bt := fun (o : US) => UM D ct ad (fun _ => True) o w) (A := uA 31 ad sz) ho (by decide) (Nat.le_of_ble_eq_true rfl) rfl ?_
  intro p e s m args below meth c E hr hlk hnm hsz hU ls hl
  subst hsz
  obtain ⟨⟨hx, hb, hml, hown, hts⟩, hK, hJ⟩ := id E
  replace hU := hU.to (B := uA 31 ad s.heap.size) (fun i hi => Or.inl ⟨i, hi, rfl⟩)
  have hA0 : ∀ q, s.heap.size ≤ q → (uA 31 ad s.heap.size) q := fun q h => Or.inr h
  have hS : va_S (uA 31 ad s.heap.size) s.heap s.heap [] := va_S.rf
  unfold sM_loosens
  refine x_aload_n hx hb dX4_loosens_0 rfl (lv_at hl 0 rfl) ?_
  refine gM_rows E hU dX4_loosens_1 ?_
  refine x_iload_n hx hb dX4_loosens_4 rfl (lv_at hl 1 rfl) ?_
  refine x_bipush (v := 13) hx hb dX4_loosens_5 (by decide) ?_
  refine x_iadd hx hb dX4_loosens_7 ?_
  refine x_iload_n hx hb dX4_loosens_8 rfl (lv_at hl 2 rfl) ?_
  refine x_iadd hx hb dX4_loosens_9 ?_
  refine x_aload_n hx hb dX4_loosens_10 rfl (lv_at hl 0 rfl) ?_
  refine gM_rows E hU dX4_loosens_11 ?_
  refine x_iload_n hx hb dX4_loosens_14 rfl (lv_at hl 1 rfl) ?_
  refine x_bipush (v := 13) hx hb dX4_loosens_15 (by decide) ?_
  refine x_iadd hx hb dX4_loosens_17 ?_
  refine x_iload_n hx hb dX4_loosens_18 rfl (lv_at hl 2 rfl) ?_
  refine x_iadd hx hb dX4_loosens_19 ?_
  refine ux_ald (i := 14) (n := 98) E hU (by decide) rfl dX4_loosens_20 ?_
  refine x_iload_n hx hb dX4_loosens_21 rfl (lv_at hl 3 rfl) ?_
  refine x_isub hx hb dX4_loosens_22 ?_
  refine x_iconst (v := 0) hx hb dX4_loosens_23 (by decide) ?_
  refine x_bipush (v := 99) hx hb dX4_loosens_24 (by decide) ?_
  refine kM_bounded E hS hA0 ⟨by decide, by decide⟩ hl.1 (Nat.le_of_ble_eq_true rfl) dX4_loosens_26 ⟨Nat.le_refl _, Nat.le_refl _⟩ (fun o1 H locs hk hS => ?_)
  replace hU := hU.kept (fun i hi => hk _ (hU.lt hi))
  refine ux_ast (i := 14) (n := 98) E hU hS (by decide) rfl dX4_loosens_29 (fun S2 H locs hU hS => ?_)
  refine x_aload_n hx hb dX4_loosens_30 rfl (lv_at hl 0 rfl) ?_
  refine x_iload_n hx hb dX4_loosens_31 rfl (lv_at hl 1 rfl) ?_
  refine x_iload_n hx hb dX4_loosens_32 rfl (lv_at hl 2 rfl) ?_
  refine kM_isGap E hU hS hA0 ⟨by decide, by decide⟩ hl.1 (Nat.le_of_ble_eq_true rfl) dX4_loosens_33 ⟨Nat.le_refl _, Nat.le_refl _⟩ (fun o3 H locs hU hS => ?_)
  refine x_if_ne (tgt := 40) hx hb dX4_loosens_36 (by decide) (fun hc => ?_) (fun hc => ?_)
  · refine x_aload_n hx hb dX4_loosens_40 rfl (lv_at hl 0 rfl) ?_
    refine gM_rows E hU dX4_loosens_41 ?_
    refine x_iload_n hx hb dX4_loosens_44 rfl (lv_at hl 1 rfl) ?_
    refine x_iconst (v := 1) hx hb dX4_loosens_45 (by decide) ?_
    refine x_iadd hx hb dX4_loosens_46 ?_
    refine x_iload_n hx hb dX4_loosens_47 rfl (lv_at hl 2 rfl) ?_
    refine x_iadd hx hb dX4_loosens_48 ?_
    refine ux_ald (i := 14) (n := 98) E hU (by decide) rfl dX4_loosens_49 ?_
    refine x_iconst (v := 2) hx hb dX4_loosens_50 (by decide) ?_
    refine x_idiv hx hb dX4_loosens_51 (by decide) ?_
    refine x_istore (lv' := [(4, .int ((S2 14 ((p1 + (1 : Int32)) + p2).toNatClampNeg) / (2 : Int32))), (0, .ref (ad (0))), (1, .int p1), (2, .int p2), (3, .int p3)]) hx hb dX4_loosens_52 hl (by decide) rfl (fun ls hl => ?_)
    refine x_aload_n hx hb dX4_loosens_54 rfl (lv_at hl 1 rfl) ?_
    refine x_iload_n hx hb dX4_loosens_55 rfl (lv_at hl 2 rfl) ?_
    refine x_aload_n hx hb dX4_loosens_56 rfl (lv_at hl 1 rfl) ?_
    refine x_iload_n hx hb dX4_loosens_57 rfl (lv_at hl 3 rfl) ?_
    refine kM_ahead1 E hU hS hA0 ⟨by decide, by decide⟩ hl.1 (Nat.le_of_ble_eq_true rfl) dX4_loosens_58 ⟨Nat.le_refl _, Nat.le_refl _⟩ (fun o4 H locs hU hS => ?_)
    refine kM_isGap E hU hS hA0 ⟨by decide, by decide⟩ hl.1 (Nat.le_of_ble_eq_true rfl) dX4_loosens_61 ⟨Nat.le_refl _, Nat.le_refl _⟩ (fun o5 H locs hU hS => ?_)
    refine X.join2 (fun (x : US) g H locs => UM D ct ad (uA 31 ad s.heap.size) x w H ∧ va_S (uA 31 ad s.heap.size) s.heap H locs ∧ ∃ ls : Array Slot, g = F0 m 79 ls [] ∧ lv_has ls 5 [(0, .ref (ad (0))), (1, .int p1), (2, .int p2), (4, .int ((S2 14 ((p1 + (1 : Int32)) + p2).toNatClampNeg) / (2 : Int32)))]) ?_ (fun j7 hj7 => ?_)
    · rintro S6 _ H locs ⟨hU, hS, ls, rfl, hl⟩
      refine X.eqs (sp2 := sM_loosens_J79 p1 p2 S2 S6) rfl ?_
      unfold sM_loosens_J79
      refine x_aload_n hx hb dX4_loosens_79 rfl (lv_at hl 0 rfl) ?_
      refine x_iload_n hx hb dX4_loosens_80 rfl (lv_at hl 1 rfl) ?_
      refine x_aload_n hx hb dX4_loosens_81 rfl (lv_at hl 0 rfl) ?_
      refine x_iload_n hx hb dX4_loosens_82 rfl (lv_at hl 2 rfl) ?_
      refine kM_behind1 E hU hS hA0 ⟨by decide, by decide⟩ hl.1 (Nat.le_of_ble_eq_true rfl) dX4_loosens_83 ⟨Nat.le_refl _, Nat.le_refl _⟩ (fun o8 H locs hU hS => ?_)
      refine kM_isGap E hU hS hA0 ⟨by decide, by decide⟩ hl.1 (Nat.le_of_ble_eq_true rfl) dX4_loosens_86 ⟨Nat.le_refl _, Nat.le_refl _⟩ (fun o9 H locs hU hS => ?_)
      refine x_if_ne (tgt := 104) hx hb dX4_loosens_89 (by decide) (fun hc => ?_) (fun hc => ?_)
      · refine x_aload_n hx hb dX4_loosens_104 rfl (lv_at hl 0 rfl) ?_
        refine gM_rows E hU dX4_loosens_105 ?_
        refine x_iload_n hx hb dX4_loosens_108 rfl (lv_at hl 1 rfl) ?_
        refine x_iconst (v := 1) hx hb dX4_loosens_109 (by decide) ?_
        refine x_iadd hx hb dX4_loosens_110 ?_
        refine x_iload_n hx hb dX4_loosens_111 rfl (lv_at hl 2 rfl) ?_
        refine x_iadd hx hb dX4_loosens_112 ?_
        refine x_iconst (v := 0) hx hb dX4_loosens_113 (by decide) ?_
        refine ux_ast (i := 14) (n := 98) E hU hS (by decide) rfl dX4_loosens_114 (fun S10 H locs hU hS => ?_)
        exact x_vret hx hb hr hlk hS rfl (hU.to fun _ _ => trivial) dX4_loosens_115
      · refine x_aload_n hx hb dX4_loosens_92 rfl (lv_at hl 0 rfl) ?_
        refine x_iload_n hx hb dX4_loosens_93 rfl (lv_at hl 1 rfl) ?_
        refine x_aload_n hx hb dX4_loosens_94 rfl (lv_at hl 0 rfl) ?_
        refine x_iload_n hx hb dX4_loosens_95 rfl (lv_at hl 2 rfl) ?_
        refine kM_behind1 E hU hS hA0 ⟨by decide, by decide⟩ hl.1 (Nat.le_of_ble_eq_true rfl) dX4_loosens_96 ⟨Nat.le_refl _, Nat.le_refl _⟩ (fun o11 H locs hU hS => ?_)
        refine x_iload hx hb dX4_loosens_99 (lv_at hl 3 rfl) ?_
        refine kM_strains E hU hS hA0 ⟨by decide, by decide⟩ hl.1 (Nat.le_of_ble_eq_true rfl) dX4_loosens_101 ⟨Nat.le_refl _, Nat.le_refl _⟩ (fun o12 H locs hU hS => ?_)
        refine x_aload_n hx hb dX4_loosens_104 rfl (lv_at hl 0 rfl) ?_
        refine gM_rows E hU dX4_loosens_105 ?_
        refine x_iload_n hx hb dX4_loosens_108 rfl (lv_at hl 1 rfl) ?_
        refine x_iconst (v := 1) hx hb dX4_loosens_109 (by decide) ?_
        refine x_iadd hx hb dX4_loosens_110 ?_
        refine x_iload_n hx hb dX4_loosens_111 rfl (lv_at hl 2 rfl) ?_
        refine x_iadd hx hb dX4_loosens_112 ?_
        refine x_iconst (v := 0) hx hb dX4_loosens_113 (by decide) ?_
        refine ux_ast (i := 14) (n := 98) E hU hS (by decide) rfl dX4_loosens_114 (fun S13 H locs hU hS => ?_)
        exact x_vret hx hb hr hlk hS rfl (hU.to fun _ _ => trivial) dX4_loosens_115
    · refine x_if_ne (tgt := 79) hx hb dX4_loosens_64 (by decide) (fun hc => ?_) (fun hc => ?_)
      · exact hj7 S2 _ _ _ ⟨hU, hS, _, rfl, lv_sub hl [1, 2, 3, 0] rfl⟩
      · refine x_aload_n hx hb dX4_loosens_67 rfl (lv_at hl 1 rfl) ?_
        refine x_iload_n hx hb dX4_loosens_68 rfl (lv_at hl 2 rfl) ?_
        refine x_aload_n hx hb dX4_loosens_69 rfl (lv_at hl 1 rfl) ?_
        refine x_iload_n hx hb dX4_loosens_70 rfl (lv_at hl 3 rfl) ?_
        refine kM_ahead1 E hU hS hA0 ⟨by decide, by decide⟩ hl.1 (Nat.le_of_ble_eq_true rfl) dX4_loosens_71 ⟨Nat.le_refl _, Nat.le_refl _⟩ (fun o14 H locs hU hS => ?_)
        refine x_iload hx hb dX4_loosens_74 (lv_at hl 0 rfl) ?_
        refine kM_strains E hU hS hA0 ⟨by decide, by decide⟩ hl.1 (Nat.le_of_ble_eq_true rfl) dX4_loosens_76 ⟨Nat.le_refl _, Nat.le_refl _⟩ (fun o15 H locs hU hS => ?_)
        exact hj7 o15 _ _ _ ⟨hU, hS, _, rfl, lv_sub hl [1, 2, 3, 0] rfl⟩
  · exact x_vret hx hb hr hlk hS rfl (hU.to fun _ _ => trivial) dX4_loosens_39
section MK
variable {ρ : Type} {p : Program} {l : Launch} {e : Env} {R : Room} {s : State} {m : MethodId} {args : Array Value} {below : List Frame} {meth : Method} {c : Code} {H : Heap} {locs : List Loc} {cells slots : Nat} {Qf : ρ → State → Prop}
variable {cc : ByteArray} {pc nL : Nat} {ls : Array Slot} {rest : List Value}
variable {D : va_G} {ct : CT} {ad : Nat → Nat} {A A0 : Nat → Prop} {S : US} {w : Int64} {H0 : Heap}
theorem kM_loosens {p1 : Int32} {p2 : Int32} {p3 : Int32} (E : ME p m c cc nL s args RX4 D clW ct) (hU : UM D ct ad A S w H) (hS : va_S A H0 H locs) (hA0 : ∀ q, H0.size ≤ q → A q) (hR : 3 + 1 ≤ R.frames ∧ 8 + (5 + 11) + 76 ≤ R.locals) (hsize : ls.size = nL) (hW : (rest.map fun v => v.category).sum ≤ 8) (hdg : decode cc pc = .ok (.invokevirtual 349, 3)) (hf : cells ≤ R.cells ∧ slots ≤ R.slots) {kp : US → Option ρ} (kk : ∀ (o : US) (H1 : Heap) (locs1 : List Loc), UM D ct ad A o w H1 → va_S A H0 H1 locs1 → X p l e R s m args below meth c H1 locs1 cells slots Qf (kp o) (F0 m (pc + 3) ls (rest))) : X p l e R s m args below meth c H locs cells slots Qf (callK (sM_loosens S p1 p2 p3) kp) (F0 m pc ls (.int p3 :: .int p2 :: .int p1 :: .ref (ad 0) :: rest)) := ucV_mod (i := 0) (So := fun (o : US) => o) (wo := fun (o : US) => w) (As := [.int p1, .int p2, .int p3]) E hU hS hA0 (by decide) rfl rfl (fun sz o ho => mM_loosens l D ct ad S w p1 p2 p3 sz o ho) (cwV 3 E.1.2.2.2.2 (lw_V q2277 q2279 qs93 q119 q2280) rfl rfl rfl (by decide +kernel) hR) rfl hsize rfl hW hdg hf kk
end MK
