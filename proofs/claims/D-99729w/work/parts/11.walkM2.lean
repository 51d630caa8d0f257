set_option maxRecDepth 100000
set_option maxHeartbeats 4000000 in
theorem mM_mends (l : Launch) (D : va_G) (ct : CT) (ad : Nat → Nat) (S : US) (w : Int64) (p1 : Int32) (p2 : Int32) (sz : Nat) (o : US) (ho : sM_mends S p1 p2 = some o) : Met l yX4_mends (ws_ yX4_mends cX4_mends 4 none) { frames := 2, cells := 0, slots := 0, locals := 53 } (mP D clW ct [.ref (ad (0)), .int p1, .int p2] sz (UM D ct ad (fun _ => True) S w)) (mC (none) (UM D ct ad (fun _ => True) o w) (uA 31 ad sz)) 0 0 (uA 31 ad sz) := by
  refine X.start (val := fun (o : US) => none) (Bt := fun (o : US) => UM D ct ad (fun _ => True) o w) (A := uA 31 ad sz) ho (by decide) (Nat.le_of_ble_eq_true rfl) rfl ?_
  intro p e s m args below meth c E hr hlk hnm hsz hU ls hl
  subst hsz
  obtain ⟨⟨hx, hb, hml, hown, hts⟩, hK, hJ⟩ := id E
  replace hU := hU.to (B := uA 31 ad s.heap.size) (fun i hi => Or.inl ⟨i, hi, rfl⟩)
  have hA0 : ∀ q, s.heap.size ≤ q → (uA 31 ad s.heap.size) q := fun q h => Or.inr h
  have hS : va_S (uA 31 ad s.heap.size) s.heap s.heap [] := va_S.rf
  unfold sM_mends
  refine x_aload_n hx hb dX4_mends_0 rfl (lv_at hl 0 rfl) ?_
  refine gM_rows E hU dX4_mends_1 ?_
  refine x_iload_n hx hb dX4_mends_4 rfl (lv_at hl 1 rfl) ?_
  refine x_bipush (v := 43) hx hb dX4_mends_5 (by decide) ?_
  refine x_iadd hx hb dX4_mends_7 ?_
  refine x_iload_n hx hb dX4_mends_8 rfl (lv_at hl 2 rfl) ?_
  refine x_iadd hx hb dX4_mends_9 ?_
  refine ux_ald (i := 14) (n := 98) E hU (by decide) rfl dX4_mends_10 ?_
  refine x_if_ne (tgt := 15) hx hb dX4_mends_11 (by decide) (fun hc => ?_) (fun hc => ?_)
  · refine x_aload_n hx hb dX4_mends_15 rfl (lv_at hl 0 rfl) ?_
    refine gM_rows E hU dX4_mends_16 ?_
    refine x_iload_n hx hb dX4_mends_19 rfl (lv_at hl 1 rfl) ?_
    refine x_bipush (v := 37) hx hb dX4_mends_20 (by decide) ?_
    refine x_iadd hx hb dX4_mends_22 ?_
    refine x_iload_n hx hb dX4_mends_23 rfl (lv_at hl 2 rfl) ?_
    refine x_iadd hx hb dX4_mends_24 ?_
    refine ux_ald (i := 14) (n := 98) E hU (by decide) rfl dX4_mends_25 ?_
    refine x_istore_n (lv' := [(3, .int (S 14 ((p1 + (37 : Int32)) + p2).toNatClampNeg)), (0, .ref (ad (0))), (1, .int p1), (2, .int p2)]) hx hb dX4_mends_26 rfl hl (by decide) rfl (fun ls hl => ?_)
    refine x_aload_n hx hb dX4_mends_27 rfl (lv_at hl 1 rfl) ?_
    refine gM_rows E hU dX4_mends_28 ?_
    refine x_iload_n hx hb dX4_mends_31 rfl (lv_at hl 2 rfl) ?_
    refine x_bipush (v := 43) hx hb dX4_mends_32 (by decide) ?_
    refine x_iadd hx hb dX4_mends_34 ?_
    refine x_iload_n hx hb dX4_mends_35 rfl (lv_at hl 3 rfl) ?_
    refine x_iadd hx hb dX4_mends_36 ?_
    refine x_dup2_11 hx hb dX4_mends_37 rfl rfl ?_
    refine ux_ald (i := 14) (n := 98) E hU (by decide) rfl dX4_mends_38 ?_
    refine x_iconst (v := 1) hx hb dX4_mends_39 (by decide) ?_
    refine x_isub hx hb dX4_mends_40 ?_
    refine ux_ast (i := 14) (n := 98) E hU hS (by decide) rfl dX4_mends_41 (fun S1 H locs hU hS => ?_)
    refine x_aload_n hx hb dX4_mends_42 rfl (lv_at hl 1 rfl) ?_
    refine gM_rows E hU dX4_mends_43 ?_
    refine x_iload_n hx hb dX4_mends_46 rfl (lv_at hl 2 rfl) ?_
    refine x_bipush (v := 13) hx hb dX4_mends_47 (by decide) ?_
    refine x_iadd hx hb dX4_mends_49 ?_
    refine x_iload_n hx hb dX4_mends_50 rfl (lv_at hl 0 rfl) ?_
    refine x_iadd hx hb dX4_mends_51 ?_
    refine x_bipush (v := 99) hx hb dX4_mends_52 (by decide) ?_
    refine x_aload_n hx hb dX4_mends_54 rfl (lv_at hl 1 rfl) ?_
    refine gM_rows E hU dX4_mends_55 ?_
    refine x_iload_n hx hb dX4_mends_58 rfl (lv_at hl 2 rfl) ?_
    refine x_bipush (v := 13) hx hb dX4_mends_59 (by decide) ?_
    refine x_iadd hx hb dX4_mends_61 ?_
    refine x_iload_n hx hb dX4_mends_62 rfl (lv_at hl 0 rfl) ?_
    refine x_iadd hx hb dX4_mends_63 ?_
    refine ux_ald (i := 14) (n := 98) E hU (by decide) rfl dX4_mends_64 ?_
    refine x_iconst (v := 2) hx hb dX4_mends_65 (by decide) ?_
    refine x_aload_n hx hb dX4_mends_66 rfl (lv_at hl 1 rfl) ?_
    refine gM_skill E hU dX4_mends_67 ?_
    refine x_iload_n hx hb dX4_mends_70 rfl (lv_at hl 3 rfl) ?_
    refine ux_ald (i := 1) (n := 6) E hU (by decide) rfl dX4_mends_71 ?_
    refine x_imul hx hb dX4_mends_72 ?_
    refine x_iadd hx hb dX4_mends_73 ?_
    refine x_iconst (v := 3) hx hb dX4_mends_74 (by decide) ?_
    refine x_iadd hx hb dX4_mends_75 ?_
    refine kM_lesser E hS hA0 ⟨by decide, by decide⟩ hl.1 (Nat.le_of_ble_eq_true rfl) dX4_mends_76 ⟨Nat.le_refl _, Nat.le_refl _⟩ (fun o2 H locs hk hS => ?_)
    replace hU := hU.kept (fun i hi => hk _ (hU.lt hi))
    refine ux_ast (i := 14) (n := 98) E hU hS (by decide) rfl dX4_mends_79 (fun S3 H locs hU hS => ?_)
    exact x_vret hx hb hr hlk hS rfl (hU.to fun _ _ => trivial) dX4_mends_80
  · exact x_vret hx hb hr hlk hS rfl (hU.to fun _ _ => trivial) dX4_mends_14
section MK
variable {ρ : Type} {p : Program} {l : Launch} {e : Env} {R : Room} {s : State} {m : MethodId} {args : Array Value} {below : List Frame} {meth : Method} {c : Code} {H : Heap} {locs : List Loc} {cells slots : Nat} {Qf : ρ → State → Prop}
variable {cc : ByteArray} {pc nL : Nat} {ls : Array Slot} {rest : List Value}
variable {D : va_G} {ct : CT} {ad : Nat → Nat} {A A0 : Nat → Prop} {S : US} {w : Int64} {H0 : Heap}
theorem kM_mends {p1 : Int32} {p2 : Int32} (E : ME p m c cc nL s args RX4 D clW ct) (hU : UM D ct ad A S w H) (hS : va_S A H0 H locs) (hA0 : ∀ q, H0.size ≤ q → A q) (hR : 2 + 1 ≤ R.frames ∧ 8 + (4 + 11) + 53 ≤ R.locals) (hsize : ls.size = nL) (hW : (rest.map fun v => v.category).sum ≤ 8) (hdg : decode cc pc = .ok (.invokevirtual 352, 3)) (hf : cells ≤ R.cells ∧ slots ≤ R.slots) {kp : US → Option ρ} (kk : ∀ (o : US) (H1 : Heap) (locs1 : List Loc), UM D ct ad A o w H1 → va_S A H0 H1 locs1 → X p l e R s m args below meth c H1 locs1 cells slots Qf (kp o) (F0 m (pc + 3) ls (rest))) : X p l e R s m args below meth c H locs cells slots Qf (callK (sM_mends S p1 p2) kp) (F0 m pc ls (.int p2 :: .int p1 :: .ref (ad 0) :: rest)) := ucV_mod (i := 0) (So := fun (o : US) => o) (wo := fun (o : US) => w) (As := [.int p1, .int p2]) E hU hS hA0 (by decide) rfl rfl (fun sz o ho => mM_mends l D ct ad S w p1 p2 sz o ho) (cwV 2 E.1.2.2.2.2 (lw_V q2288 q2290 qs95 q119 q2291) rfl rfl rfl (by decide +kernel) hR) rfl hsize rfl hW hdg hf kk
end MK

set_option maxHeartbeats 4000000 in
theorem mM_dayGoes (l : Launch) (D : va_G) (ct : CT) (ad : Nat → Nat) (S : US) (w : Int64) (p1 : Int32) (sz : Nat) (o : US) (ho : sM_dayGoes S p1 = some o) : Met l yX4_dayGoes (ws_ yX4_dayGoes cX4_dayGoes 3 none) { frames := 5, cells := 0, slots := 0, locals := 123 } (mP D clW ct [.ref (ad (0)), .int p1] sz (UM D ct ad (fun _ => True) S w)) (mC (none) (UM D ct ad (fun _ => True) o w) (uA 31 ad sz)) 0 0 (uA 31 ad sz) := by
  refine X.start (val := fun (o : US) => none) (Bt := fun (o : US) => UM D ct ad (fun _ => True) o w) (A := uA 31 ad sz) ho (by decide) (Nat.le_of_ble_eq_true rfl) rfl ?_
  intro p e s m args below meth c E hr hlk hnm hsz hU ls hl
  subst hsz
  obtain ⟨⟨hx, hb, hml, hown, hts⟩, hK, hJ⟩ := id E
  replace hU := hU.to (B := uA 31 ad s.heap.size) (fun i hi => Or.inl ⟨i, hi, rfl⟩)
  have hA0 : ∀ q, s.heap.size ≤ q → (uA 31 ad s.heap.size) q := fun q h => Or.inr h
  have hS : va_S (uA 31 ad s.heap.size) s.heap s.heap [] := va_S.rf
  unfold sM_dayGoes
  refine x_iconst (v := 0) hx hb dX4_dayGoes_0 (by decide) ?_
  refine x_istore_n (lv' := [(2, .int (0 : Int32)), (0, .ref (ad (0))), (1, .int p1)]) hx hb dX4_dayGoes_1 rfl hl (by decide) rfl (fun ls hl => ?_)
  refine X.loop (I := fun (x : (US × Int32)) g H locs => UM D ct ad (uA 31 ad s.heap.size) x.1 w H ∧ va_S (uA 31 ad s.heap.size) s.heap H locs ∧ ∃ ls : Array Slot, g = F0 m 2 ls [] ∧ lv_has ls 3 [(0, .ref (ad (0))), (1, .int p1), (2, .int x.2)]) (fun rc3 ih3 => ?_) FUEL _ _ _ _ ⟨hU, hS, _, rfl, lv_sub hl [1, 2, 0] rfl⟩
  rintro ⟨S1, v2⟩ _ H locs ⟨hU, hS, ls, rfl, hl⟩
  have hU : UM D ct ad (uA 31 ad s.heap.size) S1 w H := hU
  have hl : lv_has ls 3 [(0, .ref (ad (0))), (1, .int p1), (2, .int v2)] := hl
  refine X.eqs (sp2 := sM_dayGoes_L2 p1 rc3 S1 v2) rfl ?_
  unfold sM_dayGoes_L2
  refine x_iload_n hx hb dX4_dayGoes_2 rfl (lv_at hl 2 rfl) ?_
  refine x_aload_n hx hb dX4_dayGoes_3 rfl (lv_at hl 0 rfl) ?_
  refine gM_many E hU dX4_dayGoes_4 ?_
  refine x_icmp_ge (tgt := 28) hx hb dX4_dayGoes_7 (by decide) (fun hc => ?_) (fun hc => ?_)
  · refine x_iconst (v := 0) hx hb dX4_dayGoes_28 (by decide) ?_
    refine x_istore_n (lv' := [(2, .int (0 : Int32)), (0, .ref (ad (0))), (1, .int p1)]) hx hb dX4_dayGoes_29 rfl hl (by decide) rfl (fun ls hl => ?_)
    refine X.loop (I := fun (x : (US × Int32)) g H locs => UM D ct ad (uA 31 ad s.heap.size) x.1 w H ∧ va_S (uA 31 ad s.heap.size) s.heap H locs ∧ ∃ ls : Array Slot, g = F0 m 30 ls [] ∧ lv_has ls 3 [(0, .ref (ad (0))), (1, .int p1), (2, .int x.2)]) (fun rc6 ih6 => ?_) FUEL _ _ _ _ ⟨hU, hS, _, rfl, lv_sub hl [1, 2, 0] rfl⟩
    rintro ⟨S4, v5⟩ _ H locs ⟨hU, hS, ls, rfl, hl⟩
    have hU : UM D ct ad (uA 31 ad s.heap.size) S4 w H := hU
    have hl : lv_has ls 3 [(0, .ref (ad (0))), (1, .int p1), (2, .int v5)] := hl
    refine X.eqs (sp2 := sM_dayGoes_L30 p1 rc6 S4 v5) rfl ?_
    unfold sM_dayGoes_L30
    refine x_iload_n hx hb dX4_dayGoes_30 rfl (lv_at hl 2 rfl) ?_
    refine x_aload_n hx hb dX4_dayGoes_31 rfl (lv_at hl 0 rfl) ?_
    refine gM_many E hU dX4_dayGoes_32 ?_
    refine x_icmp_ge (tgt := 86) hx hb dX4_dayGoes_35 (by decide) (fun hc => ?_) (fun hc => ?_)
    · refine x_iconst (v := 0) hx hb dX4_dayGoes_86 (by decide) ?_
      refine x_istore_n (lv' := [(2, .int (0 : Int32)), (0, .ref (ad (0))), (1, .int p1)]) hx hb dX4_dayGoes_87 rfl hl (by decide) rfl (fun ls hl => ?_)
      refine X.loop (I := fun (x : (US × Int32)) g H locs => UM D ct ad (uA 31 ad s.heap.size) x.1 w H ∧ va_S (uA 31 ad s.heap.size) s.heap H locs ∧ ∃ ls : Array Slot, g = F0 m 88 ls [] ∧ lv_has ls 3 [(0, .ref (ad (0))), (1, .int p1), (2, .int x.2)]) (fun rc9 ih9 => ?_) FUEL _ _ _ _ ⟨hU, hS, _, rfl, lv_sub hl [1, 2, 0] rfl⟩
      rintro ⟨S7, v8⟩ _ H locs ⟨hU, hS, ls, rfl, hl⟩
      have hU : UM D ct ad (uA 31 ad s.heap.size) S7 w H := hU
      have hl : lv_has ls 3 [(0, .ref (ad (0))), (1, .int p1), (2, .int v8)] := hl
      refine X.eqs (sp2 := sM_dayGoes_L88 p1 rc9 S7 v8) rfl ?_
      unfold sM_dayGoes_L88
      refine x_iload_n hx hb dX4_dayGoes_88 rfl (lv_at hl 2 rfl) ?_
      refine x_aload_n hx hb dX4_dayGoes_89 rfl (lv_at hl 0 rfl) ?_
      refine gM_many E hU dX4_dayGoes_90 ?_
      refine x_icmp_ge (tgt := 123) hx hb dX4_dayGoes_93 (by decide) (fun hc => ?_) (fun hc => ?_)
      · refine x_aload_n hx hb dX4_dayGoes_123 rfl (lv_at hl 0 rfl) ?_
        refine gM_rows E hU dX4_dayGoes_124 ?_
        refine x_iload_n hx hb dX4_dayGoes_127 rfl (lv_at hl 1 rfl) ?_
        refine x_iconst (v := 0) hx hb dX4_dayGoes_128 (by decide) ?_
        refine x_iadd hx hb dX4_dayGoes_129 ?_
        refine ux_ald (i := 14) (n := 98) E hU (by decide) rfl dX4_dayGoes_130 ?_
        refine x_aload_n hx hb dX4_dayGoes_131 rfl (lv_at hl 0 rfl) ?_
        refine gM_week E hU dX4_dayGoes_132 ?_
        refine x_iremG hx hb dX4_dayGoes_135 ?_
        refine x_aload_n hx hb dX4_dayGoes_136 rfl (lv_at hl 0 rfl) ?_
        refine gM_week E hU dX4_dayGoes_137 ?_
        refine x_iconst (v := 1) hx hb dX4_dayGoes_140 (by decide) ?_
        refine x_isub hx hb dX4_dayGoes_141 ?_
        refine X.join2 (fun (x : US) g H locs => UM D ct ad (uA 31 ad s.heap.size) x w H ∧ va_S (uA 31 ad s.heap.size) s.heap H locs ∧ ∃ ls : Array Slot, g = F0 m 173 ls [] ∧ lv_has ls 3 [(0, .ref (ad (0))), (1, .int p1)]) ?_ (fun j11 hj11 => ?_)
        · rintro S10 _ H locs ⟨hU, hS, ls, rfl, hl⟩
          refine X.eqs (sp2 := sM_dayGoes_J173 p1 S10) rfl ?_
          unfold sM_dayGoes_J173
          refine x_aload_n hx hb dX4_dayGoes_173 rfl (lv_at hl 0 rfl) ?_
          refine gM_rows E hU dX4_dayGoes_174 ?_
          refine x_iload_n hx hb dX4_dayGoes_177 rfl (lv_at hl 1 rfl) ?_
          refine x_iconst (v := 0) hx hb dX4_dayGoes_178 (by decide) ?_
          refine x_iadd hx hb dX4_dayGoes_179 ?_
          refine x_dup2_11 hx hb dX4_dayGoes_180 rfl rfl ?_
          refine ux_ald (i := 14) (n := 98) E hU (by decide) rfl dX4_dayGoes_181 ?_
          refine x_iconst (v := 1) hx hb dX4_dayGoes_182 (by decide) ?_
          refine x_iadd hx hb dX4_dayGoes_183 ?_
          refine ux_ast (i := 14) (n := 98) E hU hS (by decide) rfl dX4_dayGoes_184 (fun S12 H locs hU hS => ?_)
          exact x_vret hx hb hr hlk hS rfl (hU.to fun _ _ => trivial) dX4_dayGoes_185
        · refine x_icmp_ne (tgt := 173) hx hb dX4_dayGoes_142 (by decide) (fun hc => ?_) (fun hc => ?_)
          · exact hj11 S7 _ _ _ ⟨hU, hS, _, rfl, lv_sub hl [0, 1] rfl⟩
          · refine x_iconst (v := 0) hx hb dX4_dayGoes_145 (by decide) ?_
            refine x_istore_n (lv' := [(2, .int (0 : Int32)), (0, .ref (ad (0))), (1, .int p1)]) hx hb dX4_dayGoes_146 rfl hl (by decide) rfl (fun ls hl => ?_)
            refine X.loop (I := fun (x : (US × Int32)) g H locs => UM D ct ad (uA 31 ad s.heap.size) x.1 w H ∧ va_S (uA 31 ad s.heap.size) s.heap H locs ∧ ∃ ls : Array Slot, g = F0 m 147 ls [] ∧ lv_has ls 3 [(0, .ref (ad (0))), (1, .int p1), (2, .int x.2)]) (fun rc15 ih15 => ?_) FUEL _ _ _ _ ⟨hU, hS, _, rfl, lv_sub hl [1, 2, 0] rfl⟩
            rintro ⟨S13, v14⟩ _ H locs ⟨hU, hS, ls, rfl, hl⟩
            have hU : UM D ct ad (uA 31 ad s.heap.size) S13 w H := hU
            have hl : lv_has ls 3 [(0, .ref (ad (0))), (1, .int p1), (2, .int v14)] := hl
            refine X.eqs (sp2 := sM_dayGoes_L147 p1 j11 rc15 S13 v14) rfl ?_
            unfold sM_dayGoes_L147
            refine x_iload_n hx hb dX4_dayGoes_147 rfl (lv_at hl 2 rfl) ?_
            refine x_aload_n hx hb dX4_dayGoes_148 rfl (lv_at hl 0 rfl) ?_
            refine gM_women E hU dX4_dayGoes_149 ?_
            refine x_icmp_ge (tgt := 173) hx hb dX4_dayGoes_152 (by decide) (fun hc => ?_) (fun hc => ?_)
            · exact hj11 S13 _ _ _ ⟨hU, hS, _, rfl, lv_sub hl [0, 1] rfl⟩
            · refine x_aload_n hx hb dX4_dayGoes_155 rfl (lv_at hl 0 rfl) ?_
              refine x_iload_n hx hb dX4_dayGoes_156 rfl (lv_at hl 1 rfl) ?_
              refine x_iload_n hx hb dX4_dayGoes_157 rfl (lv_at hl 2 rfl) ?_
              refine kM_mends E hU hS hA0 ⟨by decide, by decide⟩ hl.1 (Nat.le_of_ble_eq_true rfl) dX4_dayGoes_158 ⟨Nat.le_refl _, Nat.le_refl _⟩ (fun o16 H locs hU hS => ?_)
              refine x_aload_n hx hb dX4_dayGoes_161 rfl (lv_at hl 0 rfl) ?_
              refine x_iload_n hx hb dX4_dayGoes_162 rfl (lv_at hl 1 rfl) ?_
              refine x_iload_n hx hb dX4_dayGoes_163 rfl (lv_at hl 2 rfl) ?_
              refine kM_goesOn E hU hS hA0 ⟨by decide, by decide⟩ hl.1 (Nat.le_of_ble_eq_true rfl) dX4_dayGoes_164 ⟨Nat.le_refl _, Nat.le_refl _⟩ (fun o17 H locs hU hS => ?_)
              refine x_iinc (v := (v14 + (1 : Int32))) (lv' := [(2, .int (v14 + (1 : Int32))), (0, .ref (ad (0))), (1, .int p1)]) (k := 2) hx hb dX4_dayGoes_167 hl rfl rfl (by decide) rfl (fun ls hl => ?_)
              refine x_goto (tgt := 147) hx hb dX4_dayGoes_170 (by decide) ?_
              exact ih15 (o17, (v14 + (1 : Int32))) _ _ _ ⟨hU, hS, _, rfl, lv_sub hl [1, 2, 0] rfl⟩
      · refine x_aload_n hx hb dX4_dayGoes_96 rfl (lv_at hl 0 rfl) ?_
        refine x_iload_n hx hb dX4_dayGoes_97 rfl (lv_at hl 1 rfl) ?_
        refine x_iload_n hx hb dX4_dayGoes_98 rfl (lv_at hl 2 rfl) ?_
        refine kM_isGap E hU hS hA0 ⟨by decide, by decide⟩ hl.1 (Nat.le_of_ble_eq_true rfl) dX4_dayGoes_99 ⟨Nat.le_refl _, Nat.le_refl _⟩ (fun o18 H locs hU hS => ?_)
        refine x_if_ne (tgt := 117) hx hb dX4_dayGoes_102 (by decide) (fun hc => ?_) (fun hc => ?_)
        · refine x_iinc (v := (v8 + (1 : Int32))) (lv' := [(2, .int (v8 + (1 : Int32))), (0, .ref (ad (0))), (1, .int p1)]) (k := 2) hx hb dX4_dayGoes_117 hl rfl rfl (by decide) rfl (fun ls hl => ?_)
          refine x_goto (tgt := 88) hx hb dX4_dayGoes_120 (by decide) ?_
          exact ih9 (S7, (v8 + (1 : Int32))) _ _ _ ⟨hU, hS, _, rfl, lv_sub hl [1, 2, 0] rfl⟩
        · refine x_aload_n hx hb dX4_dayGoes_105 rfl (lv_at hl 0 rfl) ?_
          refine x_iload_n hx hb dX4_dayGoes_106 rfl (lv_at hl 1 rfl) ?_
          refine x_iload_n hx hb dX4_dayGoes_107 rfl (lv_at hl 2 rfl) ?_
          refine x_aload_n hx hb dX4_dayGoes_108 rfl (lv_at hl 0 rfl) ?_
          refine x_iload_n hx hb dX4_dayGoes_109 rfl (lv_at hl 1 rfl) ?_
          refine x_iload_n hx hb dX4_dayGoes_110 rfl (lv_at hl 2 rfl) ?_
          refine kM_fraysOf E hU hS hA0 ⟨by decide, by decide⟩ hl.1 (Nat.le_of_ble_eq_true rfl) dX4_dayGoes_111 ⟨Nat.le_refl _, Nat.le_refl _⟩ (fun o19 H locs hU hS => ?_)
          refine kM_loosens E hU hS hA0 ⟨by decide, by decide⟩ hl.1 (Nat.le_of_ble_eq_true rfl) dX4_dayGoes_114 ⟨Nat.le_refl _, Nat.le_refl _⟩ (fun o20 H locs hU hS => ?_)
          refine x_iinc (v := (v8 + (1 : Int32))) (lv' := [(2, .int (v8 + (1 : Int32))), (0, .ref (ad (0))), (1, .int p1)]) (k := 2) hx hb dX4_dayGoes_117 hl rfl rfl (by decide) rfl (fun ls hl => ?_)
          refine x_goto (tgt := 88) hx hb dX4_dayGoes_120 (by decide) ?_
          exact ih9 (o20, (v8 + (1 : Int32))) _ _ _ ⟨hU, hS, _, rfl, lv_sub hl [1, 2, 0] rfl⟩
    · refine x_aload_n hx hb dX4_dayGoes_38 rfl (lv_at hl 0 rfl) ?_
      refine x_iload_n hx hb dX4_dayGoes_39 rfl (lv_at hl 1 rfl) ?_
      refine x_iload_n hx hb dX4_dayGoes_40 rfl (lv_at hl 2 rfl) ?_
      refine kM_isGap E hU hS hA0 ⟨by decide, by decide⟩ hl.1 (Nat.le_of_ble_eq_true rfl) dX4_dayGoes_41 ⟨Nat.le_refl _, Nat.le_refl _⟩ (fun o21 H locs hU hS => ?_)
      refine x_if_ne (tgt := 80) hx hb dX4_dayGoes_44 (by decide) (fun hc => ?_) (fun hc => ?_)
      · refine x_iinc (v := (v5 + (1 : Int32))) (lv' := [(2, .int (v5 + (1 : Int32))), (0, .ref (ad (0))), (1, .int p1)]) (k := 2) hx hb dX4_dayGoes_80 hl rfl rfl (by decide) rfl (fun ls hl => ?_)
        refine x_goto (tgt := 30) hx hb dX4_dayGoes_83 (by decide) ?_
        exact ih6 (S4, (v5 + (1 : Int32))) _ _ _ ⟨hU, hS, _, rfl, lv_sub hl [1, 2, 0] rfl⟩
      · refine x_aload_n hx hb dX4_dayGoes_47 rfl (lv_at hl 0 rfl) ?_
        refine gM_rows E hU dX4_dayGoes_48 ?_
        refine x_iload_n hx hb dX4_dayGoes_51 rfl (lv_at hl 1 rfl) ?_
        refine x_iconst (v := 1) hx hb dX4_dayGoes_52 (by decide) ?_
        refine x_iadd hx hb dX4_dayGoes_53 ?_
        refine x_iload_n hx hb dX4_dayGoes_54 rfl (lv_at hl 2 rfl) ?_
        refine x_iadd hx hb dX4_dayGoes_55 ?_
        refine x_aload_n hx hb dX4_dayGoes_56 rfl (lv_at hl 0 rfl) ?_
        refine gM_rows E hU dX4_dayGoes_57 ?_
        refine x_iload_n hx hb dX4_dayGoes_60 rfl (lv_at hl 1 rfl) ?_
        refine x_iconst (v := 1) hx hb dX4_dayGoes_61 (by decide) ?_
        refine x_iadd hx hb dX4_dayGoes_62 ?_
        refine x_iload_n hx hb dX4_dayGoes_63 rfl (lv_at hl 2 rfl) ?_
        refine x_iadd hx hb dX4_dayGoes_64 ?_
        refine ux_ald (i := 14) (n := 98) E hU (by decide) rfl dX4_dayGoes_65 ?_
        refine x_aload_n hx hb dX4_dayGoes_66 rfl (lv_at hl 0 rfl) ?_
        refine gM_pulled E hU dX4_dayGoes_67 ?_
        refine x_iload_n hx hb dX4_dayGoes_70 rfl (lv_at hl 2 rfl) ?_
        refine ux_ald (i := 18) (n := 12) E hU (by decide) rfl dX4_dayGoes_71 ?_
        refine x_iadd hx hb dX4_dayGoes_72 ?_
        refine x_iconst (v := 0) hx hb dX4_dayGoes_73 (by decide) ?_
        refine x_bipush (v := 99) hx hb dX4_dayGoes_74 (by decide) ?_
        refine kM_bounded E hS hA0 ⟨by decide, by decide⟩ hl.1 (Nat.le_of_ble_eq_true rfl) dX4_dayGoes_76 ⟨Nat.le_refl _, Nat.le_refl _⟩ (fun o22 H locs hk hS => ?_)
        replace hU := hU.kept (fun i hi => hk _ (hU.lt hi))
        refine ux_ast (i := 14) (n := 98) E hU hS (by decide) rfl dX4_dayGoes_79 (fun S23 H locs hU hS => ?_)
        refine x_iinc (v := (v5 + (1 : Int32))) (lv' := [(2, .int (v5 + (1 : Int32))), (0, .ref (ad (0))), (1, .int p1)]) (k := 2) hx hb dX4_dayGoes_80 hl rfl rfl (by decide) rfl (fun ls hl => ?_)
        refine x_goto (tgt := 30) hx hb dX4_dayGoes_83 (by decide) ?_
        exact ih6 (S23, (v5 + (1 : Int32))) _ _ _ ⟨hU, hS, _, rfl, lv_sub hl [1, 2, 0] rfl⟩
  · refine x_aload_n hx hb dX4_dayGoes_10 rfl (lv_at hl 0 rfl) ?_
    refine gM_pulled E hU dX4_dayGoes_11 ?_
    refine x_iload_n hx hb dX4_dayGoes_14 rfl (lv_at hl 2 rfl) ?_
    refine x_aload_n hx hb dX4_dayGoes_15 rfl (lv_at hl 0 rfl) ?_
    refine x_iload_n hx hb dX4_dayGoes_16 rfl (lv_at hl 1 rfl) ?_
    refine x_iload_n hx hb dX4_dayGoes_17 rfl (lv_at hl 2 rfl) ?_
    refine kM_pullsOf E hU hS hA0 ⟨by decide, by decide⟩ hl.1 (Nat.le_of_ble_eq_true rfl) dX4_dayGoes_18 ⟨Nat.le_refl _, Nat.le_refl _⟩ (fun o24 H locs hU hS => ?_)
    refine ux_ast (i := 18) (n := 12) E hU hS (by decide) rfl dX4_dayGoes_21 (fun S25 H locs hU hS => ?_)
    refine x_iinc (v := (v2 + (1 : Int32))) (lv' := [(2, .int (v2 + (1 : Int32))), (0, .ref (ad (0))), (1, .int p1)]) (k := 2) hx hb dX4_dayGoes_22 hl rfl rfl (by decide) rfl (fun ls hl => ?_)
    refine x_goto (tgt := 2) hx hb dX4_dayGoes_25 (by decide) ?_
    exact ih3 (S25, (v2 + (1 : Int32))) _ _ _ ⟨hU, hS, _, rfl, lv_sub hl [1, 2, 0] rfl⟩
section MK
variable {ρ : Type} {p : Program} {l : Launch} {e : Env} {R : Room} {s : State} {m : MethodId} {args : Array Value} {below : List Frame} {meth : Method} {c : Code} {H : Heap} {locs : List Loc} {cells slots : Nat} {Qf : ρ → State → Prop}
variable {cc : ByteArray} {pc nL : Nat} {ls : Array Slot} {rest : List Value}
variable {D : va_G} {ct : CT} {ad : Nat → Nat} {A A0 : Nat → Prop} {S : US} {w : Int64} {H0 : Heap}
theorem kM_dayGoes {p1 : Int32} (E : ME p m c cc nL s args RX4 D clW ct) (hU : UM D ct ad A S w H) (hS : va_S A H0 H locs) (hA0 : ∀ q, H0.size ≤ q → A q) (hR : 5 + 1 ≤ R.frames ∧ 8 + (3 + 11) + 123 ≤ R.locals) (hsize : ls.size = nL) (hW : (rest.map fun v => v.category).sum ≤ 8) (hdg : decode cc pc = .ok (.invokevirtual 359, 3)) (hf : cells ≤ R.cells ∧ slots ≤ R.slots) {kp : US → Option ρ} (kk : ∀ (o : US) (H1 : Heap) (locs1 : List Loc), UM D ct ad A o w H1 → va_S A H0 H1 locs1 → X p l e R s m args below meth c H1 locs1 cells slots Qf (kp o) (F0 m (pc + 3) ls (rest))) : X p l e R s m args below meth c H locs cells slots Qf (callK (sM_dayGoes S p1) kp) (F0 m pc ls (.int p1 :: .ref (ad 0) :: rest)) := ucV_mod (i := 0) (So := fun (o : US) => o) (wo := fun (o : US) => w) (As := [.int p1]) E hU hS hA0 (by decide) rfl rfl (fun sz o ho => mM_dayGoes l D ct ad S w p1 sz o ho) (cwV 1 E.1.2.2.2.2 (lw_V q2273 q2275 qs92 q119 q2276) rfl rfl rfl (by decide +kernel) hR) rfl hsize rfl hW hdg hf kk
end MK

set_option maxHeartbeats 4000000 in
theorem mM_keeps (l : Launch) (D : va_G) (ct : CT) (ad : Nat → Nat) (S : US) (w : Int64) (sz : Nat) (o : US) (ho : sM_keeps S = some o) : Met l yX4_keeps (ws_ yX4_keeps cX4_keeps 2 none) { frames := 1, cells := 0, slots := 0, locals := 32 } (mP D clW ct [.ref (ad (0))] sz (UM D ct ad (fun _ => True) S w)) (mC (none) (UM D ct ad (fun _ => True) o w) (uA 31 ad sz)) 0 0 (uA 31 ad sz) := by
  refine X.start (val := fun (o : US) => none) (Bt := fun (o : US) => UM D ct ad (fun _ => True) o w) (A := uA 31 ad sz) ho (by decide) (Nat.le_of_ble_eq_true rfl) rfl ?_
  intro p e s m args below meth c E hr hlk hnm hsz hU ls hl
  subst hsz
  obtain ⟨⟨hx, hb, hml, hown, hts⟩, hK, hJ⟩ := id E
  replace hU := hU.to (B := uA 31 ad s.heap.size) (fun i hi => Or.inl ⟨i, hi, rfl⟩)
  have hA0 : ∀ q, s.heap.size ≤ q → (uA 31 ad s.heap.size) q := fun q h => Or.inr h
  have hS : va_S (uA 31 ad s.heap.size) s.heap s.heap [] := va_S.rf
  unfold sM_keeps
  refine x_aload_n hx hb dX4_keeps_0 rfl (lv_at hl 0 rfl) ?_
  refine gM_acts E hU dX4_keeps_1 ?_
  refine x_bipush (v := 40) hx hb dX4_keeps_4 (by decide) ?_
  refine X.join2 (fun (x : US) g H locs => UM D ct ad (uA 31 ad s.heap.size) x w H ∧ va_S (uA 31 ad s.heap.size) s.heap H locs ∧ ∃ ls : Array Slot, g = F0 m 50 ls [] ∧ lv_has ls 2 [(0, .ref (ad (0)))]) ?_ (fun j2 hj2 => ?_)
  · rintro S1 _ H locs ⟨hU, hS, ls, rfl, hl⟩
    refine X.eqs (sp2 := sM_keeps_J50 S1) rfl ?_
    unfold sM_keeps_J50
    refine x_iconst (v := 0) hx hb dX4_keeps_50 (by decide) ?_
    refine x_istore_n (lv' := [(1, .int (0 : Int32)), (0, .ref (ad (0)))]) hx hb dX4_keeps_51 rfl hl (by decide) rfl (fun ls hl => ?_)
    refine X.loop (I := fun (x : (US × Int32)) g H locs => UM D ct ad (uA 31 ad s.heap.size) x.1 w H ∧ va_S (uA 31 ad s.heap.size) s.heap H locs ∧ ∃ ls : Array Slot, g = F0 m 52 ls [] ∧ lv_has ls 2 [(0, .ref (ad (0))), (1, .int x.2)]) (fun rc5 ih5 => ?_) FUEL _ _ _ _ ⟨hU, hS, _, rfl, lv_sub hl [1, 0] rfl⟩
    rintro ⟨S3, v4⟩ _ H locs ⟨hU, hS, ls, rfl, hl⟩
    have hU : UM D ct ad (uA 31 ad s.heap.size) S3 w H := hU
    have hl : lv_has ls 2 [(0, .ref (ad (0))), (1, .int v4)] := hl
    refine X.eqs (sp2 := sM_keeps_L52 rc5 S3 v4) rfl ?_
    unfold sM_keeps_L52
    refine x_iload_n hx hb dX4_keeps_52 rfl (lv_at hl 1 rfl) ?_
    refine x_bipush (v := 49) hx hb dX4_keeps_53 (by decide) ?_
    refine x_icmp_ge (tgt := 84) hx hb dX4_keeps_55 (by decide) (fun hc => ?_) (fun hc => ?_)
    · refine x_aload_n hx hb dX4_keeps_84 rfl (lv_at hl 0 rfl) ?_
      refine x_dup hx hb dX4_keeps_85 rfl ?_
      refine gM_acts E hU dX4_keeps_86 ?_
      refine x_iconst (v := 1) hx hb dX4_keeps_89 (by decide) ?_
      refine x_iadd hx hb dX4_keeps_90 ?_
      refine pM_acts E hU hS dX4_keeps_91 (fun S6 H locs hU hS => ?_)
      exact x_vret hx hb hr hlk hS rfl (hU.to fun _ _ => trivial) dX4_keeps_94
    · refine x_aload_n hx hb dX4_keeps_58 rfl (lv_at hl 0 rfl) ?_
      refine gM_ahead E hU dX4_keeps_59 ?_
      refine x_bipush (v := 49) hx hb dX4_keeps_62 (by decide) ?_
      refine x_aload_n hx hb dX4_keeps_64 rfl (lv_at hl 0 rfl) ?_
      refine gM_acts E hU dX4_keeps_65 ?_
      refine x_imul hx hb dX4_keeps_68 ?_
      refine x_iload_n hx hb dX4_keeps_69 rfl (lv_at hl 1 rfl) ?_
      refine x_iadd hx hb dX4_keeps_70 ?_
      refine x_aload_n hx hb dX4_keeps_71 rfl (lv_at hl 0 rfl) ?_
      refine gM_rows E hU dX4_keeps_72 ?_
      refine x_iload_n hx hb dX4_keeps_75 rfl (lv_at hl 1 rfl) ?_
      refine ux_ald (i := 14) (n := 98) E hU (by decide) rfl dX4_keeps_76 ?_
      refine ux_ast (i := 15) (n := 1960) E hU hS (by decide) rfl dX4_keeps_77 (fun S7 H locs hU hS => ?_)
      refine x_iinc (v := (v4 + (1 : Int32))) (lv' := [(1, .int (v4 + (1 : Int32))), (0, .ref (ad (0)))]) (k := 1) hx hb dX4_keeps_78 hl rfl rfl (by decide) rfl (fun ls hl => ?_)
      refine x_goto (tgt := 52) hx hb dX4_keeps_81 (by decide) ?_
      exact ih5 (S7, (v4 + (1 : Int32))) _ _ _ ⟨hU, hS, _, rfl, lv_sub hl [1, 0] rfl⟩
  · refine x_icmp_ne (tgt := 50) hx hb dX4_keeps_6 (by decide) (fun hc => ?_) (fun hc => ?_)
    · exact hj2 S _ _ _ ⟨hU, hS, _, rfl, lv_sub hl [0] rfl⟩
    · refine x_bipush (v := 49) hx hb dX4_keeps_9 (by decide) ?_
      refine x_istore_n (lv' := [(1, .int (49 : Int32)), (0, .ref (ad (0)))]) hx hb dX4_keeps_11 rfl hl (by decide) rfl (fun ls hl => ?_)
      refine X.loop (I := fun (x : (US × Int32)) g H locs => UM D ct ad (uA 31 ad s.heap.size) x.1 w H ∧ va_S (uA 31 ad s.heap.size) s.heap H locs ∧ ∃ ls : Array Slot, g = F0 m 12 ls [] ∧ lv_has ls 2 [(0, .ref (ad (0))), (1, .int x.2)]) (fun rc10 ih10 => ?_) FUEL _ _ _ _ ⟨hU, hS, _, rfl, lv_sub hl [1, 0] rfl⟩
      rintro ⟨S8, v9⟩ _ H locs ⟨hU, hS, ls, rfl, hl⟩
      have hU : UM D ct ad (uA 31 ad s.heap.size) S8 w H := hU
      have hl : lv_has ls 2 [(0, .ref (ad (0))), (1, .int v9)] := hl
      refine X.eqs (sp2 := sM_keeps_L12 j2 rc10 S8 v9) rfl ?_
      unfold sM_keeps_L12
      refine x_iload_n hx hb dX4_keeps_12 rfl (lv_at hl 1 rfl) ?_
      refine x_sipush (v := 1960) hx hb dX4_keeps_13 (by decide) ?_
      refine x_icmp_ge (tgt := 40) hx hb dX4_keeps_16 (by decide) (fun hc => ?_) (fun hc => ?_)
      · refine x_aload_n hx hb dX4_keeps_40 rfl (lv_at hl 0 rfl) ?_
        refine x_dup hx hb dX4_keeps_41 rfl ?_
        refine gM_acts E hU dX4_keeps_42 ?_
        refine x_iconst (v := 1) hx hb dX4_keeps_45 (by decide) ?_
        refine x_isub hx hb dX4_keeps_46 ?_
        refine pM_acts E hU hS dX4_keeps_47 (fun S11 H locs hU hS => ?_)
        exact hj2 S11 _ _ _ ⟨hU, hS, _, rfl, lv_sub hl [0] rfl⟩
      · refine x_aload_n hx hb dX4_keeps_19 rfl (lv_at hl 0 rfl) ?_
        refine gM_ahead E hU dX4_keeps_20 ?_
        refine x_iload_n hx hb dX4_keeps_23 rfl (lv_at hl 1 rfl) ?_
        refine x_bipush (v := 49) hx hb dX4_keeps_24 (by decide) ?_
        refine x_isub hx hb dX4_keeps_26 ?_
        refine x_aload_n hx hb dX4_keeps_27 rfl (lv_at hl 0 rfl) ?_
        refine gM_ahead E hU dX4_keeps_28 ?_
        refine x_iload_n hx hb dX4_keeps_31 rfl (lv_at hl 1 rfl) ?_
        refine ux_ald (i := 15) (n := 1960) E hU (by decide) rfl dX4_keeps_32 ?_
        refine ux_ast (i := 15) (n := 1960) E hU hS (by decide) rfl dX4_keeps_33 (fun S12 H locs hU hS => ?_)
        refine x_iinc (v := (v9 + (1 : Int32))) (lv' := [(1, .int (v9 + (1 : Int32))), (0, .ref (ad (0)))]) (k := 1) hx hb dX4_keeps_34 hl rfl rfl (by decide) rfl (fun ls hl => ?_)
        refine x_goto (tgt := 12) hx hb dX4_keeps_37 (by decide) ?_
        exact ih10 (S12, (v9 + (1 : Int32))) _ _ _ ⟨hU, hS, _, rfl, lv_sub hl [1, 0] rfl⟩
section MK
variable {ρ : Type} {p : Program} {l : Launch} {e : Env} {R : Room} {s : State} {m : MethodId} {args : Array Value} {below : List Frame} {meth : Method} {c : Code} {H : Heap} {locs : List Loc} {cells slots : Nat} {Qf : ρ → State → Prop}
variable {cc : ByteArray} {pc nL : Nat} {ls : Array Slot} {rest : List Value}
variable {D : va_G} {ct : CT} {ad : Nat → Nat} {A A0 : Nat → Prop} {S : US} {w : Int64} {H0 : Heap}
theorem kM_keeps (E : ME p m c cc nL s args RX4 D clW ct) (hU : UM D ct ad A S w H) (hS : va_S A H0 H locs) (hA0 : ∀ q, H0.size ≤ q → A q) (hR : 1 + 1 ≤ R.frames ∧ 8 + (2 + 11) + 32 ≤ R.locals) (hsize : ls.size = nL) (hW : (rest.map fun v => v.category).sum ≤ 8) (hdg : decode cc pc = .ok (.invokevirtual 387, 3)) (hf : cells ≤ R.cells ∧ slots ≤ R.slots) {kp : US → Option ρ} (kk : ∀ (o : US) (H1 : Heap) (locs1 : List Loc), UM D ct ad A o w H1 → va_S A H0 H1 locs1 → X p l e R s m args below meth c H1 locs1 cells slots Qf (kp o) (F0 m (pc + 3) ls (rest))) : X p l e R s m args below meth c H locs cells slots Qf (callK (sM_keeps S) kp) (F0 m pc ls (.ref (ad 0) :: rest)) := ucV_mod (i := 0) (So := fun (o : US) => o) (wo := fun (o : US) => w) (As := []) E hU hS hA0 (by decide) rfl rfl (fun sz o ho => mM_keeps l D ct ad S w sz o ho) (cwV 0 E.1.2.2.2.2 (lw_V q2269 q2271 qs91 q119 q2272) rfl rfl rfl (by decide +kernel) hR) rfl hsize rfl hW hdg hf kk
end MK

set_option maxHeartbeats 4000000 in
theorem mM_refuses (l : Launch) (D : va_G) (ct : CT) (ad : Nat → Nat) (S : US) (w : Int64) (p1 : Int32) (sz : Nat) (o : (Int32 × US)) (ho : sM_refuses S p1 = some o) : Met l yX4_refuses (ws_ yX4_refuses cX4_refuses 2 (some .int)) { frames := 1, cells := 0, slots := 0, locals := 32 } (mP D clW ct [.ref (ad (0)), .int p1] sz (UM D ct ad (fun _ => True) S w)) (mC (some (.int o.1)) (UM D ct ad (fun _ => True) o.2 w) (uA 31 ad sz)) 0 0 (uA 31 ad sz) := by
  refine X.start (val := fun (o : (Int32 × US)) => some (.int o.1)) (Bt := fun (o : (Int32 × US)) => UM D ct ad (fun _ => True) o.2 w) (A := uA 31 ad sz) ho (by decide) (Nat.le_of_ble_eq_true rfl) rfl ?_
  intro p e s m args below meth c E hr hlk hnm hsz hU ls hl
  subst hsz
  obtain ⟨⟨hx, hb, hml, hown, hts⟩, hK, hJ⟩ := id E
  replace hU := hU.to (B := uA 31 ad s.heap.size) (fun i hi => Or.inl ⟨i, hi, rfl⟩)
  have hA0 : ∀ q, s.heap.size ≤ q → (uA 31 ad s.heap.size) q := fun q h => Or.inr h
  have hS : va_S (uA 31 ad s.heap.size) s.heap s.heap [] := va_S.rf
  unfold sM_refuses
  refine x_aload_n hx hb dX4_refuses_0 rfl (lv_at hl 0 rfl) ?_
  refine gM_refused E hU dX4_refuses_1 ?_
  refine x_iload_n hx hb dX4_refuses_4 rfl (lv_at hl 1 rfl) ?_
  refine x_dup2_11 hx hb dX4_refuses_5 rfl rfl ?_
  refine ux_ald (i := 6) (n := 3) E hU (by decide) rfl dX4_refuses_6 ?_
  refine x_iconst (v := 1) hx hb dX4_refuses_7 (by decide) ?_
  refine x_iadd hx hb dX4_refuses_8 ?_
  refine ux_ast (i := 6) (n := 3) E hU hS (by decide) rfl dX4_refuses_9 (fun S1 H locs hU hS => ?_)
  refine x_iconst (v := -1) hx hb dX4_refuses_10 (by decide) ?_
  exact x_iret hx hb hr hlk hS rfl (hU.to fun _ _ => trivial) dX4_refuses_11
section MK
variable {ρ : Type} {p : Program} {l : Launch} {e : Env} {R : Room} {s : State} {m : MethodId} {args : Array Value} {below : List Frame} {meth : Method} {c : Code} {H : Heap} {locs : List Loc} {cells slots : Nat} {Qf : ρ → State → Prop}
variable {cc : ByteArray} {pc nL : Nat} {ls : Array Slot} {rest : List Value}
variable {D : va_G} {ct : CT} {ad : Nat → Nat} {A A0 : Nat → Prop} {S : US} {w : Int64} {H0 : Heap}
theorem kM_refuses {p1 : Int32} (E : ME p m c cc nL s args RX4 D clW ct) (hU : UM D ct ad A S w H) (hS : va_S A H0 H locs) (hA0 : ∀ q, H0.size ≤ q → A q) (hR : 1 + 1 ≤ R.frames ∧ 8 + (2 + 11) + 32 ≤ R.locals) (hsize : ls.size = nL) (hW : (rest.map fun v => v.category).sum ≤ 8) (hdg : decode cc pc = .ok (.invokevirtual 384, 3)) (hf : cells ≤ R.cells ∧ slots ≤ R.slots) {kp : (Int32 × US) → Option ρ} (kk : ∀ (o : (Int32 × US)) (H1 : Heap) (locs1 : List Loc), UM D ct ad A o.2 w H1 → va_S A H0 H1 locs1 → X p l e R s m args below meth c H1 locs1 cells slots Qf (kp o) (F0 m (pc + 3) ls (.int o.1 :: rest))) : X p l e R s m args below meth c H locs cells slots Qf (callK (sM_refuses S p1) kp) (F0 m pc ls (.int p1 :: .ref (ad 0) :: rest)) := ucV_mod (i := 0) (So := fun (o : (Int32 × US)) => o.2) (wo := fun (o : (Int32 × US)) => w) (As := [.int p1]) E hU hS hA0 (by decide) rfl rfl (fun sz o ho => mM_refuses l D ct ad S w p1 sz o ho) (cwV 1 E.1.2.2.2.2 (lw_V q2265 q2267 qs90 q119 q2268) rfl rfl rfl (by decide +kernel) hR) rfl hsize rfl hW hdg hf kk
end MK

set_option maxHeartbeats 4000000 in
theorem mM_days (l : Launch) (D : va_G) (ct : CT) (ad : Nat → Nat) (S : US) (w : Int64) (p1 : Int32) (sz : Nat) (o : (Int32 × US)) (ho : sM_days S p1 = some o) : Met l yX4_days (ws_ yX4_days cX4_days 3 (some .int)) { frames := 6, cells := 0, slots := 0, locals := 145 } (mP D clW ct [.ref (ad (0)), .int p1] sz (UM D ct ad (fun _ => True) S w)) (mC (some (.int o.1)) (UM D ct ad (fun _ => True) o.2 w) (uA 31 ad sz)) 0 0 (uA 31 ad sz) := by
  refine X.start (val := fun (o : (Int32 × US)) => some (.int o.1)) (Bt := fun (o : (Int32 × US)) => UM D ct ad (fun _ => True) o.2 w) (A := uA 31 ad sz) ho (by decide) (Nat.le_of_ble_eq_true rfl) rfl ?_
  intro p e s m args below meth c E hr hlk hnm hsz hU ls hl
  subst hsz
  obtain ⟨⟨hx, hb, hml, hown, hts⟩, hK, hJ⟩ := id E
  replace hU := hU.to (B := uA 31 ad s.heap.size) (fun i hi => Or.inl ⟨i, hi, rfl⟩)
  have hA0 : ∀ q, s.heap.size ≤ q → (uA 31 ad s.heap.size) q := fun q h => Or.inr h
  have hS : va_S (uA 31 ad s.heap.size) s.heap s.heap [] := va_S.rf
  unfold sM_days
  refine x_aload_n hx hb dX4_days_0 rfl (lv_at hl 0 rfl) ?_
  refine x_iconst (v := 0) hx hb dX4_days_1 (by decide) ?_
  refine pM_thrown E hU hS dX4_days_2 (fun S1 H locs hU hS => ?_)
  refine x_iload_n hx hb dX4_days_5 rfl (lv_at hl 1 rfl) ?_
  refine x_iconst (v := 1) hx hb dX4_days_6 (by decide) ?_
  refine x_bipush (v := 20) hx hb dX4_days_7 (by decide) ?_
  refine kM_within E hS hA0 ⟨by decide, by decide⟩ hl.1 (Nat.le_of_ble_eq_true rfl) dX4_days_9 ⟨Nat.le_refl _, Nat.le_refl _⟩ (fun o2 H locs hk hS => ?_)
  replace hU := hU.kept (fun i hi => hk _ (hU.lt hi))
  refine x_if_eq (tgt := 29) hx hb dX4_days_12 (by decide) (fun hc => ?_) (fun hc => ?_)
  · refine x_aload_n hx hb dX4_days_29 rfl (lv_at hl 0 rfl) ?_
    refine x_iconst (v := 1) hx hb dX4_days_30 (by decide) ?_
    refine kM_refuses E hU hS hA0 ⟨by decide, by decide⟩ hl.1 (Nat.le_of_ble_eq_true rfl) dX4_days_31 ⟨Nat.le_refl _, Nat.le_refl _⟩ (fun o3 H locs hU hS => ?_)
    exact x_iret hx hb hr hlk hS rfl (hU.to fun _ _ => trivial) dX4_days_34
  · refine x_aload_n hx hb dX4_days_15 rfl (lv_at hl 0 rfl) ?_
    refine gM_rows E hU dX4_days_16 ?_
    refine x_iconst (v := 0) hx hb dX4_days_19 (by decide) ?_
    refine ux_ald (i := 14) (n := 98) E hU (by decide) rfl dX4_days_20 ?_
    refine x_iload_n hx hb dX4_days_21 rfl (lv_at hl 1 rfl) ?_
    refine x_iadd hx hb dX4_days_22 ?_
    refine x_sipush (v := 999) hx hb dX4_days_23 (by decide) ?_
    refine x_icmp_le (tgt := 35) hx hb dX4_days_26 (by decide) (fun hc => ?_) (fun hc => ?_)
    · refine x_aload_n hx hb dX4_days_35 rfl (lv_at hl 0 rfl) ?_
      refine kM_keeps E hU hS hA0 ⟨by decide, by decide⟩ hl.1 (Nat.le_of_ble_eq_true rfl) dX4_days_36 ⟨Nat.le_refl _, Nat.le_refl _⟩ (fun o4 H locs hU hS => ?_)
      refine x_iconst (v := 0) hx hb dX4_days_39 (by decide) ?_
      refine x_istore_n (lv' := [(2, .int (0 : Int32)), (0, .ref (ad (0))), (1, .int p1)]) hx hb dX4_days_40 rfl hl (by decide) rfl (fun ls hl => ?_)
      refine X.loop (I := fun (x : (US × Int32)) g H locs => UM D ct ad (uA 31 ad s.heap.size) x.1 w H ∧ va_S (uA 31 ad s.heap.size) s.heap H locs ∧ ∃ ls : Array Slot, g = F0 m 41 ls [] ∧ lv_has ls 3 [(0, .ref (ad (0))), (1, .int p1), (2, .int x.2)]) (fun rc7 ih7 => ?_) FUEL _ _ _ _ ⟨hU, hS, _, rfl, lv_sub hl [1, 2, 0] rfl⟩
      rintro ⟨S5, v6⟩ _ H locs ⟨hU, hS, ls, rfl, hl⟩
      have hU : UM D ct ad (uA 31 ad s.heap.size) S5 w H := hU
      have hl : lv_has ls 3 [(0, .ref (ad (0))), (1, .int p1), (2, .int v6)] := hl
      refine X.eqs (sp2 := sM_days_L41 p1 rc7 S5 v6) rfl ?_
      unfold sM_days_L41
      refine x_iload_n hx hb dX4_days_41 rfl (lv_at hl 2 rfl) ?_
      refine x_iload_n hx hb dX4_days_42 rfl (lv_at hl 1 rfl) ?_
      refine x_icmp_ge (tgt := 57) hx hb dX4_days_43 (by decide) (fun hc => ?_) (fun hc => ?_)
      · refine x_aload_n hx hb dX4_days_57 rfl (lv_at hl 0 rfl) ?_
        refine gM_rows E hU dX4_days_58 ?_
        refine x_iconst (v := 0) hx hb dX4_days_61 (by decide) ?_
        refine ux_ald (i := 14) (n := 98) E hU (by decide) rfl dX4_days_62 ?_
        exact x_iret hx hb hr hlk hS rfl (hU.to fun _ _ => trivial) dX4_days_63
      · refine x_aload_n hx hb dX4_days_46 rfl (lv_at hl 0 rfl) ?_
        refine x_iconst (v := 0) hx hb dX4_days_47 (by decide) ?_
        refine kM_dayGoes E hU hS hA0 ⟨by decide, by decide⟩ hl.1 (Nat.le_of_ble_eq_true rfl) dX4_days_48 ⟨Nat.le_refl _, Nat.le_refl _⟩ (fun o8 H locs hU hS => ?_)
        refine x_iinc (v := (v6 + (1 : Int32))) (lv' := [(2, .int (v6 + (1 : Int32))), (0, .ref (ad (0))), (1, .int p1)]) (k := 2) hx hb dX4_days_51 hl rfl rfl (by decide) rfl (fun ls hl => ?_)
        refine x_goto (tgt := 41) hx hb dX4_days_54 (by decide) ?_
        exact ih7 (o8, (v6 + (1 : Int32))) _ _ _ ⟨hU, hS, _, rfl, lv_sub hl [1, 2, 0] rfl⟩
    · refine x_aload_n hx hb dX4_days_29 rfl (lv_at hl 0 rfl) ?_
      refine x_iconst (v := 1) hx hb dX4_days_30 (by decide) ?_
      refine kM_refuses E hU hS hA0 ⟨by decide, by decide⟩ hl.1 (Nat.le_of_ble_eq_true rfl) dX4_days_31 ⟨Nat.le_refl _, Nat.le_refl _⟩ (fun o9 H locs hU hS => ?_)
      exact x_iret hx hb hr hlk hS rfl (hU.to fun _ _ => trivial) dX4_days_34

set_option maxHeartbeats 4000000 in
theorem mM_mend (l : Launch) (D : va_G) (ct : CT) (ad : Nat → Nat) (S : US) (w : Int64) (p1 : Int32) (sz : Nat) (o : (Int32 × US)) (ho : sM_mend S p1 = some o) : Met l yX4_mend (ws_ yX4_mend cX4_mend 2 (some .int)) { frames := 3, cells := 0, slots := 0, locals := 76 } (mP D clW ct [.ref (ad (0)), .int p1] sz (UM D ct ad (fun _ => True) S w)) (mC (some (.int o.1)) (UM D ct ad (fun _ => True) o.2 w) (uA 31 ad sz)) 0 0 (uA 31 ad sz) := by
  refine X.start (val := fun (o : (Int32 × US)) => some (.int o.1)) (Bt := fun (o : (Int32 × US)) => UM D ct ad (fun _ => True) o.2 w) (A := uA 31 ad sz) ho (by decide) (Nat.le_of_ble_eq_true rfl) rfl ?_
  intro p e s m args below meth c E hr hlk hnm hsz hU ls hl
  subst hsz
  obtain ⟨⟨hx, hb, hml, hown, hts⟩, hK, hJ⟩ := id E
  replace hU := hU.to (B := uA 31 ad s.heap.size) (fun i hi => Or.inl ⟨i, hi, rfl⟩)
  have hA0 : ∀ q, s.heap.size ≤ q → (uA 31 ad s.heap.size) q := fun q h => Or.inr h
  have hS : va_S (uA 31 ad s.heap.size) s.heap s.heap [] := va_S.rf
  unfold sM_mend
  refine x_aload_n hx hb dX4_mend_0 rfl (lv_at hl 0 rfl) ?_
  refine x_iconst (v := 0) hx hb dX4_mend_1 (by decide) ?_
  refine pM_thrown E hU hS dX4_mend_2 (fun S1 H locs hU hS => ?_)
  refine x_aload_n hx hb dX4_mend_5 rfl (lv_at hl 0 rfl) ?_
  refine x_iload_n hx hb dX4_mend_6 rfl (lv_at hl 1 rfl) ?_
  refine kM_isWoman E hU hS hA0 ⟨by decide, by decide⟩ hl.1 (Nat.le_of_ble_eq_true rfl) dX4_mend_7 ⟨Nat.le_refl _, Nat.le_refl _⟩ (fun o2 H locs hU hS => ?_)
  refine x_if_ne (tgt := 15) hx hb dX4_mend_10 (by decide) (fun hc => ?_) (fun hc => ?_)
  · refine x_aload_n hx hb dX4_mend_15 rfl (lv_at hl 0 rfl) ?_
    refine gM_rows E hU dX4_mend_16 ?_
    refine x_bipush (v := 43) hx hb dX4_mend_19 (by decide) ?_
    refine x_iload_n hx hb dX4_mend_21 rfl (lv_at hl 1 rfl) ?_
    refine x_iadd hx hb dX4_mend_22 ?_
    refine ux_ald (i := 14) (n := 98) E hU (by decide) rfl dX4_mend_23 ?_
    refine x_if_ne (tgt := 33) hx hb dX4_mend_24 (by decide) (fun hc => ?_) (fun hc => ?_)
    · refine x_aload_n hx hb dX4_mend_33 rfl (lv_at hl 0 rfl) ?_
      refine kM_keeps E hU hS hA0 ⟨by decide, by decide⟩ hl.1 (Nat.le_of_ble_eq_true rfl) dX4_mend_34 ⟨Nat.le_refl _, Nat.le_refl _⟩ (fun o3 H locs hU hS => ?_)
      refine x_aload_n hx hb dX4_mend_37 rfl (lv_at hl 0 rfl) ?_
      refine x_iconst (v := 0) hx hb dX4_mend_38 (by decide) ?_
      refine x_iload_n hx hb dX4_mend_39 rfl (lv_at hl 1 rfl) ?_
      refine kM_mends E hU hS hA0 ⟨by decide, by decide⟩ hl.1 (Nat.le_of_ble_eq_true rfl) dX4_mend_40 ⟨Nat.le_refl _, Nat.le_refl _⟩ (fun o4 H locs hU hS => ?_)
      refine x_aload_n hx hb dX4_mend_43 rfl (lv_at hl 0 rfl) ?_
      refine gM_rows E hU dX4_mend_44 ?_
      refine x_bipush (v := 13) hx hb dX4_mend_47 (by decide) ?_
      refine x_aload_n hx hb dX4_mend_49 rfl (lv_at hl 0 rfl) ?_
      refine gM_rows E hU dX4_mend_50 ?_
      refine x_bipush (v := 37) hx hb dX4_mend_53 (by decide) ?_
      refine x_iload_n hx hb dX4_mend_55 rfl (lv_at hl 1 rfl) ?_
      refine x_iadd hx hb dX4_mend_56 ?_
      refine ux_ald (i := 14) (n := 98) E hU (by decide) rfl dX4_mend_57 ?_
      refine x_iadd hx hb dX4_mend_58 ?_
      refine ux_ald (i := 14) (n := 98) E hU (by decide) rfl dX4_mend_59 ?_
      exact x_iret hx hb hr hlk hS rfl (hU.to fun _ _ => trivial) dX4_mend_60
    · refine x_aload_n hx hb dX4_mend_27 rfl (lv_at hl 0 rfl) ?_
      refine x_iconst (v := 1) hx hb dX4_mend_28 (by decide) ?_
      refine kM_refuses E hU hS hA0 ⟨by decide, by decide⟩ hl.1 (Nat.le_of_ble_eq_true rfl) dX4_mend_29 ⟨Nat.le_refl _, Nat.le_refl _⟩ (fun o5 H locs hU hS => ?_)
      exact x_iret hx hb hr hlk hS rfl (hU.to fun _ _ => trivial) dX4_mend_32
  · refine x_iconst (v := 0) hx hb dX4_mend_13 (by decide) ?_
    exact x_iret hx hb hr hlk hS rfl (hU.to fun _ _ => trivial) dX4_mend_14

set_option maxHeartbeats 4000000 in
theorem mM_go (l : Launch) (D : va_G) (ct : CT) (ad : Nat → Nat) (S : US) (w : Int64) (p1 : Int32) (p2 : Int32) (sz : Nat) (o : (Int32 × US)) (ho : sM_go S p1 p2 = some o) : Met l yX4_go (ws_ yX4_go cX4_go 4 (some .int)) { frames := 3, cells := 0, slots := 0, locals := 75 } (mP D clW ct [.ref (ad (0)), .int p1, .int p2] sz (UM D ct ad (fun _ => True) S w)) (mC (some (.int o.1)) (UM D ct ad (fun _ => True) o.2 w) (uA 31 ad sz)) 0 0 (uA 31 ad sz) := by
  refine X.start (val := fun (o : (Int32 × US)) => some (.int o.1)) (Bt := fun (o : (Int32 × US)) => UM D ct ad (fun _ => True) o.2 w) (A := uA 31 ad sz) ho (by decide) (Nat.le_of_ble_eq_true rfl) rfl ?_
  intro p e s m args below meth c E hr hlk hnm hsz hU ls hl
  subst hsz
  obtain ⟨⟨hx, hb, hml, hown, hts⟩, hK, hJ⟩ := id E
  replace hU := hU.to (B := uA 31 ad s.heap.size) (fun i hi => Or.inl ⟨i, hi, rfl⟩)
  have hA0 : ∀ q, s.heap.size ≤ q → (uA 31 ad s.heap.size) q := fun q h => Or.inr h
  have hS : va_S (uA 31 ad s.heap.size) s.heap s.heap [] := va_S.rf
  unfold sM_go
  refine x_aload_n hx hb dX4_go_0 rfl (lv_at hl 0 rfl) ?_
  refine x_iconst (v := 0) hx hb dX4_go_1 (by decide) ?_
  refine pM_thrown E hU hS dX4_go_2 (fun S1 H locs hU hS => ?_)
  refine x_aload_n hx hb dX4_go_5 rfl (lv_at hl 0 rfl) ?_
  refine x_iload_n hx hb dX4_go_6 rfl (lv_at hl 1 rfl) ?_
  refine kM_isWoman E hU hS hA0 ⟨by decide, by decide⟩ hl.1 (Nat.le_of_ble_eq_true rfl) dX4_go_7 ⟨Nat.le_refl _, Nat.le_refl _⟩ (fun o2 H locs hU hS => ?_)
  refine x_if_eq (tgt := 21) hx hb dX4_go_10 (by decide) (fun hc => ?_) (fun hc => ?_)
  · refine x_iconst (v := 0) hx hb dX4_go_21 (by decide) ?_
    exact x_iret hx hb hr hlk hS rfl (hU.to fun _ _ => trivial) dX4_go_22
  · refine x_aload_n hx hb dX4_go_13 rfl (lv_at hl 0 rfl) ?_
    refine x_iload_n hx hb dX4_go_14 rfl (lv_at hl 2 rfl) ?_
    refine kM_isStretch E hU hS hA0 ⟨by decide, by decide⟩ hl.1 (Nat.le_of_ble_eq_true rfl) dX4_go_15 ⟨Nat.le_refl _, Nat.le_refl _⟩ (fun o3 H locs hU hS => ?_)
    refine x_if_ne (tgt := 23) hx hb dX4_go_18 (by decide) (fun hc => ?_) (fun hc => ?_)
    · refine x_aload_n hx hb dX4_go_23 rfl (lv_at hl 0 rfl) ?_
      refine gM_rows E hU dX4_go_24 ?_
      refine x_bipush (v := 37) hx hb dX4_go_27 (by decide) ?_
      refine x_iload_n hx hb dX4_go_29 rfl (lv_at hl 1 rfl) ?_
      refine x_iadd hx hb dX4_go_30 ?_
      refine ux_ald (i := 14) (n := 98) E hU (by decide) rfl dX4_go_31 ?_
      refine x_istore_n (lv' := [(3, .int (o3.2 14 ((37 : Int32) + p1).toNatClampNeg)), (0, .ref (ad (0))), (1, .int p1), (2, .int p2)]) hx hb dX4_go_32 rfl hl (by decide) rfl (fun ls hl => ?_)
      refine x_iload_n hx hb dX4_go_33 rfl (lv_at hl 0 rfl) ?_
      refine x_iload_n hx hb dX4_go_34 rfl (lv_at hl 3 rfl) ?_
      refine x_icmp_ne (tgt := 44) hx hb dX4_go_35 (by decide) (fun hc => ?_) (fun hc => ?_)
      · refine x_aload_n hx hb dX4_go_44 rfl (lv_at hl 1 rfl) ?_
        refine kM_keeps E hU hS hA0 ⟨by decide, by decide⟩ hl.1 (Nat.le_of_ble_eq_true rfl) dX4_go_45 ⟨Nat.le_refl _, Nat.le_refl _⟩ (fun o4 H locs hU hS => ?_)
        refine x_aload_n hx hb dX4_go_48 rfl (lv_at hl 1 rfl) ?_
        refine gM_rows E hU dX4_go_49 ?_
        refine x_bipush (v := 37) hx hb dX4_go_52 (by decide) ?_
        refine x_iload_n hx hb dX4_go_54 rfl (lv_at hl 2 rfl) ?_
        refine x_iadd hx hb dX4_go_55 ?_
        refine x_iload_n hx hb dX4_go_56 rfl (lv_at hl 3 rfl) ?_
        refine ux_ast (i := 14) (n := 98) E hU hS (by decide) rfl dX4_go_57 (fun S5 H locs hU hS => ?_)
        refine x_iload_n hx hb dX4_go_58 rfl (lv_at hl 0 rfl) ?_
        exact x_iret hx hb hr hlk hS rfl (hU.to fun _ _ => trivial) dX4_go_59
      · refine x_aload_n hx hb dX4_go_38 rfl (lv_at hl 1 rfl) ?_
        refine x_iconst (v := 1) hx hb dX4_go_39 (by decide) ?_
        refine kM_refuses E hU hS hA0 ⟨by decide, by decide⟩ hl.1 (Nat.le_of_ble_eq_true rfl) dX4_go_40 ⟨Nat.le_refl _, Nat.le_refl _⟩ (fun o6 H locs hU hS => ?_)
        exact x_iret hx hb hr hlk hS rfl (hU.to fun _ _ => trivial) dX4_go_43
    · refine x_iconst (v := 0) hx hb dX4_go_21 (by decide) ?_
      exact x_iret hx hb hr hlk hS rfl (hU.to fun _ _ => trivial) dX4_go_22

set_option maxHeartbeats 4000000 in
theorem mM_stitch (l : Launch) (D : va_G) (ct : CT) (ad : Nat → Nat) (S : US) (w : Int64) (p1 : Int32) (p2 : Int32) (sz : Nat) (o : (Int32 × US)) (ho : sM_stitch S p1 p2 = some o) : Met l yX4_stitch (ws_ yX4_stitch cX4_stitch 4 (some .int)) { frames := 3, cells := 0, slots := 0, locals := 75 } (mP D clW ct [.ref (ad (0)), .int p1, .int p2] sz (UM D ct ad (fun _ => True) S w)) (mC (some (.int o.1)) (UM D ct ad (fun _ => True) o.2 w) (uA 31 ad sz)) 0 0 (uA 31 ad sz) := by
  refine X.start (val := fun (o : (Int32 × US)) => some (.int o.1)) (Bt := fun (o : (Int32 × US)) => UM D ct ad (fun _ => True) o.2 w) (A := uA 31 ad sz) ho (by decide) (Nat.le_of_ble_eq_true rfl) rfl ?_
  intro p e s m args below meth c E hr hlk hnm hsz hU ls hl
  subst hsz
  obtain ⟨⟨hx, hb, hml, hown, hts⟩, hK, hJ⟩ := id E
  replace hU := hU.to (B := uA 31 ad s.heap.size) (fun i hi => Or.inl ⟨i, hi, rfl⟩)
  have hA0 : ∀ q, s.heap.size ≤ q → (uA 31 ad s.heap.size) q := fun q h => Or.inr h
  have hS : va_S (uA 31 ad s.heap.size) s.heap s.heap [] := va_S.rf
  unfold sM_stitch
  refine x_aload_n hx hb dX4_stitch_0 rfl (lv_at hl 0 rfl) ?_
  refine x_iconst (v := 0) hx hb dX4_stitch_1 (by decide) ?_
  refine pM_thrown E hU hS dX4_stitch_2 (fun S1 H locs hU hS => ?_)
  refine x_aload_n hx hb dX4_stitch_5 rfl (lv_at hl 0 rfl) ?_
  refine x_iload_n hx hb dX4_stitch_6 rfl (lv_at hl 1 rfl) ?_
  refine kM_isStretch E hU hS hA0 ⟨by decide, by decide⟩ hl.1 (Nat.le_of_ble_eq_true rfl) dX4_stitch_7 ⟨Nat.le_refl _, Nat.le_refl _⟩ (fun o2 H locs hU hS => ?_)
  refine x_if_ne (tgt := 15) hx hb dX4_stitch_10 (by decide) (fun hc => ?_) (fun hc => ?_)
  · refine x_aload_n hx hb dX4_stitch_15 rfl (lv_at hl 0 rfl) ?_
    refine gM_rows E hU dX4_stitch_16 ?_
    refine x_bipush (v := 25) hx hb dX4_stitch_19 (by decide) ?_
    refine x_iload_n hx hb dX4_stitch_21 rfl (lv_at hl 1 rfl) ?_
    refine x_iadd hx hb dX4_stitch_22 ?_
    refine ux_ald (i := 14) (n := 98) E hU (by decide) rfl dX4_stitch_23 ?_
    refine x_istore_n (lv' := [(3, .int (o2.2 14 ((25 : Int32) + p1).toNatClampNeg)), (0, .ref (ad (0))), (1, .int p1), (2, .int p2)]) hx hb dX4_stitch_24 rfl hl (by decide) rfl (fun ls hl => ?_)
    refine x_iload_n hx hb dX4_stitch_25 rfl (lv_at hl 3 rfl) ?_
    refine x_iconst (v := 0) hx hb dX4_stitch_26 (by decide) ?_
    refine x_iconst (v := 2) hx hb dX4_stitch_27 (by decide) ?_
    refine kM_within E hS hA0 ⟨by decide, by decide⟩ hl.1 (Nat.le_of_ble_eq_true rfl) dX4_stitch_28 ⟨Nat.le_refl _, Nat.le_refl _⟩ (fun o3 H locs hk hS => ?_)
    replace hU := hU.kept (fun i hi => hk _ (hU.lt hi))
    refine x_if_eq (tgt := 39) hx hb dX4_stitch_31 (by decide) (fun hc => ?_) (fun hc => ?_)
    · refine x_aload_n hx hb dX4_stitch_39 rfl (lv_at hl 1 rfl) ?_
      refine x_iconst (v := 1) hx hb dX4_stitch_40 (by decide) ?_
      refine kM_refuses E hU hS hA0 ⟨by decide, by decide⟩ hl.1 (Nat.le_of_ble_eq_true rfl) dX4_stitch_41 ⟨Nat.le_refl _, Nat.le_refl _⟩ (fun o4 H locs hU hS => ?_)
      exact x_iret hx hb hr hlk hS rfl (hU.to fun _ _ => trivial) dX4_stitch_44
    · refine x_iload_n hx hb dX4_stitch_34 rfl (lv_at hl 0 rfl) ?_
      refine x_iload_n hx hb dX4_stitch_35 rfl (lv_at hl 3 rfl) ?_
      refine x_icmp_ne (tgt := 45) hx hb dX4_stitch_36 (by decide) (fun hc => ?_) (fun hc => ?_)
      · refine x_aload_n hx hb dX4_stitch_45 rfl (lv_at hl 1 rfl) ?_
        refine kM_keeps E hU hS hA0 ⟨by decide, by decide⟩ hl.1 (Nat.le_of_ble_eq_true rfl) dX4_stitch_46 ⟨Nat.le_refl _, Nat.le_refl _⟩ (fun o5 H locs hU hS => ?_)
        refine x_aload_n hx hb dX4_stitch_49 rfl (lv_at hl 1 rfl) ?_
        refine gM_rows E hU dX4_stitch_50 ?_
        refine x_bipush (v := 25) hx hb dX4_stitch_53 (by decide) ?_
        refine x_iload_n hx hb dX4_stitch_55 rfl (lv_at hl 2 rfl) ?_
        refine x_iadd hx hb dX4_stitch_56 ?_
        refine x_iload_n hx hb dX4_stitch_57 rfl (lv_at hl 3 rfl) ?_
        refine ux_ast (i := 14) (n := 98) E hU hS (by decide) rfl dX4_stitch_58 (fun S6 H locs hU hS => ?_)
        refine x_iload_n hx hb dX4_stitch_59 rfl (lv_at hl 0 rfl) ?_
        exact x_iret hx hb hr hlk hS rfl (hU.to fun _ _ => trivial) dX4_stitch_60
      · refine x_aload_n hx hb dX4_stitch_39 rfl (lv_at hl 1 rfl) ?_
        refine x_iconst (v := 1) hx hb dX4_stitch_40 (by decide) ?_
        refine kM_refuses E hU hS hA0 ⟨by decide, by decide⟩ hl.1 (Nat.le_of_ble_eq_true rfl) dX4_stitch_41 ⟨Nat.le_refl _, Nat.le_refl _⟩ (fun o7 H locs hU hS => ?_)
        exact x_iret hx hb hr hlk hS rfl (hU.to fun _ _ => trivial) dX4_stitch_44
  · refine x_iconst (v := 0) hx hb dX4_stitch_13 (by decide) ?_
    exact x_iret hx hb hr hlk hS rfl (hU.to fun _ _ => trivial) dX4_stitch_14

set_option maxHeartbeats 4000000 in
theorem mM_thread (l : Launch) (D : va_G) (ct : CT) (ad : Nat → Nat) (S : US) (w : Int64) (p1 : Int32) (p2 : Int32) (sz : Nat) (o : (Int32 × US)) (ho : sM_thread S p1 p2 = some o) : Met l yX4_thread (ws_ yX4_thread cX4_thread 3 (some .int)) { frames := 3, cells := 0, slots := 0, locals := 75 } (mP D clW ct [.ref (ad (0)), .int p1, .int p2] sz (UM D ct ad (fun _ => True) S w)) (mC (some (.int o.1)) (UM D ct ad (fun _ => True) o.2 w) (uA 31 ad sz)) 0 0 (uA 31 ad sz) := by
  refine X.start (val := fun (o : (Int32 × US)) => some (.int o.1)) (Bt := fun (o : (Int32 × US)) => UM D ct ad (fun _ => True) o.2 w) (A := uA 31 ad sz) ho (by decide) (Nat.le_of_ble_eq_true rfl) rfl ?_
  intro p e s m args below meth c E hr hlk hnm hsz hU ls hl
  subst hsz
  obtain ⟨⟨hx, hb, hml, hown, hts⟩, hK, hJ⟩ := id E
  replace hU := hU.to (B := uA 31 ad s.heap.size) (fun i hi => Or.inl ⟨i, hi, rfl⟩)
  have hA0 : ∀ q, s.heap.size ≤ q → (uA 31 ad s.heap.size) q := fun q h => Or.inr h
  have hS : va_S (uA 31 ad s.heap.size) s.heap s.heap [] := va_S.rf
  unfold sM_thread
  refine x_aload_n hx hb dX4_thread_0 rfl (lv_at hl 0 rfl) ?_
  refine x_iconst (v := 0) hx hb dX4_thread_1 (by decide) ?_
  refine pM_thrown E hU hS dX4_thread_2 (fun S1 H locs hU hS => ?_)
  refine x_aload_n hx hb dX4_thread_5 rfl (lv_at hl 0 rfl) ?_
  refine x_iload_n hx hb dX4_thread_6 rfl (lv_at hl 1 rfl) ?_
  refine kM_isWoman E hU hS hA0 ⟨by decide, by decide⟩ hl.1 (Nat.le_of_ble_eq_true rfl) dX4_thread_7 ⟨Nat.le_refl _, Nat.le_refl _⟩ (fun o2 H locs hU hS => ?_)
  refine x_if_ne (tgt := 15) hx hb dX4_thread_10 (by decide) (fun hc => ?_) (fun hc => ?_)
  · refine x_iload_n hx hb dX4_thread_15 rfl (lv_at hl 2 rfl) ?_
    refine x_iconst (v := 1) hx hb dX4_thread_16 (by decide) ?_
    refine x_bipush (v := 50) hx hb dX4_thread_17 (by decide) ?_
    refine kM_within E hS hA0 ⟨by decide, by decide⟩ hl.1 (Nat.le_of_ble_eq_true rfl) dX4_thread_19 ⟨Nat.le_refl _, Nat.le_refl _⟩ (fun o3 H locs hk hS => ?_)
    replace hU := hU.kept (fun i hi => hk _ (hU.lt hi))
    refine x_if_ne (tgt := 31) hx hb dX4_thread_22 (by decide) (fun hc => ?_) (fun hc => ?_)
    · refine x_aload_n hx hb dX4_thread_31 rfl (lv_at hl 0 rfl) ?_
      refine kM_keeps E hU hS hA0 ⟨by decide, by decide⟩ hl.1 (Nat.le_of_ble_eq_true rfl) dX4_thread_32 ⟨Nat.le_refl _, Nat.le_refl _⟩ (fun o4 H locs hU hS => ?_)
      refine x_aload_n hx hb dX4_thread_35 rfl (lv_at hl 0 rfl) ?_
      refine gM_rows E hU dX4_thread_36 ?_
      refine x_bipush (v := 43) hx hb dX4_thread_39 (by decide) ?_
      refine x_iload_n hx hb dX4_thread_41 rfl (lv_at hl 1 rfl) ?_
      refine x_iadd hx hb dX4_thread_42 ?_
      refine x_bipush (v := 99) hx hb dX4_thread_43 (by decide) ?_
      refine x_aload_n hx hb dX4_thread_45 rfl (lv_at hl 0 rfl) ?_
      refine gM_rows E hU dX4_thread_46 ?_
      refine x_bipush (v := 43) hx hb dX4_thread_49 (by decide) ?_
      refine x_iload_n hx hb dX4_thread_51 rfl (lv_at hl 1 rfl) ?_
      refine x_iadd hx hb dX4_thread_52 ?_
      refine ux_ald (i := 14) (n := 98) E hU (by decide) rfl dX4_thread_53 ?_
      refine x_iload_n hx hb dX4_thread_54 rfl (lv_at hl 2 rfl) ?_
      refine x_iadd hx hb dX4_thread_55 ?_
      refine kM_lesser E hS hA0 ⟨by decide, by decide⟩ hl.1 (Nat.le_of_ble_eq_true rfl) dX4_thread_56 ⟨Nat.le_refl _, Nat.le_refl _⟩ (fun o5 H locs hk hS => ?_)
      replace hU := hU.kept (fun i hi => hk _ (hU.lt hi))
      refine ux_ast (i := 14) (n := 98) E hU hS (by decide) rfl dX4_thread_59 (fun S6 H locs hU hS => ?_)
      refine x_aload_n hx hb dX4_thread_60 rfl (lv_at hl 0 rfl) ?_
      refine gM_rows E hU dX4_thread_61 ?_
      refine x_bipush (v := 43) hx hb dX4_thread_64 (by decide) ?_
      refine x_iload_n hx hb dX4_thread_66 rfl (lv_at hl 1 rfl) ?_
      refine x_iadd hx hb dX4_thread_67 ?_
      refine ux_ald (i := 14) (n := 98) E hU (by decide) rfl dX4_thread_68 ?_
      exact x_iret hx hb hr hlk hS rfl (hU.to fun _ _ => trivial) dX4_thread_69
    · refine x_aload_n hx hb dX4_thread_25 rfl (lv_at hl 0 rfl) ?_
      refine x_iconst (v := 1) hx hb dX4_thread_26 (by decide) ?_
      refine kM_refuses E hU hS hA0 ⟨by decide, by decide⟩ hl.1 (Nat.le_of_ble_eq_true rfl) dX4_thread_27 ⟨Nat.le_refl _, Nat.le_refl _⟩ (fun o7 H locs hU hS => ?_)
      exact x_iret hx hb hr hlk hS rfl (hU.to fun _ _ => trivial) dX4_thread_30
  · refine x_iconst (v := 0) hx hb dX4_thread_13 (by decide) ?_
    exact x_iret hx hb hr hlk hS rfl (hU.to fun _ _ => trivial) dX4_thread_14

set_option maxHeartbeats 4000000 in
theorem mM_tear (l : Launch) (D : va_G) (ct : CT) (ad : Nat → Nat) (S : US) (w : Int64) (p1 : Int32) (p2 : Int32) (sz : Nat) (o : (Int32 × US)) (ho : sM_tear S p1 p2 = some o) : Met l yX4_tear (ws_ yX4_tear cX4_tear 3 (some .int)) { frames := 4, cells := 0, slots := 0, locals := 100 } (mP D clW ct [.ref (ad (0)), .int p1, .int p2] sz (UM D ct ad (fun _ => True) S w)) (mC (some (.int o.1)) (UM D ct ad (fun _ => True) o.2 w) (uA 31 ad sz)) 0 0 (uA 31 ad sz) := by
  refine X.start (val := fun (o : (Int32 × US)) => some (.int o.1)) (Bt := fun (o : (Int32 × US)) => UM D ct ad (fun _ => True) o.2 w) (A := uA 31 ad sz) ho (by decide) (Nat.le_of_ble_eq_true rfl) rfl ?_
  intro p e s m args below meth c E hr hlk hnm hsz hU ls hl
  subst hsz
  obtain ⟨⟨hx, hb, hml, hown, hts⟩, hK, hJ⟩ := id E
  replace hU := hU.to (B := uA 31 ad s.heap.size) (fun i hi => Or.inl ⟨i, hi, rfl⟩)
  have hA0 : ∀ q, s.heap.size ≤ q → (uA 31 ad s.heap.size) q := fun q h => Or.inr h
  have hS : va_S (uA 31 ad s.heap.size) s.heap s.heap [] := va_S.rf
  unfold sM_tear
  refine x_aload_n hx hb dX4_tear_0 rfl (lv_at hl 0 rfl) ?_
  refine x_iconst (v := 0) hx hb dX4_tear_1 (by decide) ?_
  refine pM_thrown E hU hS dX4_tear_2 (fun S1 H locs hU hS => ?_)
  refine x_aload_n hx hb dX4_tear_5 rfl (lv_at hl 0 rfl) ?_
  refine x_iload_n hx hb dX4_tear_6 rfl (lv_at hl 1 rfl) ?_
  refine kM_isStretch E hU hS hA0 ⟨by decide, by decide⟩ hl.1 (Nat.le_of_ble_eq_true rfl) dX4_tear_7 ⟨Nat.le_refl _, Nat.le_refl _⟩ (fun o2 H locs hU hS => ?_)
  refine x_if_ne (tgt := 15) hx hb dX4_tear_10 (by decide) (fun hc => ?_) (fun hc => ?_)
  · refine x_iload_n hx hb dX4_tear_15 rfl (lv_at hl 2 rfl) ?_
    refine x_iconst (v := 1) hx hb dX4_tear_16 (by decide) ?_
    refine x_bipush (v := 50) hx hb dX4_tear_17 (by decide) ?_
    refine kM_within E hS hA0 ⟨by decide, by decide⟩ hl.1 (Nat.le_of_ble_eq_true rfl) dX4_tear_19 ⟨Nat.le_refl _, Nat.le_refl _⟩ (fun o3 H locs hk hS => ?_)
    replace hU := hU.kept (fun i hi => hk _ (hU.lt hi))
    refine x_if_eq (tgt := 34) hx hb dX4_tear_22 (by decide) (fun hc => ?_) (fun hc => ?_)
    · refine x_aload_n hx hb dX4_tear_34 rfl (lv_at hl 0 rfl) ?_
      refine x_iconst (v := 1) hx hb dX4_tear_35 (by decide) ?_
      refine kM_refuses E hU hS hA0 ⟨by decide, by decide⟩ hl.1 (Nat.le_of_ble_eq_true rfl) dX4_tear_36 ⟨Nat.le_refl _, Nat.le_refl _⟩ (fun o4 H locs hU hS => ?_)
      exact x_iret hx hb hr hlk hS rfl (hU.to fun _ _ => trivial) dX4_tear_39
    · refine x_aload_n hx hb dX4_tear_25 rfl (lv_at hl 0 rfl) ?_
      refine x_iconst (v := 0) hx hb dX4_tear_26 (by decide) ?_
      refine x_iload_n hx hb dX4_tear_27 rfl (lv_at hl 1 rfl) ?_
      refine kM_isGap E hU hS hA0 ⟨by decide, by decide⟩ hl.1 (Nat.le_of_ble_eq_true rfl) dX4_tear_28 ⟨Nat.le_refl _, Nat.le_refl _⟩ (fun o5 H locs hU hS => ?_)
      refine x_if_eq (tgt := 40) hx hb dX4_tear_31 (by decide) (fun hc => ?_) (fun hc => ?_)
      · refine x_aload_n hx hb dX4_tear_40 rfl (lv_at hl 0 rfl) ?_
        refine kM_keeps E hU hS hA0 ⟨by decide, by decide⟩ hl.1 (Nat.le_of_ble_eq_true rfl) dX4_tear_41 ⟨Nat.le_refl _, Nat.le_refl _⟩ (fun o6 H locs hU hS => ?_)
        refine x_aload_n hx hb dX4_tear_44 rfl (lv_at hl 0 rfl) ?_
        refine x_iconst (v := 0) hx hb dX4_tear_45 (by decide) ?_
        refine x_iload_n hx hb dX4_tear_46 rfl (lv_at hl 1 rfl) ?_
        refine x_iload_n hx hb dX4_tear_47 rfl (lv_at hl 2 rfl) ?_
        refine kM_loosens E hU hS hA0 ⟨by decide, by decide⟩ hl.1 (Nat.le_of_ble_eq_true rfl) dX4_tear_48 ⟨Nat.le_refl _, Nat.le_refl _⟩ (fun o7 H locs hU hS => ?_)
        refine x_aload_n hx hb dX4_tear_51 rfl (lv_at hl 0 rfl) ?_
        refine gM_rows E hU dX4_tear_52 ?_
        refine x_bipush (v := 13) hx hb dX4_tear_55 (by decide) ?_
        refine x_iload_n hx hb dX4_tear_57 rfl (lv_at hl 1 rfl) ?_
        refine x_iadd hx hb dX4_tear_58 ?_
        refine ux_ald (i := 14) (n := 98) E hU (by decide) rfl dX4_tear_59 ?_
        exact x_iret hx hb hr hlk hS rfl (hU.to fun _ _ => trivial) dX4_tear_60
      · refine x_aload_n hx hb dX4_tear_34 rfl (lv_at hl 0 rfl) ?_
        refine x_iconst (v := 1) hx hb dX4_tear_35 (by decide) ?_
        refine kM_refuses E hU hS hA0 ⟨by decide, by decide⟩ hl.1 (Nat.le_of_ble_eq_true rfl) dX4_tear_36 ⟨Nat.le_refl _, Nat.le_refl _⟩ (fun o8 H locs hU hS => ?_)
        exact x_iret hx hb hr hlk hS rfl (hU.to fun _ _ => trivial) dX4_tear_39
  · refine x_iconst (v := 0) hx hb dX4_tear_13 (by decide) ?_
    exact x_iret hx hb hr hlk hS rfl (hU.to fun _ _ => trivial) dX4_tear_14

set_option maxHeartbeats 4000000 in
theorem mM_daysGo (l : Launch) (D : va_G) (ct : CT) (ad : Nat → Nat) (S : US) (w : Int64) (p1 : Int32) (sz : Nat) (o : US) (ho : sM_daysGo S p1 = some o) : Met l yX4_daysGo (ws_ yX4_daysGo cX4_daysGo 3 none) { frames := 6, cells := 0, slots := 0, locals := 145 } (mP D clW ct [.ref (ad (0)), .int p1] sz (UM D ct ad (fun _ => True) S w)) (mC (none) (UM D ct ad (fun _ => True) o w) (uA 31 ad sz)) 0 0 (uA 31 ad sz) := by
  refine X.start (val := fun (o : US) => none) (Bt := fun (o : US) => UM D ct ad (fun _ => True) o w) (A := uA 31 ad sz) ho (by decide) (Nat.le_of_ble_eq_true rfl) rfl ?_
  intro p e s m args below meth c E hr hlk hnm hsz hU ls hl
  subst hsz
  obtain ⟨⟨hx, hb, hml, hown, hts⟩, hK, hJ⟩ := id E
  replace hU := hU.to (B := uA 31 ad s.heap.size) (fun i hi => Or.inl ⟨i, hi, rfl⟩)
  have hA0 : ∀ q, s.heap.size ≤ q → (uA 31 ad s.heap.size) q := fun q h => Or.inr h
  have hS : va_S (uA 31 ad s.heap.size) s.heap s.heap [] := va_S.rf
  unfold sM_daysGo
  refine x_iconst (v := 0) hx hb dX4_daysGo_0 (by decide) ?_
  refine x_istore_n (lv' := [(2, .int (0 : Int32)), (0, .ref (ad (0))), (1, .int p1)]) hx hb dX4_daysGo_1 rfl hl (by decide) rfl (fun ls hl => ?_)
  refine X.loop (I := fun (x : (US × Int32)) g H locs => UM D ct ad (uA 31 ad s.heap.size) x.1 w H ∧ va_S (uA 31 ad s.heap.size) s.heap H locs ∧ ∃ ls : Array Slot, g = F0 m 2 ls [] ∧ lv_has ls 3 [(0, .ref (ad (0))), (1, .int p1), (2, .int x.2)]) (fun rc3 ih3 => ?_) FUEL _ _ _ _ ⟨hU, hS, _, rfl, lv_sub hl [1, 2, 0] rfl⟩
  rintro ⟨S1, v2⟩ _ H locs ⟨hU, hS, ls, rfl, hl⟩
  have hU : UM D ct ad (uA 31 ad s.heap.size) S1 w H := hU
  have hl : lv_has ls 3 [(0, .ref (ad (0))), (1, .int p1), (2, .int v2)] := hl
  refine X.eqs (sp2 := sM_daysGo_L2 p1 rc3 S1 v2) rfl ?_
  unfold sM_daysGo_L2
  refine x_iload_n hx hb dX4_daysGo_2 rfl (lv_at hl 2 rfl) ?_
  refine x_iload_n hx hb dX4_daysGo_3 rfl (lv_at hl 1 rfl) ?_
  refine x_icmp_ge (tgt := 19) hx hb dX4_daysGo_4 (by decide) (fun hc => ?_) (fun hc => ?_)
  · exact x_vret hx hb hr hlk hS rfl (hU.to fun _ _ => trivial) dX4_daysGo_19
  · refine x_aload_n hx hb dX4_daysGo_7 rfl (lv_at hl 0 rfl) ?_
    refine x_bipush (v := 49) hx hb dX4_daysGo_8 (by decide) ?_
    refine kM_dayGoes E hU hS hA0 ⟨by decide, by decide⟩ hl.1 (Nat.le_of_ble_eq_true rfl) dX4_daysGo_10 ⟨Nat.le_refl _, Nat.le_refl _⟩ (fun o4 H locs hU hS => ?_)
    refine x_iinc (v := (v2 + (1 : Int32))) (lv' := [(2, .int (v2 + (1 : Int32))), (0, .ref (ad (0))), (1, .int p1)]) (k := 2) hx hb dX4_daysGo_13 hl rfl rfl (by decide) rfl (fun ls hl => ?_)
    refine x_goto (tgt := 2) hx hb dX4_daysGo_16 (by decide) ?_
    exact ih3 (o4, (v2 + (1 : Int32))) _ _ _ ⟨hU, hS, _, rfl, lv_sub hl [1, 2, 0] rfl⟩
section MK
variable {ρ : Type} {p : Program} {l : Launch} {e : Env} {R : Room} {s : State} {m : MethodId} {args : Array Value} {below : List Frame} {meth : Method} {c : Code} {H : Heap} {locs : List Loc} {cells slots : Nat} {Qf : ρ → State → Prop}
variable {cc : ByteArray} {pc nL : Nat} {ls : Array Slot} {rest : List Value}
variable {D : va_G} {ct : CT} {ad : Nat → Nat} {A A0 : Nat → Prop} {S : US} {w : Int64} {H0 : Heap}
theorem kM_daysGo {p1 : Int32} (E : ME p m c cc nL s args RX4 D clW ct) (hU : UM D ct ad A S w H) (hS : va_S A H0 H locs) (hA0 : ∀ q, H0.size ≤ q → A q) (hR : 6 + 1 ≤ R.frames ∧ 8 + (3 + 11) + 145 ≤ R.locals) (hsize : ls.size = nL) (hW : (rest.map fun v => v.category).sum ≤ 8) (hdg : decode cc pc = .ok (.invokevirtual 393, 3)) (hf : cells ≤ R.cells ∧ slots ≤ R.slots) {kp : US → Option ρ} (kk : ∀ (o : US) (H1 : Heap) (locs1 : List Loc), UM D ct ad A o w H1 → va_S A H0 H1 locs1 → X p l e R s m args below meth c H1 locs1 cells slots Qf (kp o) (F0 m (pc + 3) ls (rest))) : X p l e R s m args below meth c H locs cells slots Qf (callK (sM_daysGo S p1) kp) (F0 m pc ls (.int p1 :: .ref (ad 0) :: rest)) := ucV_mod (i := 0) (So := fun (o : US) => o) (wo := fun (o : US) => w) (As := [.int p1]) E hU hS hA0 (by decide) rfl rfl (fun sz o ho => mM_daysGo l D ct ad S w p1 sz o ho) (cwV 1 E.1.2.2.2.2 (lw_V q2332 q2334 qs100 q119 q2335) rfl rfl rfl (by decide +kernel) hR) rfl hsize rfl hW hdg hf kk
end MK

set_option maxHeartbeats 4000000 in
theorem mM_tries (l : Launch) (D : va_G) (ct : CT) (ad : Nat → Nat) (S : US) (w : Int64) (sz : Nat) (o : US) (ho : sM_tries S = some o) : Met l yX4_tries (ws_ yX4_tries cX4_tries 2 none) { frames := 1, cells := 0, slots := 0, locals := 32 } (mP D clW ct [.ref (ad (0))] sz (UM D ct ad (fun _ => True) S w)) (mC (none) (UM D ct ad (fun _ => True) o w) (uA 31 ad sz)) 0 0 (uA 31 ad sz) := by
  refine X.start (val := fun (o : US) => none) (Bt := fun (o : US) => UM D ct ad (fun _ => True) o w) (A := uA 31 ad sz) ho (by decide) (Nat.le_of_ble_eq_true rfl) rfl ?_
  intro p e s m args below meth c E hr hlk hnm hsz hU ls hl
  subst hsz
  obtain ⟨⟨hx, hb, hml, hown, hts⟩, hK, hJ⟩ := id E
  replace hU := hU.to (B := uA 31 ad s.heap.size) (fun i hi => Or.inl ⟨i, hi, rfl⟩)
  have hA0 : ∀ q, s.heap.size ≤ q → (uA 31 ad s.heap.size) q := fun q h => Or.inr h
  have hS : va_S (uA 31 ad s.heap.size) s.heap s.heap [] := va_S.rf
  unfold sM_tries
  refine x_iconst (v := 0) hx hb dX4_tries_0 (by decide) ?_
  refine x_istore_n (lv' := [(1, .int (0 : Int32)), (0, .ref (ad (0)))]) hx hb dX4_tries_1 rfl hl (by decide) rfl (fun ls hl => ?_)
  refine X.loop (I := fun (x : (US × Int32)) g H locs => UM D ct ad (uA 31 ad s.heap.size) x.1 w H ∧ va_S (uA 31 ad s.heap.size) s.heap H locs ∧ ∃ ls : Array Slot, g = F0 m 2 ls [] ∧ lv_has ls 2 [(0, .ref (ad (0))), (1, .int x.2)]) (fun rc3 ih3 => ?_) FUEL _ _ _ _ ⟨hU, hS, _, rfl, lv_sub hl [1, 0] rfl⟩
  rintro ⟨S1, v2⟩ _ H locs ⟨hU, hS, ls, rfl, hl⟩
  have hU : UM D ct ad (uA 31 ad s.heap.size) S1 w H := hU
  have hl : lv_has ls 2 [(0, .ref (ad (0))), (1, .int v2)] := hl
  refine X.eqs (sp2 := sM_tries_L2 rc3 S1 v2) rfl ?_
  unfold sM_tries_L2
  refine x_iload_n hx hb dX4_tries_2 rfl (lv_at hl 1 rfl) ?_
  refine x_bipush (v := 49) hx hb dX4_tries_3 (by decide) ?_
  refine x_icmp_ge (tgt := 29) hx hb dX4_tries_5 (by decide) (fun hc => ?_) (fun hc => ?_)
  · exact x_vret hx hb hr hlk hS rfl (hU.to fun _ _ => trivial) dX4_tries_29
  · refine x_aload_n hx hb dX4_tries_8 rfl (lv_at hl 0 rfl) ?_
    refine gM_rows E hU dX4_tries_9 ?_
    refine x_bipush (v := 49) hx hb dX4_tries_12 (by decide) ?_
    refine x_iload_n hx hb dX4_tries_14 rfl (lv_at hl 1 rfl) ?_
    refine x_iadd hx hb dX4_tries_15 ?_
    refine x_aload_n hx hb dX4_tries_16 rfl (lv_at hl 0 rfl) ?_
    refine gM_rows E hU dX4_tries_17 ?_
    refine x_iload_n hx hb dX4_tries_20 rfl (lv_at hl 1 rfl) ?_
    refine ux_ald (i := 14) (n := 98) E hU (by decide) rfl dX4_tries_21 ?_
    refine ux_ast (i := 14) (n := 98) E hU hS (by decide) rfl dX4_tries_22 (fun S4 H locs hU hS => ?_)
    refine x_iinc (v := (v2 + (1 : Int32))) (lv' := [(1, .int (v2 + (1 : Int32))), (0, .ref (ad (0)))]) (k := 1) hx hb dX4_tries_23 hl rfl rfl (by decide) rfl (fun ls hl => ?_)
    refine x_goto (tgt := 2) hx hb dX4_tries_26 (by decide) ?_
    exact ih3 (S4, (v2 + (1 : Int32))) _ _ _ ⟨hU, hS, _, rfl, lv_sub hl [1, 0] rfl⟩
section MK
variable {ρ : Type} {p : Program} {l : Launch} {e : Env} {R : Room} {s : State} {m : MethodId} {args : Array Value} {below : List Frame} {meth : Method} {c : Code} {H : Heap} {locs : List Loc} {cells slots : Nat} {Qf : ρ → State → Prop}
variable {cc : ByteArray} {pc nL : Nat} {ls : Array Slot} {rest : List Value}
variable {D : va_G} {ct : CT} {ad : Nat → Nat} {A A0 : Nat → Prop} {S : US} {w : Int64} {H0 : Heap}
theorem kM_tries (E : ME p m c cc nL s args RX4 D clW ct) (hU : UM D ct ad A S w H) (hS : va_S A H0 H locs) (hA0 : ∀ q, H0.size ≤ q → A q) (hR : 1 + 1 ≤ R.frames ∧ 8 + (2 + 11) + 32 ≤ R.locals) (hsize : ls.size = nL) (hW : (rest.map fun v => v.category).sum ≤ 8) (hdg : decode cc pc = .ok (.invokevirtual 390, 3)) (hf : cells ≤ R.cells ∧ slots ≤ R.slots) {kp : US → Option ρ} (kk : ∀ (o : US) (H1 : Heap) (locs1 : List Loc), UM D ct ad A o w H1 → va_S A H0 H1 locs1 → X p l e R s m args below meth c H1 locs1 cells slots Qf (kp o) (F0 m (pc + 3) ls (rest))) : X p l e R s m args below meth c H locs cells slots Qf (callK (sM_tries S) kp) (F0 m pc ls (.ref (ad 0) :: rest)) := ucV_mod (i := 0) (So := fun (o : US) => o) (wo := fun (o : US) => w) (As := []) E hU hS hA0 (by decide) rfl rfl (fun sz o ho => mM_tries l D ct ad S w sz o ho) (cwV 0 E.1.2.2.2.2 (lw_V q2328 q2330 qs99 q119 q2331) rfl rfl rfl (by decide +kernel) hR) rfl hsize rfl hW hdg hf kk
end MK

set_option maxHeartbeats 4000000 in
theorem mM_goesTo (l : Launch) (D : va_G) (ct : CT) (ad : Nat → Nat) (S : US) (w : Int64) (p1 : Int32) (sz : Nat) (o : US) (ho : sM_goesTo S p1 = some o) : Met l yX4_goesTo (ws_ yX4_goesTo cX4_goesTo 2 none) { frames := 7, cells := 0, slots := 0, locals := 167 } (mP D clW ct [.ref (ad (0)), .int p1] sz (UM D ct ad (fun _ => True) S w)) (mC (none) (UM D ct ad (fun _ => True) o w) (uA 31 ad sz)) 0 0 (uA 31 ad sz) := by
  refine X.start (val := fun (o : US) => none) (Bt := fun (o : US) => UM D ct ad (fun _ => True) o w) (A := uA 31 ad sz) ho (by decide) (Nat.le_of_ble_eq_true rfl) rfl ?_
  intro p e s m args below meth c E hr hlk hnm hsz hU ls hl
  subst hsz
  obtain ⟨⟨hx, hb, hml, hown, hts⟩, hK, hJ⟩ := id E
  replace hU := hU.to (B := uA 31 ad s.heap.size) (fun i hi => Or.inl ⟨i, hi, rfl⟩)
  have hA0 : ∀ q, s.heap.size ≤ q → (uA 31 ad s.heap.size) q := fun q h => Or.inr h
  have hS : va_S (uA 31 ad s.heap.size) s.heap s.heap [] := va_S.rf
  unfold sM_goesTo
  refine x_aload_n hx hb dX4_goesTo_0 rfl (lv_at hl 0 rfl) ?_
  refine kM_tries E hU hS hA0 ⟨by decide, by decide⟩ hl.1 (Nat.le_of_ble_eq_true rfl) dX4_goesTo_1 ⟨Nat.le_refl _, Nat.le_refl _⟩ (fun o1 H locs hU hS => ?_)
  refine x_aload_n hx hb dX4_goesTo_4 rfl (lv_at hl 0 rfl) ?_
  refine x_iload_n hx hb dX4_goesTo_5 rfl (lv_at hl 1 rfl) ?_
  refine kM_daysGo E hU hS hA0 ⟨by decide, by decide⟩ hl.1 (Nat.le_of_ble_eq_true rfl) dX4_goesTo_6 ⟨Nat.le_refl _, Nat.le_refl _⟩ (fun o2 H locs hU hS => ?_)
  exact x_vret hx hb hr hlk hS rfl (hU.to fun _ _ => trivial) dX4_goesTo_9
section MK
variable {ρ : Type} {p : Program} {l : Launch} {e : Env} {R : Room} {s : State} {m : MethodId} {args : Array Value} {below : List Frame} {meth : Method} {c : Code} {H : Heap} {locs : List Loc} {cells slots : Nat} {Qf : ρ → State → Prop}
variable {cc : ByteArray} {pc nL : Nat} {ls : Array Slot} {rest : List Value}
variable {D : va_G} {ct : CT} {ad : Nat → Nat} {A A0 : Nat → Prop} {S : US} {w : Int64} {H0 : Heap}
theorem kM_goesTo {p1 : Int32} (E : ME p m c cc nL s args RX4 D clW ct) (hU : UM D ct ad A S w H) (hS : va_S A H0 H locs) (hA0 : ∀ q, H0.size ≤ q → A q) (hR : 7 + 1 ≤ R.frames ∧ 8 + (2 + 11) + 167 ≤ R.locals) (hsize : ls.size = nL) (hW : (rest.map fun v => v.category).sum ≤ 8) (hdg : decode cc pc = .ok (.invokevirtual 399, 3)) (hf : cells ≤ R.cells ∧ slots ≤ R.slots) {kp : US → Option ρ} (kk : ∀ (o : US) (H1 : Heap) (locs1 : List Loc), UM D ct ad A o w H1 → va_S A H0 H1 locs1 → X p l e R s m args below meth c H1 locs1 cells slots Qf (kp o) (F0 m (pc + 3) ls (rest))) : X p l e R s m args below meth c H locs cells slots Qf (callK (sM_goesTo S p1) kp) (F0 m pc ls (.int p1 :: .ref (ad 0) :: rest)) := ucV_mod (i := 0) (So := fun (o : US) => o) (wo := fun (o : US) => w) (As := [.int p1]) E hU hS hA0 (by decide) rfl rfl (fun sz o ho => mM_goesTo l D ct ad S w p1 sz o ho) (cwV 1 E.1.2.2.2.2 (lw_V q2324 q2326 qs98 q119 q2327) rfl rfl rfl (by decide +kernel) hR) rfl hsize rfl hW hdg hf kk
end MK

set_option maxHeartbeats 4000000 in
theorem mM_isDays (l : Launch) (D : va_G) (ct : CT) (ad : Nat → Nat) (S : US) (w : Int64) (p1 : Int32) (p2 : Int32) (p3 : Int32) (sz : Nat) (o : (Bool × US)) (ho : sM_isDays S p1 p2 p3 = some o) : Met l yX4_isDays (ws_ yX4_isDays cX4_isDays 4 (some .boolean)) { frames := 2, cells := 0, slots := 0, locals := 54 } (mP D clW ct [.ref (ad (0)), .int p1, .int p2, .int p3] sz (UM D ct ad (fun _ => True) S w)) (mC (some (.int (bI o.1))) (UM D ct ad (fun _ => True) o.2 w) (uA 31 ad sz)) 0 0 (uA 31 ad sz) := by
  refine X.start (val := fun (o : (Bool × US)) => some (.int (bI o.1))) (Bt := fun (o : (Bool × US)) => UM D ct ad (fun _ => True) o.2 w) (A := uA 31 ad sz) ho (by decide) (Nat.le_of_ble_eq_true rfl) rfl ?_
  intro p e s m args below meth c E hr hlk hnm hsz hU ls hl
  subst hsz
  obtain ⟨⟨hx, hb, hml, hown, hts⟩, hK, hJ⟩ := id E
  replace hU := hU.to (B := uA 31 ad s.heap.size) (fun i hi => Or.inl ⟨i, hi, rfl⟩)
  have hA0 : ∀ q, s.heap.size ≤ q → (uA 31 ad s.heap.size) q := fun q h => Or.inr h
  have hS : va_S (uA 31 ad s.heap.size) s.heap s.heap [] := va_S.rf
  unfold sM_isDays
  refine x_aload_n hx hb dX4_isDays_0 rfl (lv_at hl 0 rfl) ?_
  refine x_iload_n hx hb dX4_isDays_1 rfl (lv_at hl 1 rfl) ?_
  refine x_iload_n hx hb dX4_isDays_2 rfl (lv_at hl 2 rfl) ?_
  refine x_bipush (v := 60) hx hb dX4_isDays_3 (by decide) ?_
  refine kM_within E hS hA0 ⟨by decide, by decide⟩ hl.1 (Nat.le_of_ble_eq_true rfl) dX4_isDays_5 ⟨Nat.le_refl _, Nat.le_refl _⟩ (fun o1 H locs hk hS => ?_)
  replace hU := hU.kept (fun i hi => hk _ (hU.lt hi))
  refine x_iload_n hx hb dX4_isDays_8 rfl (lv_at hl 3 rfl) ?_
  refine kM_right E hU hS hA0 ⟨by decide, by decide⟩ hl.1 (Nat.le_of_ble_eq_true rfl) dX4_isDays_9 ⟨Nat.le_refl _, Nat.le_refl _⟩ (fun o2 H locs hU hS => ?_)
  exact x_zret hx hb hr hlk hS (bI_z _) rfl (hU.to fun _ _ => trivial) dX4_isDays_12
section MK
variable {ρ : Type} {p : Program} {l : Launch} {e : Env} {R : Room} {s : State} {m : MethodId} {args : Array Value} {below : List Frame} {meth : Method} {c : Code} {H : Heap} {locs : List Loc} {cells slots : Nat} {Qf : ρ → State → Prop}
variable {cc : ByteArray} {pc nL : Nat} {ls : Array Slot} {rest : List Value}
variable {D : va_G} {ct : CT} {ad : Nat → Nat} {A A0 : Nat → Prop} {S : US} {w : Int64} {H0 : Heap}
theorem kM_isDays {p1 : Int32} {p2 : Int32} {p3 : Int32} (E : ME p m c cc nL s args RX4 D clW ct) (hU : UM D ct ad A S w H) (hS : va_S A H0 H locs) (hA0 : ∀ q, H0.size ≤ q → A q) (hR : 2 + 1 ≤ R.frames ∧ 8 + (4 + 11) + 54 ≤ R.locals) (hsize : ls.size = nL) (hW : (rest.map fun v => v.category).sum ≤ 8) (hdg : decode cc pc = .ok (.invokevirtual 396, 3)) (hf : cells ≤ R.cells ∧ slots ≤ R.slots) {kp : (Bool × US) → Option ρ} (kk : ∀ (o : (Bool × US)) (H1 : Heap) (locs1 : List Loc), UM D ct ad A o.2 w H1 → va_S A H0 H1 locs1 → X p l e R s m args below meth c H1 locs1 cells slots Qf (kp o) (F0 m (pc + 3) ls (.int (bI o.1) :: rest))) : X p l e R s m args below meth c H locs cells slots Qf (callK (sM_isDays S p1 p2 p3) kp) (F0 m pc ls (.int p3 :: .int p2 :: .int p1 :: .ref (ad 0) :: rest)) := ucV_mod (i := 0) (So := fun (o : (Bool × US)) => o.2) (wo := fun (o : (Bool × US)) => w) (As := [.int p1, .int p2, .int p3]) E hU hS hA0 (by decide) rfl rfl (fun sz o ho => mM_isDays l D ct ad S w p1 p2 p3 sz o ho) (cwV 3 E.1.2.2.2.2 (lw_V q2320 q2322 qs97 q119 q2323) rfl rfl rfl (by decide +kernel) hR) rfl hsize rfl hW hdg hf kk
end MK

set_option maxHeartbeats 4000000 in
theorem mM_then (l : Launch) (D : va_G) (ct : CT) (ad : Nat → Nat) (S : US) (w : Int64) (p1 : Int32) (p2 : Int32) (p3 : Int32) (sz : Nat) (o : (Int32 × US)) (ho : sM_then S p1 p2 p3 = some o) : Met l yX4_then (ws_ yX4_then cX4_then 4 (some .int)) { frames := 8, cells := 0, slots := 0, locals := 188 } (mP D clW ct [.ref (ad (0)), .int p1, .int p2, .int p3] sz (UM D ct ad (fun _ => True) S w)) (mC (some (.int o.1)) (UM D ct ad (fun _ => True) o.2 w) (uA 31 ad sz)) 0 0 (uA 31 ad sz) := by
  refine X.start (val := fun (o : (Int32 × US)) => some (.int o.1)) (Bt := fun (o : (Int32 × US)) => UM D ct ad (fun _ => True) o.2 w) (A := uA 31 ad sz) ho (by decide) (Nat.le_of_ble_eq_true rfl) rfl ?_
  intro p e s m args below meth c E hr hlk hnm hsz hU ls hl
  subst hsz
  obtain ⟨⟨hx, hb, hml, hown, hts⟩, hK, hJ⟩ := id E
  replace hU := hU.to (B := uA 31 ad s.heap.size) (fun i hi => Or.inl ⟨i, hi, rfl⟩)
  have hA0 : ∀ q, s.heap.size ≤ q → (uA 31 ad s.heap.size) q := fun q h => Or.inr h
  have hS : va_S (uA 31 ad s.heap.size) s.heap s.heap [] := va_S.rf
  unfold sM_then
  refine x_aload_n hx hb dX4_then_0 rfl (lv_at hl 0 rfl) ?_
  refine x_iconst (v := 0) hx hb dX4_then_1 (by decide) ?_
  refine pM_thrown E hU hS dX4_then_2 (fun S1 H locs hU hS => ?_)
  refine x_aload_n hx hb dX4_then_5 rfl (lv_at hl 0 rfl) ?_
  refine x_iload_n hx hb dX4_then_6 rfl (lv_at hl 1 rfl) ?_
  refine kM_isStretch E hU hS hA0 ⟨by decide, by decide⟩ hl.1 (Nat.le_of_ble_eq_true rfl) dX4_then_7 ⟨Nat.le_refl _, Nat.le_refl _⟩ (fun o2 H locs hU hS => ?_)
  refine x_if_eq (tgt := 32) hx hb dX4_then_10 (by decide) (fun hc => ?_) (fun hc => ?_)
  · refine x_iconst (v := 0) hx hb dX4_then_32 (by decide) ?_
    exact x_iret hx hb hr hlk hS rfl (hU.to fun _ _ => trivial) dX4_then_33
  · refine x_aload_n hx hb dX4_then_13 rfl (lv_at hl 0 rfl) ?_
    refine x_iload_n hx hb dX4_then_14 rfl (lv_at hl 3 rfl) ?_
    refine x_iconst (v := 1) hx hb dX4_then_15 (by decide) ?_
    refine kM_isWhat E hU hS hA0 ⟨by decide, by decide⟩ hl.1 (Nat.le_of_ble_eq_true rfl) dX4_then_16 ⟨Nat.le_refl _, Nat.le_refl _⟩ (fun o3 H locs hU hS => ?_)
    refine x_if_eq (tgt := 32) hx hb dX4_then_19 (by decide) (fun hc => ?_) (fun hc => ?_)
    · refine x_iconst (v := 0) hx hb dX4_then_32 (by decide) ?_
      exact x_iret hx hb hr hlk hS rfl (hU.to fun _ _ => trivial) dX4_then_33
    · refine x_aload_n hx hb dX4_then_22 rfl (lv_at hl 0 rfl) ?_
      refine x_iload_n hx hb dX4_then_23 rfl (lv_at hl 2 rfl) ?_
      refine x_iconst (v := 0) hx hb dX4_then_24 (by decide) ?_
      refine x_iconst (v := 2) hx hb dX4_then_25 (by decide) ?_
      refine kM_isDays E hU hS hA0 ⟨by decide, by decide⟩ hl.1 (Nat.le_of_ble_eq_true rfl) dX4_then_26 ⟨Nat.le_refl _, Nat.le_refl _⟩ (fun o4 H locs hU hS => ?_)
      refine x_if_ne (tgt := 34) hx hb dX4_then_29 (by decide) (fun hc => ?_) (fun hc => ?_)
      · refine x_aload_n hx hb dX4_then_34 rfl (lv_at hl 0 rfl) ?_
        refine x_iload_n hx hb dX4_then_35 rfl (lv_at hl 2 rfl) ?_
        refine kM_goesTo E hU hS hA0 ⟨by decide, by decide⟩ hl.1 (Nat.le_of_ble_eq_true rfl) dX4_then_36 ⟨Nat.le_refl _, Nat.le_refl _⟩ (fun o5 H locs hU hS => ?_)
        refine x_aload_n hx hb dX4_then_39 rfl (lv_at hl 0 rfl) ?_
        refine gM_rows E hU dX4_then_40 ?_
        refine x_bipush (v := 49) hx hb dX4_then_43 (by decide) ?_
        refine x_iload_n hx hb dX4_then_45 rfl (lv_at hl 3 rfl) ?_
        refine x_if_ne (tgt := 53) hx hb dX4_then_46 (by decide) (fun hc => ?_) (fun hc => ?_)
        · refine x_bipush (v := 13) hx hb dX4_then_53 (by decide) ?_
          refine x_iadd hx hb dX4_then_55 ?_
          refine x_iload_n hx hb dX4_then_56 rfl (lv_at hl 1 rfl) ?_
          refine x_iadd hx hb dX4_then_57 ?_
          refine ux_ald (i := 14) (n := 98) E hU (by decide) rfl dX4_then_58 ?_
          exact x_iret hx hb hr hlk hS rfl (hU.to fun _ _ => trivial) dX4_then_59
        · refine x_iconst (v := 1) hx hb dX4_then_49 (by decide) ?_
          refine x_goto (tgt := 55) hx hb dX4_then_50 (by decide) ?_
          refine x_iadd hx hb dX4_then_55 ?_
          refine x_iload_n hx hb dX4_then_56 rfl (lv_at hl 1 rfl) ?_
          refine x_iadd hx hb dX4_then_57 ?_
          refine ux_ald (i := 14) (n := 98) E hU (by decide) rfl dX4_then_58 ?_
          exact x_iret hx hb hr hlk hS rfl (hU.to fun _ _ => trivial) dX4_then_59
      · refine x_iconst (v := 0) hx hb dX4_then_32 (by decide) ?_
        exact x_iret hx hb hr hlk hS rfl (hU.to fun _ _ => trivial) dX4_then_33

set_option maxHeartbeats 4000000 in
theorem mM_extreme (l : Launch) (D : va_G) (ct : CT) (ad : Nat → Nat) (S : US) (w : Int64) (p1 : Int32) (p2 : Int32) (sz : Nat) (o : Int32) (ho : sM_extreme S p1 p2 = some o) : Met l yX4_extreme (ws_ yX4_extreme cX4_extreme 5 (some .int)) { frames := 1, cells := 0, slots := 0, locals := 32 } (mP D clW ct [.ref (ad (0)), .int p1, .int p2] sz (UM D ct ad (fun _ => True) S w)) (mC (some (.int o)) (fun _ => True) (nA sz)) 0 0 (nA sz) := by
  refine X.start (val := fun (o : Int32) => some (.int o)) (Bt := fun _ _ => True) (A := nA sz) ho (by decide) (Nat.le_of_ble_eq_true rfl) rfl ?_
  intro p e s m args below meth c E hr hlk hnm hsz hU ls hl
  subst hsz
  obtain ⟨⟨hx, hb, hml, hown, hts⟩, hK, hJ⟩ := id E
  have hA0 : ∀ q, s.heap.size ≤ q → (nA s.heap.size) q := fun q h => h
  have hS : va_S (nA s.heap.size) s.heap s.heap [] := va_S.rf
  unfold sM_extreme
  refine x_iconst (v := 0) hx hb dX4_extreme_0 (by decide) ?_
  refine x_istore_n (lv' := [(3, .int (0 : Int32)), (0, .ref (ad (0))), (1, .int p1), (2, .int p2)]) hx hb dX4_extreme_1 rfl hl (by decide) rfl (fun ls hl => ?_)
  refine x_iconst (v := 1) hx hb dX4_extreme_2 (by decide) ?_
  refine x_istore (lv' := [(4, .int (1 : Int32)), (3, .int (0 : Int32)), (0, .ref (ad (0))), (1, .int p1), (2, .int p2)]) hx hb dX4_extreme_3 hl (by decide) rfl (fun ls hl => ?_)
  refine X.loop (I := fun (x : (Int32 × Int32)) g H locs => UM D ct ad (fun _ => True) S w H ∧ va_S (nA s.heap.size) s.heap H locs ∧ ∃ ls : Array Slot, g = F0 m 5 ls [] ∧ lv_has ls 5 [(0, .ref (ad (0))), (1, .int p1), (2, .int p2), (3, .int x.1), (4, .int x.2)]) (fun rc3 ih3 => ?_) FUEL _ _ _ _ ⟨hU, hS, _, rfl, lv_sub hl [2, 3, 4, 1, 0] rfl⟩
  rintro ⟨v1, v2⟩ _ H locs ⟨hU, hS, ls, rfl, hl⟩
  have hU : UM D ct ad (fun _ => True) S w H := hU
  have hl : lv_has ls 5 [(0, .ref (ad (0))), (1, .int p1), (2, .int p2), (3, .int v1), (4, .int v2)] := hl
  refine X.eqs (sp2 := sM_extreme_L5 p1 p2 S rc3 v1 v2) rfl ?_
  unfold sM_extreme_L5
  refine x_iload hx hb dX4_extreme_5 (lv_at hl 4 rfl) ?_
  refine x_aload_n hx hb dX4_extreme_7 rfl (lv_at hl 0 rfl) ?_
  refine gM_many E hU dX4_extreme_8 ?_
  refine x_icmp_ge (tgt := 78) hx hb dX4_extreme_11 (by decide) (fun hc => ?_) (fun hc => ?_)
  · refine x_iload_n hx hb dX4_extreme_78 rfl (lv_at hl 3 rfl) ?_
    exact x_iret hx hb hr hlk hS rfl trivial dX4_extreme_79
  · refine x_iload_n hx hb dX4_extreme_14 rfl (lv_at hl 2 rfl) ?_
    refine x_if_eq (tgt := 45) hx hb dX4_extreme_15 (by decide) (fun hc => ?_) (fun hc => ?_)
    · refine x_aload_n hx hb dX4_extreme_45 rfl (lv_at hl 0 rfl) ?_
      refine gM_rows E hU dX4_extreme_46 ?_
      refine x_iload_n hx hb dX4_extreme_49 rfl (lv_at hl 1 rfl) ?_
      refine x_iconst (v := 1) hx hb dX4_extreme_50 (by decide) ?_
      refine x_iadd hx hb dX4_extreme_51 ?_
      refine x_iload hx hb dX4_extreme_52 (lv_at hl 4 rfl) ?_
      refine x_iadd hx hb dX4_extreme_54 ?_
      refine ux_ald (i := 14) (n := 98) E hU (by decide) rfl dX4_extreme_55 ?_
      refine x_aload_n hx hb dX4_extreme_56 rfl (lv_at hl 0 rfl) ?_
      refine gM_rows E hU dX4_extreme_57 ?_
      refine x_iload_n hx hb dX4_extreme_60 rfl (lv_at hl 1 rfl) ?_
      refine x_iconst (v := 1) hx hb dX4_extreme_61 (by decide) ?_
      refine x_iadd hx hb dX4_extreme_62 ?_
      refine x_iload_n hx hb dX4_extreme_63 rfl (lv_at hl 3 rfl) ?_
      refine x_iadd hx hb dX4_extreme_64 ?_
      refine ux_ald (i := 14) (n := 98) E hU (by decide) rfl dX4_extreme_65 ?_
      refine x_icmp_ge (tgt := 72) hx hb dX4_extreme_66 (by decide) (fun hc => ?_) (fun hc => ?_)
      · refine x_iinc (v := (v2 + (1 : Int32))) (lv' := [(4, .int (v2 + (1 : Int32))), (0, .ref (ad (0))), (1, .int p1), (2, .int p2), (3, .int v1)]) (k := 4) hx hb dX4_extreme_72 hl rfl rfl (by decide) rfl (fun ls hl => ?_)
        refine x_goto (tgt := 5) hx hb dX4_extreme_75 (by decide) ?_
        exact ih3 (v1, (v2 + (1 : Int32))) _ _ _ ⟨hU, hS, _, rfl, lv_sub hl [1, 2, 3, 4, 0] rfl⟩
      · refine x_iload hx hb dX4_extreme_69 (lv_at hl 4 rfl) ?_
        refine x_istore_n (lv' := [(3, .int v2), (0, .ref (ad (0))), (1, .int p1), (2, .int p2), (4, .int v2)]) hx hb dX4_extreme_71 rfl hl (by decide) rfl (fun ls hl => ?_)
        refine x_iinc (v := (v2 + (1 : Int32))) (lv' := [(4, .int (v2 + (1 : Int32))), (3, .int v2), (0, .ref (ad (0))), (1, .int p1), (2, .int p2)]) (k := 4) hx hb dX4_extreme_72 hl rfl rfl (by decide) rfl (fun ls hl => ?_)
        refine x_goto (tgt := 5) hx hb dX4_extreme_75 (by decide) ?_
        exact ih3 (v2, (v2 + (1 : Int32))) _ _ _ ⟨hU, hS, _, rfl, lv_sub hl [2, 3, 4, 1, 0] rfl⟩
    · refine x_aload_n hx hb dX4_extreme_18 rfl (lv_at hl 0 rfl) ?_
      refine gM_rows E hU dX4_extreme_19 ?_
      refine x_iload_n hx hb dX4_extreme_22 rfl (lv_at hl 1 rfl) ?_
      refine x_iconst (v := 1) hx hb dX4_extreme_23 (by decide) ?_
      refine x_iadd hx hb dX4_extreme_24 ?_
      refine x_iload hx hb dX4_extreme_25 (lv_at hl 4 rfl) ?_
      refine x_iadd hx hb dX4_extreme_27 ?_
      refine ux_ald (i := 14) (n := 98) E hU (by decide) rfl dX4_extreme_28 ?_
      refine x_aload_n hx hb dX4_extreme_29 rfl (lv_at hl 0 rfl) ?_
      refine gM_rows E hU dX4_extreme_30 ?_
      refine x_iload_n hx hb dX4_extreme_33 rfl (lv_at hl 1 rfl) ?_
      refine x_iconst (v := 1) hx hb dX4_extreme_34 (by decide) ?_
      refine x_iadd hx hb dX4_extreme_35 ?_
      refine x_iload_n hx hb dX4_extreme_36 rfl (lv_at hl 3 rfl) ?_
      refine x_iadd hx hb dX4_extreme_37 ?_
      refine ux_ald (i := 14) (n := 98) E hU (by decide) rfl dX4_extreme_38 ?_
      refine x_icmp_le (tgt := 72) hx hb dX4_extreme_39 (by decide) (fun hc => ?_) (fun hc => ?_)
      · refine x_iinc (v := (v2 + (1 : Int32))) (lv' := [(4, .int (v2 + (1 : Int32))), (0, .ref (ad (0))), (1, .int p1), (2, .int p2), (3, .int v1)]) (k := 4) hx hb dX4_extreme_72 hl rfl rfl (by decide) rfl (fun ls hl => ?_)
        refine x_goto (tgt := 5) hx hb dX4_extreme_75 (by decide) ?_
        exact ih3 (v1, (v2 + (1 : Int32))) _ _ _ ⟨hU, hS, _, rfl, lv_sub hl [1, 2, 3, 4, 0] rfl⟩
      · refine x_goto (tgt := 69) hx hb dX4_extreme_42 (by decide) ?_
        refine x_iload hx hb dX4_extreme_69 (lv_at hl 4 rfl) ?_
        refine x_istore_n (lv' := [(3, .int v2), (0, .ref (ad (0))), (1, .int p1), (2, .int p2), (4, .int v2)]) hx hb dX4_extreme_71 rfl hl (by decide) rfl (fun ls hl => ?_)
        refine x_iinc (v := (v2 + (1 : Int32))) (lv' := [(4, .int (v2 + (1 : Int32))), (3, .int v2), (0, .ref (ad (0))), (1, .int p1), (2, .int p2)]) (k := 4) hx hb dX4_extreme_72 hl rfl rfl (by decide) rfl (fun ls hl => ?_)
        refine x_goto (tgt := 5) hx hb dX4_extreme_75 (by decide) ?_
        exact ih3 (v2, (v2 + (1 : Int32))) _ _ _ ⟨hU, hS, _, rfl, lv_sub hl [2, 3, 4, 1, 0] rfl⟩
section MK
variable {ρ : Type} {p : Program} {l : Launch} {e : Env} {R : Room} {s : State} {m : MethodId} {args : Array Value} {below : List Frame} {meth : Method} {c : Code} {H : Heap} {locs : List Loc} {cells slots : Nat} {Qf : ρ → State → Prop}
variable {cc : ByteArray} {pc nL : Nat} {ls : Array Slot} {rest : List Value}
variable {D : va_G} {ct : CT} {ad : Nat → Nat} {A A0 : Nat → Prop} {S : US} {w : Int64} {H0 : Heap}
theorem kM_extreme {p1 : Int32} {p2 : Int32} (E : ME p m c cc nL s args RX4 D clW ct) (hU : UM D ct ad A S w H) (hS : va_S A0 H0 H locs) (hA0 : ∀ q, H0.size ≤ q → A0 q) (hR : 1 + 1 ≤ R.frames ∧ 8 + (5 + 11) + 32 ≤ R.locals) (hsize : ls.size = nL) (hW : (rest.map fun v => v.category).sum ≤ 8) (hdg : decode cc pc = .ok (.invokevirtual 402, 3)) (hf : cells ≤ R.cells ∧ slots ≤ R.slots) {kp : Int32 → Option ρ} (kk : ∀ (o : Int32) (H1 : Heap) (locs1 : List Loc), UM D ct ad A S w H1 → va_S A0 H0 H1 locs1 → X p l e R s m args below meth c H1 locs1 cells slots Qf (kp o) (F0 m (pc + 3) ls (.int o :: rest))) : X p l e R s m args below meth c H locs cells slots Qf (callK (sM_extreme S p1 p2) kp) (F0 m pc ls (.int p2 :: .int p1 :: .ref (ad 0) :: rest)) := ucV_pure (i := 0) (As := [.int p1, .int p2]) E hU hS hA0 (by decide) rfl rfl (fun sz o ho => mM_extreme l D ct ad S w p1 p2 sz o ho) (cwV 2 E.1.2.2.2.2 (lw_V q2340 q2342 qs101 q119 q2343) rfl rfl rfl (by decide +kernel) hR) rfl hsize rfl hW hdg hf kk
end MK

set_option maxHeartbeats 4000000 in
theorem mM_later (l : Launch) (D : va_G) (ct : CT) (ad : Nat → Nat) (S : US) (w : Int64) (p1 : Int32) (p2 : Int32) (sz : Nat) (o : (Int32 × US)) (ho : sM_later S p1 p2 = some o) : Met l yX4_later (ws_ yX4_later cX4_later 3 (some .int)) { frames := 8, cells := 0, slots := 0, locals := 188 } (mP D clW ct [.ref (ad (0)), .int p1, .int p2] sz (UM D ct ad (fun _ => True) S w)) (mC (some (.int o.1)) (UM D ct ad (fun _ => True) o.2 w) (uA 31 ad sz)) 0 0 (uA 31 ad sz) := by
  refine X.start (val := fun (o : (Int32 × US)) => some (.int o.1)) (Bt := fun (o : (Int32 × US)) => UM D ct ad (fun _ => True) o.2 w) (A := uA 31 ad sz) ho (by decide) (Nat.le_of_ble_eq_true rfl) rfl ?_
  intro p e s m args below meth c E hr hlk hnm hsz hU ls hl
  subst hsz
  obtain ⟨⟨hx, hb, hml, hown, hts⟩, hK, hJ⟩ := id E
  replace hU := hU.to (B := uA 31 ad s.heap.size) (fun i hi => Or.inl ⟨i, hi, rfl⟩)
  have hA0 : ∀ q, s.heap.size ≤ q → (uA 31 ad s.heap.size) q := fun q h => Or.inr h
  have hS : va_S (uA 31 ad s.heap.size) s.heap s.heap [] := va_S.rf
  unfold sM_later
  refine x_aload_n hx hb dX4_later_0 rfl (lv_at hl 0 rfl) ?_
  refine x_iconst (v := 0) hx hb dX4_later_1 (by decide) ?_
  refine pM_thrown E hU hS dX4_later_2 (fun S1 H locs hU hS => ?_)
  refine x_aload_n hx hb dX4_later_5 rfl (lv_at hl 0 rfl) ?_
  refine x_iload_n hx hb dX4_later_6 rfl (lv_at hl 2 rfl) ?_
  refine x_iconst (v := 3) hx hb dX4_later_7 (by decide) ?_
  refine kM_isWhat E hU hS hA0 ⟨by decide, by decide⟩ hl.1 (Nat.le_of_ble_eq_true rfl) dX4_later_8 ⟨Nat.le_refl _, Nat.le_refl _⟩ (fun o2 H locs hU hS => ?_)
  refine x_if_eq (tgt := 24) hx hb dX4_later_11 (by decide) (fun hc => ?_) (fun hc => ?_)
  · refine x_iconst (v := 0) hx hb dX4_later_24 (by decide) ?_
    exact x_iret hx hb hr hlk hS rfl (hU.to fun _ _ => trivial) dX4_later_25
  · refine x_aload_n hx hb dX4_later_14 rfl (lv_at hl 0 rfl) ?_
    refine x_iload_n hx hb dX4_later_15 rfl (lv_at hl 1 rfl) ?_
    refine x_iconst (v := 0) hx hb dX4_later_16 (by decide) ?_
    refine x_iconst (v := 2) hx hb dX4_later_17 (by decide) ?_
    refine kM_isDays E hU hS hA0 ⟨by decide, by decide⟩ hl.1 (Nat.le_of_ble_eq_true rfl) dX4_later_18 ⟨Nat.le_refl _, Nat.le_refl _⟩ (fun o3 H locs hU hS => ?_)
    refine x_if_ne (tgt := 26) hx hb dX4_later_21 (by decide) (fun hc => ?_) (fun hc => ?_)
    · refine x_aload_n hx hb dX4_later_26 rfl (lv_at hl 0 rfl) ?_
      refine x_iload_n hx hb dX4_later_27 rfl (lv_at hl 1 rfl) ?_
      refine kM_goesTo E hU hS hA0 ⟨by decide, by decide⟩ hl.1 (Nat.le_of_ble_eq_true rfl) dX4_later_28 ⟨Nat.le_refl _, Nat.le_refl _⟩ (fun o4 H locs hU hS => ?_)
      refine x_iload_n hx hb dX4_later_31 rfl (lv_at hl 2 rfl) ?_
      refine X.ite (fun hc => ?_) (fun hc0 => ?_)
      · refine x_tabEq (tgt := 60) hx hb hc dX4_later_32 (by decide) (by decide) rfl (by decide) ?_
        refine x_aload_n hx hb dX4_later_60 rfl (lv_at hl 0 rfl) ?_
        refine x_bipush (v := 49) hx hb dX4_later_61 (by decide) ?_
        refine kM_openOnes E hU hS hA0 ⟨by decide, by decide⟩ hl.1 (Nat.le_of_ble_eq_true rfl) dX4_later_63 ⟨Nat.le_refl _, Nat.le_refl _⟩ (fun o5 H locs hU hS => ?_)
        exact x_iret hx hb hr hlk hS rfl (hU.to fun _ _ => trivial) dX4_later_66
      refine X.ite (fun hc => ?_) (fun hc1 => ?_)
      · refine x_tabEq (tgt := 67) hx hb hc dX4_later_32 (by decide) (by decide) rfl (by decide) ?_
        refine x_aload_n hx hb dX4_later_67 rfl (lv_at hl 0 rfl) ?_
        refine x_bipush (v := 49) hx hb dX4_later_68 (by decide) ?_
        refine x_iconst (v := 1) hx hb dX4_later_70 (by decide) ?_
        refine kM_extreme E hU hS hA0 ⟨by decide, by decide⟩ hl.1 (Nat.le_of_ble_eq_true rfl) dX4_later_71 ⟨Nat.le_refl _, Nat.le_refl _⟩ (fun o6 H locs hU hS => ?_)
        exact x_iret hx hb hr hlk hS rfl (hU.to fun _ _ => trivial) dX4_later_74
      refine X.ite (fun hc => ?_) (fun hc2 => ?_)
      · refine x_tabEq (tgt := 75) hx hb hc dX4_later_32 (by decide) (by decide) rfl (by decide) ?_
        refine x_aload_n hx hb dX4_later_75 rfl (lv_at hl 0 rfl) ?_
        refine gM_rows E hU dX4_later_76 ?_
        refine x_bipush (v := 50) hx hb dX4_later_79 (by decide) ?_
        refine x_aload_n hx hb dX4_later_81 rfl (lv_at hl 0 rfl) ?_
        refine x_bipush (v := 49) hx hb dX4_later_82 (by decide) ?_
        refine x_iconst (v := 1) hx hb dX4_later_84 (by decide) ?_
        refine kM_extreme E hU hS hA0 ⟨by decide, by decide⟩ hl.1 (Nat.le_of_ble_eq_true rfl) dX4_later_85 ⟨Nat.le_refl _, Nat.le_refl _⟩ (fun o7 H locs hU hS => ?_)
        refine x_iadd hx hb dX4_later_88 ?_
        refine ux_ald (i := 14) (n := 98) E hU (by decide) rfl dX4_later_89 ?_
        refine x_aload_n hx hb dX4_later_90 rfl (lv_at hl 0 rfl) ?_
        refine gM_rows E hU dX4_later_91 ?_
        refine x_bipush (v := 50) hx hb dX4_later_94 (by decide) ?_
        refine x_aload_n hx hb dX4_later_96 rfl (lv_at hl 0 rfl) ?_
        refine x_bipush (v := 49) hx hb dX4_later_97 (by decide) ?_
        refine x_iconst (v := 0) hx hb dX4_later_99 (by decide) ?_
        refine kM_extreme E hU hS hA0 ⟨by decide, by decide⟩ hl.1 (Nat.le_of_ble_eq_true rfl) dX4_later_100 ⟨Nat.le_refl _, Nat.le_refl _⟩ (fun o8 H locs hU hS => ?_)
        refine x_iadd hx hb dX4_later_103 ?_
        refine ux_ald (i := 14) (n := 98) E hU (by decide) rfl dX4_later_104 ?_
        refine x_isub hx hb dX4_later_105 ?_
        exact x_iret hx hb hr hlk hS rfl (hU.to fun _ _ => trivial) dX4_later_106
      refine x_tabElse2 (n := 3) (tgt := 107) hx hb dX4_later_32 [0, 1, 2] (by decide) (by decide) (List.forall_mem_cons.mpr ⟨fun he => absurd (x_i32 he (0 : Int32) (by decide)) hc0, (List.forall_mem_cons.mpr ⟨fun he => absurd (x_i32 he (1 : Int32) (by decide)) hc1, (List.forall_mem_cons.mpr ⟨fun he => absurd (x_i32 he (2 : Int32) (by decide)) hc2, (fun _ h => absurd h List.not_mem_nil)⟩)⟩)⟩) (by decide) ?_
      refine x_aload_n hx hb dX4_later_107 rfl (lv_at hl 0 rfl) ?_
      refine x_iconst (v := 0) hx hb dX4_later_108 (by decide) ?_
      refine x_bipush (v := 43) hx hb dX4_later_109 (by decide) ?_
      refine x_aload_n hx hb dX4_later_111 rfl (lv_at hl 0 rfl) ?_
      refine gM_women E hU dX4_later_112 ?_
      refine kM_sumOf E hU hS hA0 ⟨by decide, by decide⟩ hl.1 (Nat.le_of_ble_eq_true rfl) dX4_later_115 ⟨Nat.le_refl _, Nat.le_refl _⟩ (fun o9 H locs hU hS => ?_)
      refine x_aload_n hx hb dX4_later_118 rfl (lv_at hl 0 rfl) ?_
      refine x_bipush (v := 49) hx hb dX4_later_119 (by decide) ?_
      refine x_bipush (v := 43) hx hb dX4_later_121 (by decide) ?_
      refine x_aload_n hx hb dX4_later_123 rfl (lv_at hl 0 rfl) ?_
      refine gM_women E hU dX4_later_124 ?_
      refine kM_sumOf E hU hS hA0 ⟨by decide, by decide⟩ hl.1 (Nat.le_of_ble_eq_true rfl) dX4_later_127 ⟨Nat.le_refl _, Nat.le_refl _⟩ (fun o10 H locs hU hS => ?_)
      refine x_isub hx hb dX4_later_130 ?_
      exact x_iret hx hb hr hlk hS rfl (hU.to fun _ _ => trivial) dX4_later_131
    · refine x_iconst (v := 0) hx hb dX4_later_24 (by decide) ?_
      exact x_iret hx hb hr hlk hS rfl (hU.to fun _ _ => trivial) dX4_later_25

set_option maxHeartbeats 4000000 in
theorem mM_opensIn (l : Launch) (D : va_G) (ct : CT) (ad : Nat → Nat) (S : US) (w : Int64) (p1 : Int32) (sz : Nat) (o : (Int32 × US)) (ho : sM_opensIn S p1 = some o) : Met l yX4_opensIn (ws_ yX4_opensIn cX4_opensIn 3 (some .int)) { frames := 6, cells := 0, slots := 0, locals := 145 } (mP D clW ct [.ref (ad (0)), .int p1] sz (UM D ct ad (fun _ => True) S w)) (mC (some (.int o.1)) (UM D ct ad (fun _ => True) o.2 w) (uA 31 ad sz)) 0 0 (uA 31 ad sz) := by
  refine X.start (val := fun (o : (Int32 × US)) => some (.int o.1)) (Bt := fun (o : (Int32 × US)) => UM D ct ad (fun _ => True) o.2 w) (A := uA 31 ad sz) ho (by decide) (Nat.le_of_ble_eq_true rfl) rfl ?_
  intro p e s m args below meth c E hr hlk hnm hsz hU ls hl
  subst hsz
  obtain ⟨⟨hx, hb, hml, hown, hts⟩, hK, hJ⟩ := id E
  replace hU := hU.to (B := uA 31 ad s.heap.size) (fun i hi => Or.inl ⟨i, hi, rfl⟩)
  have hA0 : ∀ q, s.heap.size ≤ q → (uA 31 ad s.heap.size) q := fun q h => Or.inr h
  have hS : va_S (uA 31 ad s.heap.size) s.heap s.heap [] := va_S.rf
  unfold sM_opensIn
  refine x_aload_n hx hb dX4_opensIn_0 rfl (lv_at hl 0 rfl) ?_
  refine kM_tries E hU hS hA0 ⟨by decide, by decide⟩ hl.1 (Nat.le_of_ble_eq_true rfl) dX4_opensIn_1 ⟨Nat.le_refl _, Nat.le_refl _⟩ (fun o1 H locs hU hS => ?_)
  refine x_iconst (v := 0) hx hb dX4_opensIn_4 (by decide) ?_
  refine x_istore_n (lv' := [(2, .int (0 : Int32)), (0, .ref (ad (0))), (1, .int p1)]) hx hb dX4_opensIn_5 rfl hl (by decide) rfl (fun ls hl => ?_)
  refine X.loop (I := fun (x : (US × Int32)) g H locs => UM D ct ad (uA 31 ad s.heap.size) x.1 w H ∧ va_S (uA 31 ad s.heap.size) s.heap H locs ∧ ∃ ls : Array Slot, g = F0 m 6 ls [] ∧ lv_has ls 3 [(0, .ref (ad (0))), (1, .int p1), (2, .int x.2)]) (fun rc4 ih4 => ?_) FUEL _ _ _ _ ⟨hU, hS, _, rfl, lv_sub hl [1, 2, 0] rfl⟩
  rintro ⟨S2, v3⟩ _ H locs ⟨hU, hS, ls, rfl, hl⟩
  have hU : UM D ct ad (uA 31 ad s.heap.size) S2 w H := hU
  have hl : lv_has ls 3 [(0, .ref (ad (0))), (1, .int p1), (2, .int v3)] := hl
  refine X.eqs (sp2 := sM_opensIn_L6 p1 rc4 S2 v3) rfl ?_
  unfold sM_opensIn_L6
  refine x_iload_n hx hb dX4_opensIn_6 rfl (lv_at hl 2 rfl) ?_
  refine x_bipush (v := 60) hx hb dX4_opensIn_7 (by decide) ?_
  refine x_icmp_gt (tgt := 36) hx hb dX4_opensIn_9 (by decide) (fun hc => ?_) (fun hc => ?_)
  · refine x_ldcw hx hb hown (hts _ q2352) dX4_opensIn_36 ?_
    exact x_iret hx hb hr hlk hS rfl (hU.to fun _ _ => trivial) dX4_opensIn_39
  · refine x_aload_n hx hb dX4_opensIn_12 rfl (lv_at hl 0 rfl) ?_
    refine x_bipush (v := 49) hx hb dX4_opensIn_13 (by decide) ?_
    refine x_iload_n hx hb dX4_opensIn_15 rfl (lv_at hl 1 rfl) ?_
    refine kM_isGap E hU hS hA0 ⟨by decide, by decide⟩ hl.1 (Nat.le_of_ble_eq_true rfl) dX4_opensIn_16 ⟨Nat.le_refl _, Nat.le_refl _⟩ (fun o5 H locs hU hS => ?_)
    refine x_if_eq (tgt := 24) hx hb dX4_opensIn_19 (by decide) (fun hc => ?_) (fun hc => ?_)
    · refine x_aload_n hx hb dX4_opensIn_24 rfl (lv_at hl 0 rfl) ?_
      refine x_bipush (v := 49) hx hb dX4_opensIn_25 (by decide) ?_
      refine kM_dayGoes E hU hS hA0 ⟨by decide, by decide⟩ hl.1 (Nat.le_of_ble_eq_true rfl) dX4_opensIn_27 ⟨Nat.le_refl _, Nat.le_refl _⟩ (fun o6 H locs hU hS => ?_)
      refine x_iinc (v := (v3 + (1 : Int32))) (lv' := [(2, .int (v3 + (1 : Int32))), (0, .ref (ad (0))), (1, .int p1)]) (k := 2) hx hb dX4_opensIn_30 hl rfl rfl (by decide) rfl (fun ls hl => ?_)
      refine x_goto (tgt := 6) hx hb dX4_opensIn_33 (by decide) ?_
      exact ih4 (o6, (v3 + (1 : Int32))) _ _ _ ⟨hU, hS, _, rfl, lv_sub hl [1, 2, 0] rfl⟩
    · refine x_iload_n hx hb dX4_opensIn_22 rfl (lv_at hl 2 rfl) ?_
      exact x_iret hx hb hr hlk hS rfl (hU.to fun _ _ => trivial) dX4_opensIn_23
section MK
variable {ρ : Type} {p : Program} {l : Launch} {e : Env} {R : Room} {s : State} {m : MethodId} {args : Array Value} {below : List Frame} {meth : Method} {c : Code} {H : Heap} {locs : List Loc} {cells slots : Nat} {Qf : ρ → State → Prop}
variable {cc : ByteArray} {pc nL : Nat} {ls : Array Slot} {rest : List Value}
variable {D : va_G} {ct : CT} {ad : Nat → Nat} {A A0 : Nat → Prop} {S : US} {w : Int64} {H0 : Heap}
theorem kM_opensIn {p1 : Int32} (E : ME p m c cc nL s args RX4 D clW ct) (hU : UM D ct ad A S w H) (hS : va_S A H0 H locs) (hA0 : ∀ q, H0.size ≤ q → A q) (hR : 6 + 1 ≤ R.frames ∧ 8 + (3 + 11) + 145 ≤ R.locals) (hsize : ls.size = nL) (hW : (rest.map fun v => v.category).sum ≤ 8) (hdg : decode cc pc = .ok (.invokevirtual 407, 3)) (hf : cells ≤ R.cells ∧ slots ≤ R.slots) {kp : (Int32 × US) → Option ρ} (kk : ∀ (o : (Int32 × US)) (H1 : Heap) (locs1 : List Loc), UM D ct ad A o.2 w H1 → va_S A H0 H1 locs1 → X p l e R s m args below meth c H1 locs1 cells slots Qf (kp o) (F0 m (pc + 3) ls (.int o.1 :: rest))) : X p l e R s m args below meth c H locs cells slots Qf (callK (sM_opensIn S p1) kp) (F0 m pc ls (.int p1 :: .ref (ad 0) :: rest)) := ucV_mod (i := 0) (So := fun (o : (Int32 × US)) => o.2) (wo := fun (o : (Int32 × US)) => w) (As := [.int p1]) E hU hS hA0 (by decide) rfl rfl (fun sz o ho => mM_opensIn l D ct ad S w p1 sz o ho) (cwV 1 E.1.2.2.2.2 (lw_V q2348 q2350 qs102 q119 q2351) rfl rfl rfl (by decide +kernel) hR) rfl hsize rfl hW hdg hf kk
end MK

set_option maxHeartbeats 4000000 in
theorem mM_opens (l : Launch) (D : va_G) (ct : CT) (ad : Nat → Nat) (S : US) (w : Int64) (p1 : Int32) (sz : Nat) (o : (Int32 × US)) (ho : sM_opens S p1 = some o) : Met l yX4_opens (ws_ yX4_opens cX4_opens 3 (some .int)) { frames := 7, cells := 0, slots := 0, locals := 167 } (mP D clW ct [.ref (ad (0)), .int p1] sz (UM D ct ad (fun _ => True) S w)) (mC (some (.int o.1)) (UM D ct ad (fun _ => True) o.2 w) (uA 31 ad sz)) 0 0 (uA 31 ad sz) := by
  refine X.start (val := fun (o : (Int32 × US)) => some (.int o.1)) (Bt := fun (o : (Int32 × US)) => UM D ct ad (fun _ => True) o.2 w) (A := uA 31 ad sz) ho (by decide) (Nat.le_of_ble_eq_true rfl) rfl ?_
  intro p e s m args below meth c E hr hlk hnm hsz hU ls hl
  subst hsz
  obtain ⟨⟨hx, hb, hml, hown, hts⟩, hK, hJ⟩ := id E
  replace hU := hU.to (B := uA 31 ad s.heap.size) (fun i hi => Or.inl ⟨i, hi, rfl⟩)
  have hA0 : ∀ q, s.heap.size ≤ q → (uA 31 ad s.heap.size) q := fun q h => Or.inr h
  have hS : va_S (uA 31 ad s.heap.size) s.heap s.heap [] := va_S.rf
  unfold sM_opens
  refine x_aload_n hx hb dX4_opens_0 rfl (lv_at hl 0 rfl) ?_
  refine x_iconst (v := 0) hx hb dX4_opens_1 (by decide) ?_
  refine pM_thrown E hU hS dX4_opens_2 (fun S1 H locs hU hS => ?_)
  refine x_aload_n hx hb dX4_opens_5 rfl (lv_at hl 0 rfl) ?_
  refine x_iload_n hx hb dX4_opens_6 rfl (lv_at hl 1 rfl) ?_
  refine kM_isStretch E hU hS hA0 ⟨by decide, by decide⟩ hl.1 (Nat.le_of_ble_eq_true rfl) dX4_opens_7 ⟨Nat.le_refl _, Nat.le_refl _⟩ (fun o2 H locs hU hS => ?_)
  refine x_if_ne (tgt := 15) hx hb dX4_opens_10 (by decide) (fun hc => ?_) (fun hc => ?_)
  · refine x_aload_n hx hb dX4_opens_15 rfl (lv_at hl 0 rfl) ?_
    refine x_iload_n hx hb dX4_opens_16 rfl (lv_at hl 1 rfl) ?_
    refine kM_opensIn E hU hS hA0 ⟨by decide, by decide⟩ hl.1 (Nat.le_of_ble_eq_true rfl) dX4_opens_17 ⟨Nat.le_refl _, Nat.le_refl _⟩ (fun o3 H locs hU hS => ?_)
    refine x_istore_n (lv' := [(2, .int o3.1), (0, .ref (ad (0))), (1, .int p1)]) hx hb dX4_opens_20 rfl hl (by decide) rfl (fun ls hl => ?_)
    refine x_iload_n hx hb dX4_opens_21 rfl (lv_at hl 0 rfl) ?_
    refine x_ldcw hx hb hown (hts _ q2352) dX4_opens_22 ?_
    refine x_icmp_ne (tgt := 32) hx hb dX4_opens_25 (by decide) (fun hc => ?_) (fun hc => ?_)
    · refine x_iload_n hx hb dX4_opens_32 rfl (lv_at hl 0 rfl) ?_
      exact x_iret hx hb hr hlk hS rfl (hU.to fun _ _ => trivial) dX4_opens_33
    · refine x_iconst (v := -1) hx hb dX4_opens_28 (by decide) ?_
      refine x_goto (tgt := 33) hx hb dX4_opens_29 (by decide) ?_
      exact x_iret hx hb hr hlk hS rfl (hU.to fun _ _ => trivial) dX4_opens_33
  · refine x_iconst (v := 0) hx hb dX4_opens_13 (by decide) ?_
    exact x_iret hx hb hr hlk hS rfl (hU.to fun _ _ => trivial) dX4_opens_14

set_option maxHeartbeats 4000000 in
theorem mM_first (l : Launch) (D : va_G) (ct : CT) (ad : Nat → Nat) (S : US) (w : Int64) (sz : Nat) (o : (Int32 × US)) (ho : sM_first S = some o) : Met l yX4_first (ws_ yX4_first cX4_first 5 (some .int)) { frames := 7, cells := 0, slots := 0, locals := 167 } (mP D clW ct [.ref (ad (0))] sz (UM D ct ad (fun _ => True) S w)) (mC (some (.int o.1)) (UM D ct ad (fun _ => True) o.2 w) (uA 31 ad sz)) 0 0 (uA 31 ad sz) := by
  refine X.start (val := fun (o : (Int32 × US)) => some (.int o.1)) (Bt := fun (o : (Int32 × US)) => UM D ct ad (fun _ => True) o.2 w) (A := uA 31 ad sz) ho (by decide) (Nat.le_of_ble_eq_true rfl) rfl ?_
  intro p e s m args below meth c E hr hlk hnm hsz hU ls hl
  subst hsz
  obtain ⟨⟨hx, hb, hml, hown, hts⟩, hK, hJ⟩ := id E
  replace hU := hU.to (B := uA 31 ad s.heap.size) (fun i hi => Or.inl ⟨i, hi, rfl⟩)
  have hA0 : ∀ q, s.heap.size ≤ q → (uA 31 ad s.heap.size) q := fun q h => Or.inr h
  have hS : va_S (uA 31 ad s.heap.size) s.heap s.heap [] := va_S.rf
  unfold sM_first
  refine x_aload_n hx hb dX4_first_0 rfl (lv_at hl 0 rfl) ?_
  refine x_iconst (v := 0) hx hb dX4_first_1 (by decide) ?_
  refine pM_thrown E hU hS dX4_first_2 (fun S1 H locs hU hS => ?_)
  refine x_iconst (v := -1) hx hb dX4_first_5 (by decide) ?_
  refine x_istore_n (lv' := [(1, .int (-1 : Int32)), (0, .ref (ad (0)))]) hx hb dX4_first_6 rfl hl (by decide) rfl (fun ls hl => ?_)
  refine x_ldcw hx hb hown (hts _ q2352) dX4_first_7 ?_
  refine x_istore_n (lv' := [(2, .int (99999 : Int32)), (1, .int (-1 : Int32)), (0, .ref (ad (0)))]) hx hb dX4_first_10 rfl hl (by decide) rfl (fun ls hl => ?_)
  refine x_iconst (v := 0) hx hb dX4_first_11 (by decide) ?_
  refine x_istore_n (lv' := [(3, .int (0 : Int32)), (2, .int (99999 : Int32)), (1, .int (-1 : Int32)), (0, .ref (ad (0)))]) hx hb dX4_first_12 rfl hl (by decide) rfl (fun ls hl => ?_)
  refine X.loop (I := fun (x : (US × Int32 × Int32 × Int32)) g H locs => UM D ct ad (uA 31 ad s.heap.size) x.1 w H ∧ va_S (uA 31 ad s.heap.size) s.heap H locs ∧ ∃ ls : Array Slot, g = F0 m 13 ls [] ∧ lv_has ls 5 [(0, .ref (ad (0))), (1, .int x.2.1), (2, .int x.2.2.1), (3, .int x.2.2.2)]) (fun rc6 ih6 => ?_) FUEL _ _ _ _ ⟨hU, hS, _, rfl, lv_sub hl [3, 2, 1, 0] rfl⟩
  rintro ⟨S2, v3, v4, v5⟩ _ H locs ⟨hU, hS, ls, rfl, hl⟩
  have hU : UM D ct ad (uA 31 ad s.heap.size) S2 w H := hU
  have hl : lv_has ls 5 [(0, .ref (ad (0))), (1, .int v3), (2, .int v4), (3, .int v5)] := hl
  refine X.eqs (sp2 := sM_first_L13 rc6 S2 v3 v4 v5) rfl ?_
  unfold sM_first_L13
  refine x_iload_n hx hb dX4_first_13 rfl (lv_at hl 3 rfl) ?_
  refine x_aload_n hx hb dX4_first_14 rfl (lv_at hl 0 rfl) ?_
  refine gM_many E hU dX4_first_15 ?_
  refine x_icmp_ge (tgt := 53) hx hb dX4_first_18 (by decide) (fun hc => ?_) (fun hc => ?_)
  · refine x_iload_n hx hb dX4_first_53 rfl (lv_at hl 1 rfl) ?_
    exact x_iret hx hb hr hlk hS rfl (hU.to fun _ _ => trivial) dX4_first_54
  · refine x_aload_n hx hb dX4_first_21 rfl (lv_at hl 0 rfl) ?_
    refine x_iload_n hx hb dX4_first_22 rfl (lv_at hl 3 rfl) ?_
    refine kM_opensIn E hU hS hA0 ⟨by decide, by decide⟩ hl.1 (Nat.le_of_ble_eq_true rfl) dX4_first_23 ⟨Nat.le_refl _, Nat.le_refl _⟩ (fun o7 H locs hU hS => ?_)
    refine x_istore (lv' := [(4, .int o7.1), (0, .ref (ad (0))), (1, .int v3), (2, .int v4), (3, .int v5)]) hx hb dX4_first_26 hl (by decide) rfl (fun ls hl => ?_)
    refine x_iload hx hb dX4_first_28 (lv_at hl 0 rfl) ?_
    refine x_if_eq (tgt := 47) hx hb dX4_first_30 (by decide) (fun hc => ?_) (fun hc => ?_)
    · refine x_iinc (v := (v5 + (1 : Int32))) (lv' := [(3, .int (v5 + (1 : Int32))), (4, .int o7.1), (0, .ref (ad (0))), (1, .int v3), (2, .int v4)]) (k := 4) hx hb dX4_first_47 hl rfl rfl (by decide) rfl (fun ls hl => ?_)
      refine x_goto (tgt := 13) hx hb dX4_first_50 (by decide) ?_
      exact ih6 (o7.2, v3, v4, (v5 + (1 : Int32))) _ _ _ ⟨hU, hS, _, rfl, lv_sub hl [2, 3, 4, 0] rfl⟩
    · refine x_iload hx hb dX4_first_33 (lv_at hl 0 rfl) ?_
      refine x_iload_n hx hb dX4_first_35 rfl (lv_at hl 3 rfl) ?_
      refine x_icmp_lt (tgt := 42) hx hb dX4_first_36 (by decide) (fun hc => ?_) (fun hc => ?_)
      · refine x_iload_n hx hb dX4_first_42 rfl (lv_at hl 4 rfl) ?_
        refine x_istore_n (lv' := [(1, .int v5), (4, .int o7.1), (0, .ref (ad (0))), (2, .int v4), (3, .int v5)]) hx hb dX4_first_43 rfl hl (by decide) rfl (fun ls hl => ?_)
        refine x_iload hx hb dX4_first_44 (lv_at hl 1 rfl) ?_
        refine x_istore_n (lv' := [(2, .int o7.1), (1, .int v5), (4, .int o7.1), (0, .ref (ad (0))), (3, .int v5)]) hx hb dX4_first_46 rfl hl (by decide) rfl (fun ls hl => ?_)
        refine x_iinc (v := (v5 + (1 : Int32))) (lv' := [(3, .int (v5 + (1 : Int32))), (2, .int o7.1), (1, .int v5), (4, .int o7.1), (0, .ref (ad (0)))]) (k := 4) hx hb dX4_first_47 hl rfl rfl (by decide) rfl (fun ls hl => ?_)
        refine x_goto (tgt := 13) hx hb dX4_first_50 (by decide) ?_
        exact ih6 (o7.2, v5, o7.1, (v5 + (1 : Int32))) _ _ _ ⟨hU, hS, _, rfl, lv_sub hl [4, 2, 1, 0] rfl⟩
      · refine x_goto (tgt := 47) hx hb dX4_first_39 (by decide) ?_
        refine x_iinc (v := (v5 + (1 : Int32))) (lv' := [(3, .int (v5 + (1 : Int32))), (4, .int o7.1), (0, .ref (ad (0))), (1, .int v3), (2, .int v4)]) (k := 4) hx hb dX4_first_47 hl rfl rfl (by decide) rfl (fun ls hl => ?_)
        refine x_goto (tgt := 13) hx hb dX4_first_50 (by decide) ?_
        exact ih6 (o7.2, v3, v4, (v5 + (1 : Int32))) _ _ _ ⟨hU, hS, _, rfl, lv_sub hl [2, 3, 4, 0] rfl⟩

set_option maxHeartbeats 4000000 in
theorem mM_where (l : Launch) (D : va_G) (ct : CT) (ad : Nat → Nat) (S : US) (w : Int64) (p1 : Int32) (p2 : Int32) (p3 : Int32) (sz : Nat) (o : (Int32 × US)) (ho : sM_where S p1 p2 p3 = some o) : Met l yX4_where (ws_ yX4_where cX4_where 4 (some .int)) { frames := 8, cells := 0, slots := 0, locals := 188 } (mP D clW ct [.ref (ad (0)), .int p1, .int p2, .int p3] sz (UM D ct ad (fun _ => True) S w)) (mC (some (.int o.1)) (UM D ct ad (fun _ => True) o.2 w) (uA 31 ad sz)) 0 0 (uA 31 ad sz) := by
  refine X.start (val := fun (o : (Int32 × US)) => some (.int o.1)) (Bt := fun (o : (Int32 × US)) => UM D ct ad (fun _ => True) o.2 w) (A := uA 31 ad sz) ho (by decide) (Nat.le_of_ble_eq_true rfl) rfl ?_
  intro p e s m args below meth c E hr hlk hnm hsz hU ls hl
  subst hsz
  obtain ⟨⟨hx, hb, hml, hown, hts⟩, hK, hJ⟩ := id E
  replace hU := hU.to (B := uA 31 ad s.heap.size) (fun i hi => Or.inl ⟨i, hi, rfl⟩)
  have hA0 : ∀ q, s.heap.size ≤ q → (uA 31 ad s.heap.size) q := fun q h => Or.inr h
  have hS : va_S (uA 31 ad s.heap.size) s.heap s.heap [] := va_S.rf
  unfold sM_where
  refine x_aload_n hx hb dX4_where_0 rfl (lv_at hl 0 rfl) ?_
  refine x_iconst (v := 0) hx hb dX4_where_1 (by decide) ?_
  refine pM_thrown E hU hS dX4_where_2 (fun S1 H locs hU hS => ?_)
  refine x_aload_n hx hb dX4_where_5 rfl (lv_at hl 0 rfl) ?_
  refine x_iload_n hx hb dX4_where_6 rfl (lv_at hl 1 rfl) ?_
  refine kM_isWoman E hU hS hA0 ⟨by decide, by decide⟩ hl.1 (Nat.le_of_ble_eq_true rfl) dX4_where_7 ⟨Nat.le_refl _, Nat.le_refl _⟩ (fun o2 H locs hU hS => ?_)
  refine x_if_eq (tgt := 32) hx hb dX4_where_10 (by decide) (fun hc => ?_) (fun hc => ?_)
  · refine x_iconst (v := 0) hx hb dX4_where_32 (by decide) ?_
    exact x_iret hx hb hr hlk hS rfl (hU.to fun _ _ => trivial) dX4_where_33
  · refine x_aload_n hx hb dX4_where_13 rfl (lv_at hl 0 rfl) ?_
    refine x_iload_n hx hb dX4_where_14 rfl (lv_at hl 3 rfl) ?_
    refine x_iconst (v := 1) hx hb dX4_where_15 (by decide) ?_
    refine kM_isWhat E hU hS hA0 ⟨by decide, by decide⟩ hl.1 (Nat.le_of_ble_eq_true rfl) dX4_where_16 ⟨Nat.le_refl _, Nat.le_refl _⟩ (fun o3 H locs hU hS => ?_)
    refine x_if_eq (tgt := 32) hx hb dX4_where_19 (by decide) (fun hc => ?_) (fun hc => ?_)
    · refine x_iconst (v := 0) hx hb dX4_where_32 (by decide) ?_
      exact x_iret hx hb hr hlk hS rfl (hU.to fun _ _ => trivial) dX4_where_33
    · refine x_aload_n hx hb dX4_where_22 rfl (lv_at hl 0 rfl) ?_
      refine x_iload_n hx hb dX4_where_23 rfl (lv_at hl 2 rfl) ?_
      refine x_iconst (v := 0) hx hb dX4_where_24 (by decide) ?_
      refine x_iconst (v := 2) hx hb dX4_where_25 (by decide) ?_
      refine kM_isDays E hU hS hA0 ⟨by decide, by decide⟩ hl.1 (Nat.le_of_ble_eq_true rfl) dX4_where_26 ⟨Nat.le_refl _, Nat.le_refl _⟩ (fun o4 H locs hU hS => ?_)
      refine x_if_ne (tgt := 34) hx hb dX4_where_29 (by decide) (fun hc => ?_) (fun hc => ?_)
      · refine x_aload_n hx hb dX4_where_34 rfl (lv_at hl 0 rfl) ?_
        refine x_iload_n hx hb dX4_where_35 rfl (lv_at hl 2 rfl) ?_
        refine kM_goesTo E hU hS hA0 ⟨by decide, by decide⟩ hl.1 (Nat.le_of_ble_eq_true rfl) dX4_where_36 ⟨Nat.le_refl _, Nat.le_refl _⟩ (fun o5 H locs hU hS => ?_)
        refine x_aload_n hx hb dX4_where_39 rfl (lv_at hl 0 rfl) ?_
        refine gM_rows E hU dX4_where_40 ?_
        refine x_bipush (v := 49) hx hb dX4_where_43 (by decide) ?_
        refine x_iload_n hx hb dX4_where_45 rfl (lv_at hl 3 rfl) ?_
        refine x_if_ne (tgt := 54) hx hb dX4_where_46 (by decide) (fun hc => ?_) (fun hc => ?_)
        · refine x_bipush (v := 43) hx hb dX4_where_54 (by decide) ?_
          refine x_iadd hx hb dX4_where_56 ?_
          refine x_iload_n hx hb dX4_where_57 rfl (lv_at hl 1 rfl) ?_
          refine x_iadd hx hb dX4_where_58 ?_
          refine ux_ald (i := 14) (n := 98) E hU (by decide) rfl dX4_where_59 ?_
          exact x_iret hx hb hr hlk hS rfl (hU.to fun _ _ => trivial) dX4_where_60
        · refine x_bipush (v := 37) hx hb dX4_where_49 (by decide) ?_
          refine x_goto (tgt := 56) hx hb dX4_where_51 (by decide) ?_
          refine x_iadd hx hb dX4_where_56 ?_
          refine x_iload_n hx hb dX4_where_57 rfl (lv_at hl 1 rfl) ?_
          refine x_iadd hx hb dX4_where_58 ?_
          refine ux_ald (i := 14) (n := 98) E hU (by decide) rfl dX4_where_59 ?_
          exact x_iret hx hb hr hlk hS rfl (hU.to fun _ _ => trivial) dX4_where_60
      · refine x_iconst (v := 0) hx hb dX4_where_32 (by decide) ?_
        exact x_iret hx hb hr hlk hS rfl (hU.to fun _ _ => trivial) dX4_where_33

set_option maxHeartbeats 4000000 in
theorem mM_spent (l : Launch) (D : va_G) (ct : CT) (ad : Nat → Nat) (S : US) (w : Int64) (sz : Nat) (o : (Int32 × US)) (ho : sM_spent S = some o) : Met l yX4_spent (ws_ yX4_spent cX4_spent 2 (some .int)) { frames := 6, cells := 0, slots := 0, locals := 145 } (mP D clW ct [.ref (ad (0))] sz (UM D ct ad (fun _ => True) S w)) (mC (some (.int o.1)) (UM D ct ad (fun _ => True) o.2 w) (uA 31 ad sz)) 0 0 (uA 31 ad sz) := by
  refine X.start (val := fun (o : (Int32 × US)) => some (.int o.1)) (Bt := fun (o : (Int32 × US)) => UM D ct ad (fun _ => True) o.2 w) (A := uA 31 ad sz) ho (by decide) (Nat.le_of_ble_eq_true rfl) rfl ?_
  intro p e s m args below meth c E hr hlk hnm hsz hU ls hl
  subst hsz
  obtain ⟨⟨hx, hb, hml, hown, hts⟩, hK, hJ⟩ := id E
  replace hU := hU.to (B := uA 31 ad s.heap.size) (fun i hi => Or.inl ⟨i, hi, rfl⟩)
  have hA0 : ∀ q, s.heap.size ≤ q → (uA 31 ad s.heap.size) q := fun q h => Or.inr h
  have hS : va_S (uA 31 ad s.heap.size) s.heap s.heap [] := va_S.rf
  unfold sM_spent
  refine x_aload_n hx hb dX4_spent_0 rfl (lv_at hl 0 rfl) ?_
  refine x_iconst (v := 0) hx hb dX4_spent_1 (by decide) ?_
  refine pM_thrown E hU hS dX4_spent_2 (fun S1 H locs hU hS => ?_)
  refine x_aload_n hx hb dX4_spent_5 rfl (lv_at hl 0 rfl) ?_
  refine kM_tries E hU hS hA0 ⟨by decide, by decide⟩ hl.1 (Nat.le_of_ble_eq_true rfl) dX4_spent_6 ⟨Nat.le_refl _, Nat.le_refl _⟩ (fun o2 H locs hU hS => ?_)
  refine x_iconst (v := 0) hx hb dX4_spent_9 (by decide) ?_
  refine x_istore_n (lv' := [(1, .int (0 : Int32)), (0, .ref (ad (0)))]) hx hb dX4_spent_10 rfl hl (by decide) rfl (fun ls hl => ?_)
  refine X.loop (I := fun (x : (US × Int32)) g H locs => UM D ct ad (uA 31 ad s.heap.size) x.1 w H ∧ va_S (uA 31 ad s.heap.size) s.heap H locs ∧ ∃ ls : Array Slot, g = F0 m 11 ls [] ∧ lv_has ls 2 [(0, .ref (ad (0))), (1, .int x.2)]) (fun rc5 ih5 => ?_) FUEL _ _ _ _ ⟨hU, hS, _, rfl, lv_sub hl [1, 0] rfl⟩
  rintro ⟨S3, v4⟩ _ H locs ⟨hU, hS, ls, rfl, hl⟩
  have hU : UM D ct ad (uA 31 ad s.heap.size) S3 w H := hU
  have hl : lv_has ls 2 [(0, .ref (ad (0))), (1, .int v4)] := hl
  refine X.eqs (sp2 := sM_spent_L11 rc5 S3 v4) rfl ?_
  unfold sM_spent_L11
  refine x_iload_n hx hb dX4_spent_11 rfl (lv_at hl 1 rfl) ?_
  refine x_bipush (v := 60) hx hb dX4_spent_12 (by decide) ?_
  refine x_icmp_gt (tgt := 46) hx hb dX4_spent_14 (by decide) (fun hc => ?_) (fun hc => ?_)
  · refine x_iconst (v := -1) hx hb dX4_spent_46 (by decide) ?_
    exact x_iret hx hb hr hlk hS rfl (hU.to fun _ _ => trivial) dX4_spent_47
  · refine x_aload_n hx hb dX4_spent_17 rfl (lv_at hl 0 rfl) ?_
    refine x_bipush (v := 49) hx hb dX4_spent_18 (by decide) ?_
    refine x_bipush (v := 43) hx hb dX4_spent_20 (by decide) ?_
    refine x_aload_n hx hb dX4_spent_22 rfl (lv_at hl 0 rfl) ?_
    refine gM_women E hU dX4_spent_23 ?_
    refine kM_sumOf E hU hS hA0 ⟨by decide, by decide⟩ hl.1 (Nat.le_of_ble_eq_true rfl) dX4_spent_26 ⟨Nat.le_refl _, Nat.le_refl _⟩ (fun o6 H locs hU hS => ?_)
    refine x_if_ne (tgt := 34) hx hb dX4_spent_29 (by decide) (fun hc => ?_) (fun hc => ?_)
    · refine x_aload_n hx hb dX4_spent_34 rfl (lv_at hl 0 rfl) ?_
      refine x_bipush (v := 49) hx hb dX4_spent_35 (by decide) ?_
      refine kM_dayGoes E hU hS hA0 ⟨by decide, by decide⟩ hl.1 (Nat.le_of_ble_eq_true rfl) dX4_spent_37 ⟨Nat.le_refl _, Nat.le_refl _⟩ (fun o7 H locs hU hS => ?_)
      refine x_iinc (v := (v4 + (1 : Int32))) (lv' := [(1, .int (v4 + (1 : Int32))), (0, .ref (ad (0)))]) (k := 1) hx hb dX4_spent_40 hl rfl rfl (by decide) rfl (fun ls hl => ?_)
      refine x_goto (tgt := 11) hx hb dX4_spent_43 (by decide) ?_
      exact ih5 (o7, (v4 + (1 : Int32))) _ _ _ ⟨hU, hS, _, rfl, lv_sub hl [1, 0] rfl⟩
    · refine x_iload_n hx hb dX4_spent_32 rfl (lv_at hl 1 rfl) ?_
      exact x_iret hx hb hr hlk hS rfl (hU.to fun _ _ => trivial) dX4_spent_33

set_option maxHeartbeats 4000000 in
theorem mM_toHold (l : Launch) (D : va_G) (ct : CT) (ad : Nat → Nat) (S : US) (w : Int64) (p1 : Int32) (p2 : Int32) (sz : Nat) (o : (Int32 × US)) (ho : sM_toHold S p1 p2 = some o) : Met l yX4_toHold (ws_ yX4_toHold cX4_toHold 6 (some .int)) { frames := 6, cells := 0, slots := 0, locals := 145 } (mP D clW ct [.ref (ad (0)), .int p1, .int p2] sz (UM D ct ad (fun _ => True) S w)) (mC (some (.int o.1)) (UM D ct ad (fun _ => True) o.2 w) (uA 31 ad sz)) 0 0 (uA 31 ad sz) := by
  refine X.start (val := fun (o : (Int32 × US)) => some (.int o.1)) (Bt := fun (o : (Int32 × US)) => UM D ct ad (fun _ => True) o.2 w) (A := uA 31 ad sz) ho (by decide) (Nat.le_of_ble_eq_true rfl) rfl ?_
  intro p e s m args below meth c E hr hlk hnm hsz hU ls hl
  subst hsz
  obtain ⟨⟨hx, hb, hml, hown, hts⟩, hK, hJ⟩ := id E
  replace hU := hU.to (B := uA 31 ad s.heap.size) (fun i hi => Or.inl ⟨i, hi, rfl⟩)
  have hA0 : ∀ q, s.heap.size ≤ q → (uA 31 ad s.heap.size) q := fun q h => Or.inr h
  have hS : va_S (uA 31 ad s.heap.size) s.heap s.heap [] := va_S.rf
  unfold sM_toHold
  refine x_aload_n hx hb dX4_toHold_0 rfl (lv_at hl 0 rfl) ?_
  refine x_iconst (v := 0) hx hb dX4_toHold_1 (by decide) ?_
  refine pM_thrown E hU hS dX4_toHold_2 (fun S1 H locs hU hS => ?_)
  refine x_aload_n hx hb dX4_toHold_5 rfl (lv_at hl 0 rfl) ?_
  refine x_iload_n hx hb dX4_toHold_6 rfl (lv_at hl 1 rfl) ?_
  refine kM_isStretch E hU hS hA0 ⟨by decide, by decide⟩ hl.1 (Nat.le_of_ble_eq_true rfl) dX4_toHold_7 ⟨Nat.le_refl _, Nat.le_refl _⟩ (fun o2 H locs hU hS => ?_)
  refine x_if_eq (tgt := 23) hx hb dX4_toHold_10 (by decide) (fun hc => ?_) (fun hc => ?_)
  · refine x_iconst (v := 0) hx hb dX4_toHold_23 (by decide) ?_
    exact x_iret hx hb hr hlk hS rfl (hU.to fun _ _ => trivial) dX4_toHold_24
  · refine x_aload_n hx hb dX4_toHold_13 rfl (lv_at hl 0 rfl) ?_
    refine x_iload_n hx hb dX4_toHold_14 rfl (lv_at hl 2 rfl) ?_
    refine x_iconst (v := 1) hx hb dX4_toHold_15 (by decide) ?_
    refine x_iconst (v := 2) hx hb dX4_toHold_16 (by decide) ?_
    refine kM_isDays E hU hS hA0 ⟨by decide, by decide⟩ hl.1 (Nat.le_of_ble_eq_true rfl) dX4_toHold_17 ⟨Nat.le_refl _, Nat.le_refl _⟩ (fun o3 H locs hU hS => ?_)
    refine x_if_ne (tgt := 25) hx hb dX4_toHold_20 (by decide) (fun hc => ?_) (fun hc => ?_)
    · refine x_iconst (v := 0) hx hb dX4_toHold_25 (by decide) ?_
      refine x_istore_n (lv' := [(3, .int (0 : Int32)), (0, .ref (ad (0))), (1, .int p1), (2, .int p2)]) hx hb dX4_toHold_26 rfl hl (by decide) rfl (fun ls hl => ?_)
      refine X.loop (I := fun (x : (US × Int32)) g H locs => UM D ct ad (uA 31 ad s.heap.size) x.1 w H ∧ va_S (uA 31 ad s.heap.size) s.heap H locs ∧ ∃ ls : Array Slot, g = F0 m 27 ls [] ∧ lv_has ls 6 [(0, .ref (ad (0))), (1, .int p1), (2, .int p2), (3, .int x.2)]) (fun rc6 ih6 => ?_) FUEL _ _ _ _ ⟨hU, hS, _, rfl, lv_sub hl [1, 2, 3, 0] rfl⟩
      rintro ⟨S4, v5⟩ _ H locs ⟨hU, hS, ls, rfl, hl⟩
      have hU : UM D ct ad (uA 31 ad s.heap.size) S4 w H := hU
      have hl : lv_has ls 6 [(0, .ref (ad (0))), (1, .int p1), (2, .int p2), (3, .int v5)] := hl
      refine X.eqs (sp2 := sM_toHold_L27 p1 p2 rc6 S4 v5) rfl ?_
      unfold sM_toHold_L27
      refine x_iload_n hx hb dX4_toHold_27 rfl (lv_at hl 3 rfl) ?_
      refine x_bipush (v := 99) hx hb dX4_toHold_28 (by decide) ?_
      refine x_icmp_gt (tgt := 121) hx hb dX4_toHold_30 (by decide) (fun hc => ?_) (fun hc => ?_)
      · refine x_iconst (v := -1) hx hb dX4_toHold_121 (by decide) ?_
        exact x_iret hx hb hr hlk hS rfl (hU.to fun _ _ => trivial) dX4_toHold_122
      · refine x_aload_n hx hb dX4_toHold_33 rfl (lv_at hl 0 rfl) ?_
        refine kM_tries E hU hS hA0 ⟨by decide, by decide⟩ hl.1 (Nat.le_of_ble_eq_true rfl) dX4_toHold_34 ⟨Nat.le_refl _, Nat.le_refl _⟩ (fun o7 H locs hU hS => ?_)
        refine x_aload_n hx hb dX4_toHold_37 rfl (lv_at hl 0 rfl) ?_
        refine gM_rows E hU dX4_toHold_38 ?_
        refine x_bipush (v := 62) hx hb dX4_toHold_41 (by decide) ?_
        refine x_iload_n hx hb dX4_toHold_43 rfl (lv_at hl 1 rfl) ?_
        refine x_iadd hx hb dX4_toHold_44 ?_
        refine x_bipush (v := 99) hx hb dX4_toHold_45 (by decide) ?_
        refine x_aload_n hx hb dX4_toHold_47 rfl (lv_at hl 0 rfl) ?_
        refine gM_rows E hU dX4_toHold_48 ?_
        refine x_bipush (v := 62) hx hb dX4_toHold_51 (by decide) ?_
        refine x_iload_n hx hb dX4_toHold_53 rfl (lv_at hl 1 rfl) ?_
        refine x_iadd hx hb dX4_toHold_54 ?_
        refine ux_ald (i := 14) (n := 98) E hU (by decide) rfl dX4_toHold_55 ?_
        refine x_iload_n hx hb dX4_toHold_56 rfl (lv_at hl 3 rfl) ?_
        refine x_iadd hx hb dX4_toHold_57 ?_
        refine kM_lesser E hS hA0 ⟨by decide, by decide⟩ hl.1 (Nat.le_of_ble_eq_true rfl) dX4_toHold_58 ⟨Nat.le_refl _, Nat.le_refl _⟩ (fun o8 H locs hk hS => ?_)
        replace hU := hU.kept (fun i hi => hk _ (hU.lt hi))
        refine ux_ast (i := 14) (n := 98) E hU hS (by decide) rfl dX4_toHold_61 (fun S9 H locs hU hS => ?_)
        refine x_iconst (v := 1) hx hb dX4_toHold_62 (by decide) ?_
        refine x_istore (lv' := [(4, .int (1 : Int32)), (0, .ref (ad (0))), (1, .int p1), (2, .int p2), (3, .int v5)]) hx hb dX4_toHold_63 hl (by decide) rfl (fun ls hl => ?_)
        refine x_iconst (v := 0) hx hb dX4_toHold_65 (by decide) ?_
        refine x_istore (lv' := [(5, .int (0 : Int32)), (4, .int (1 : Int32)), (0, .ref (ad (0))), (1, .int p1), (2, .int p2), (3, .int v5)]) hx hb dX4_toHold_66 hl (by decide) rfl (fun ls hl => ?_)
        refine X.join2 (fun (x : (US × Int32)) g H locs => UM D ct ad (uA 31 ad s.heap.size) x.1 w H ∧ va_S (uA 31 ad s.heap.size) s.heap H locs ∧ ∃ ls : Array Slot, g = F0 m 108 ls [] ∧ lv_has ls 6 [(0, .ref (ad (0))), (1, .int p1), (2, .int p2), (3, .int v5), (4, .int x.2)]) ?_ (fun j12 hj12 => ?_)
        · rintro ⟨S10, v11⟩ _ H locs ⟨hU, hS, ls, rfl, hl⟩
          have hU : UM D ct ad (uA 31 ad s.heap.size) S10 w H := hU
          have hl : lv_has ls 6 [(0, .ref (ad (0))), (1, .int p1), (2, .int p2), (3, .int v5), (4, .int v11)] := hl
          refine X.eqs (sp2 := sM_toHold_J108 v5 rc6 S10 v11) rfl ?_
          unfold sM_toHold_J108
          refine x_iload hx hb dX4_toHold_108 (lv_at hl 4 rfl) ?_
          refine x_if_eq (tgt := 115) hx hb dX4_toHold_110 (by decide) (fun hc => ?_) (fun hc => ?_)
          · refine x_iinc (v := (v5 + (1 : Int32))) (lv' := [(3, .int (v5 + (1 : Int32))), (0, .ref (ad (0))), (1, .int p1), (2, .int p2), (4, .int v11)]) (k := 3) hx hb dX4_toHold_115 hl rfl rfl (by decide) rfl (fun ls hl => ?_)
            refine x_goto (tgt := 27) hx hb dX4_toHold_118 (by decide) ?_
            exact ih6 (S10, (v5 + (1 : Int32))) _ _ _ ⟨hU, hS, _, rfl, lv_sub hl [1, 2, 3, 0] rfl⟩
          · refine x_iload_n hx hb dX4_toHold_113 rfl (lv_at hl 3 rfl) ?_
            exact x_iret hx hb hr hlk hS rfl (hU.to fun _ _ => trivial) dX4_toHold_114
        · refine X.loop (I := fun (x : (US × Int32 × Int32)) g H locs => UM D ct ad (uA 31 ad s.heap.size) x.1 w H ∧ va_S (uA 31 ad s.heap.size) s.heap H locs ∧ ∃ ls : Array Slot, g = F0 m 68 ls [] ∧ lv_has ls 6 [(0, .ref (ad (0))), (1, .int p1), (2, .int p2), (3, .int v5), (4, .int x.2.1), (5, .int x.2.2)]) (fun rc16 ih16 => ?_) FUEL _ _ _ _ ⟨hU, hS, _, rfl, lv_sub hl [2, 3, 4, 5, 1, 0] rfl⟩
          rintro ⟨S13, v14, v15⟩ _ H locs ⟨hU, hS, ls, rfl, hl⟩
          have hU : UM D ct ad (uA 31 ad s.heap.size) S13 w H := hU
          have hl : lv_has ls 6 [(0, .ref (ad (0))), (1, .int p1), (2, .int p2), (3, .int v5), (4, .int v14), (5, .int v15)] := hl
          refine X.eqs (sp2 := sM_toHold_L68 p1 p2 j12 rc16 S13 v14 v15) rfl ?_
          unfold sM_toHold_L68
          refine x_iload hx hb dX4_toHold_68 (lv_at hl 5 rfl) ?_
          refine x_iload_n hx hb dX4_toHold_70 rfl (lv_at hl 2 rfl) ?_
          refine x_icmp_ge (tgt := 108) hx hb dX4_toHold_71 (by decide) (fun hc => ?_) (fun hc => ?_)
          · exact hj12 (S13, v14) _ _ _ ⟨hU, hS, _, rfl, lv_sub hl [0, 1, 2, 3, 4] rfl⟩
          · refine x_iload hx hb dX4_toHold_74 (lv_at hl 4 rfl) ?_
            refine x_if_eq (tgt := 108) hx hb dX4_toHold_76 (by decide) (fun hc => ?_) (fun hc => ?_)
            · exact hj12 (S13, v14) _ _ _ ⟨hU, hS, _, rfl, lv_sub hl [0, 1, 2, 3, 4] rfl⟩
            · refine x_aload_n hx hb dX4_toHold_79 rfl (lv_at hl 0 rfl) ?_
              refine x_bipush (v := 49) hx hb dX4_toHold_80 (by decide) ?_
              refine kM_dayGoes E hU hS hA0 ⟨by decide, by decide⟩ hl.1 (Nat.le_of_ble_eq_true rfl) dX4_toHold_82 ⟨Nat.le_refl _, Nat.le_refl _⟩ (fun o17 H locs hU hS => ?_)
              refine x_aload_n hx hb dX4_toHold_85 rfl (lv_at hl 0 rfl) ?_
              refine x_bipush (v := 49) hx hb dX4_toHold_86 (by decide) ?_
              refine x_iload_n hx hb dX4_toHold_88 rfl (lv_at hl 1 rfl) ?_
              refine kM_isGap E hU hS hA0 ⟨by decide, by decide⟩ hl.1 (Nat.le_of_ble_eq_true rfl) dX4_toHold_89 ⟨Nat.le_refl _, Nat.le_refl _⟩ (fun o18 H locs hU hS => ?_)
              refine x_if_ne (tgt := 99) hx hb dX4_toHold_92 (by decide) (fun hc => ?_) (fun hc => ?_)
              · refine x_iconst (v := 0) hx hb dX4_toHold_99 (by decide) ?_
                refine x_istore (lv' := [(4, .int (0 : Int32)), (0, .ref (ad (0))), (1, .int p1), (2, .int p2), (3, .int v5), (5, .int v15)]) hx hb dX4_toHold_100 hl (by decide) rfl (fun ls hl => ?_)
                refine x_iinc (v := (v15 + (1 : Int32))) (lv' := [(5, .int (v15 + (1 : Int32))), (4, .int (0 : Int32)), (0, .ref (ad (0))), (1, .int p1), (2, .int p2), (3, .int v5)]) (k := 5) hx hb dX4_toHold_102 hl rfl rfl (by decide) rfl (fun ls hl => ?_)
                refine x_goto (tgt := 68) hx hb dX4_toHold_105 (by decide) ?_
                exact ih16 (o17, (0 : Int32), (v15 + (1 : Int32))) _ _ _ ⟨hU, hS, _, rfl, lv_sub hl [2, 3, 4, 5, 1, 0] rfl⟩
              · refine x_iconst (v := 1) hx hb dX4_toHold_95 (by decide) ?_
                refine x_goto (tgt := 100) hx hb dX4_toHold_96 (by decide) ?_
                refine x_istore (lv' := [(4, .int (1 : Int32)), (0, .ref (ad (0))), (1, .int p1), (2, .int p2), (3, .int v5), (5, .int v15)]) hx hb dX4_toHold_100 hl (by decide) rfl (fun ls hl => ?_)
                refine x_iinc (v := (v15 + (1 : Int32))) (lv' := [(5, .int (v15 + (1 : Int32))), (4, .int (1 : Int32)), (0, .ref (ad (0))), (1, .int p1), (2, .int p2), (3, .int v5)]) (k := 5) hx hb dX4_toHold_102 hl rfl rfl (by decide) rfl (fun ls hl => ?_)
                refine x_goto (tgt := 68) hx hb dX4_toHold_105 (by decide) ?_
                exact ih16 (o17, (1 : Int32), (v15 + (1 : Int32))) _ _ _ ⟨hU, hS, _, rfl, lv_sub hl [2, 3, 4, 5, 1, 0] rfl⟩
    · refine x_iconst (v := 0) hx hb dX4_toHold_23 (by decide) ?_
      exact x_iret hx hb hr hlk hS rfl (hU.to fun _ _ => trivial) dX4_toHold_24

set_option maxHeartbeats 4000000 in
theorem mM_toSend (l : Launch) (D : va_G) (ct : CT) (ad : Nat → Nat) (S : US) (w : Int64) (p1 : Int32) (p2 : Int32) (p3 : Int32) (sz : Nat) (o : (Int32 × US)) (ho : sM_toSend S p1 p2 p3 = some o) : Met l yX4_toSend (ws_ yX4_toSend cX4_toSend 8 (some .int)) { frames := 7, cells := 0, slots := 0, locals := 167 } (mP D clW ct [.ref (ad (0)), .int p1, .int p2, .int p3] sz (UM D ct ad (fun _ => True) S w)) (mC (some (.int o.1)) (UM D ct ad (fun _ => True) o.2 w) (uA 31 ad sz)) 0 0 (uA 31 ad sz) := by
  refine X.start (val := fun (o : (Int32 × US)) => some (.int o.1)) (Bt := fun (o : (Int32 × US)) => UM D ct ad (fun _ => True) o.2 w) (A := uA 31 ad sz) ho (by decide) (Nat.le_of_ble_eq_true rfl) rfl ?_
  intro p e s m args below meth c E hr hlk hnm hsz hU ls hl
  subst hsz
  obtain ⟨⟨hx, hb, hml, hown, hts⟩, hK, hJ⟩ := id E
  replace hU := hU.to (B := uA 31 ad s.heap.size) (fun i hi => Or.inl ⟨i, hi, rfl⟩)
  have hA0 : ∀ q, s.heap.size ≤ q → (uA 31 ad s.heap.size) q := fun q h => Or.inr h
  have hS : va_S (uA 31 ad s.heap.size) s.heap s.heap [] := va_S.rf
  unfold sM_toSend
  refine x_aload_n hx hb dX4_toSend_0 rfl (lv_at hl 0 rfl) ?_
  refine x_iconst (v := 0) hx hb dX4_toSend_1 (by decide) ?_
  refine pM_thrown E hU hS dX4_toSend_2 (fun S1 H locs hU hS => ?_)
  refine x_aload_n hx hb dX4_toSend_5 rfl (lv_at hl 0 rfl) ?_
  refine x_iload_n hx hb dX4_toSend_6 rfl (lv_at hl 1 rfl) ?_
  refine kM_isWoman E hU hS hA0 ⟨by decide, by decide⟩ hl.1 (Nat.le_of_ble_eq_true rfl) dX4_toSend_7 ⟨Nat.le_refl _, Nat.le_refl _⟩ (fun o2 H locs hU hS => ?_)
  refine x_if_eq (tgt := 32) hx hb dX4_toSend_10 (by decide) (fun hc => ?_) (fun hc => ?_)
  · refine x_iconst (v := 0) hx hb dX4_toSend_32 (by decide) ?_
    exact x_iret hx hb hr hlk hS rfl (hU.to fun _ _ => trivial) dX4_toSend_33
  · refine x_aload_n hx hb dX4_toSend_13 rfl (lv_at hl 0 rfl) ?_
    refine x_iload_n hx hb dX4_toSend_14 rfl (lv_at hl 3 rfl) ?_
    refine x_iconst (v := 1) hx hb dX4_toSend_15 (by decide) ?_
    refine kM_isWhat E hU hS hA0 ⟨by decide, by decide⟩ hl.1 (Nat.le_of_ble_eq_true rfl) dX4_toSend_16 ⟨Nat.le_refl _, Nat.le_refl _⟩ (fun o3 H locs hU hS => ?_)
    refine x_if_eq (tgt := 32) hx hb dX4_toSend_19 (by decide) (fun hc => ?_) (fun hc => ?_)
    · refine x_iconst (v := 0) hx hb dX4_toSend_32 (by decide) ?_
      exact x_iret hx hb hr hlk hS rfl (hU.to fun _ _ => trivial) dX4_toSend_33
    · refine x_aload_n hx hb dX4_toSend_22 rfl (lv_at hl 0 rfl) ?_
      refine x_iload_n hx hb dX4_toSend_23 rfl (lv_at hl 2 rfl) ?_
      refine x_iconst (v := 1) hx hb dX4_toSend_24 (by decide) ?_
      refine x_iconst (v := 2) hx hb dX4_toSend_25 (by decide) ?_
      refine kM_isDays E hU hS hA0 ⟨by decide, by decide⟩ hl.1 (Nat.le_of_ble_eq_true rfl) dX4_toSend_26 ⟨Nat.le_refl _, Nat.le_refl _⟩ (fun o4 H locs hU hS => ?_)
      refine x_if_ne (tgt := 34) hx hb dX4_toSend_29 (by decide) (fun hc => ?_) (fun hc => ?_)
      · refine x_iconst (v := -1) hx hb dX4_toSend_34 (by decide) ?_
        refine x_istore (lv' := [(4, .int (-1 : Int32)), (0, .ref (ad (0))), (1, .int p1), (2, .int p2), (3, .int p3)]) hx hb dX4_toSend_35 hl (by decide) rfl (fun ls hl => ?_)
        refine x_ldcw hx hb hown (hts _ q2352) dX4_toSend_37 ?_
        refine x_istore (lv' := [(5, .int (99999 : Int32)), (4, .int (-1 : Int32)), (0, .ref (ad (0))), (1, .int p1), (2, .int p2), (3, .int p3)]) hx hb dX4_toSend_40 hl (by decide) rfl (fun ls hl => ?_)
        refine x_iconst (v := 0) hx hb dX4_toSend_42 (by decide) ?_
        refine x_istore (lv' := [(6, .int (0 : Int32)), (5, .int (99999 : Int32)), (4, .int (-1 : Int32)), (0, .ref (ad (0))), (1, .int p1), (2, .int p2), (3, .int p3)]) hx hb dX4_toSend_43 hl (by decide) rfl (fun ls hl => ?_)
        refine X.loop (I := fun (x : (US × Int32 × Int32 × Int32)) g H locs => UM D ct ad (uA 31 ad s.heap.size) x.1 w H ∧ va_S (uA 31 ad s.heap.size) s.heap H locs ∧ ∃ ls : Array Slot, g = F0 m 45 ls [] ∧ lv_has ls 8 [(0, .ref (ad (0))), (1, .int p1), (2, .int p2), (3, .int p3), (4, .int x.2.1), (5, .int x.2.2.1), (6, .int x.2.2.2)]) (fun rc9 ih9 => ?_) FUEL _ _ _ _ ⟨hU, hS, _, rfl, lv_sub hl [3, 4, 5, 6, 2, 1, 0] rfl⟩
        rintro ⟨S5, v6, v7, v8⟩ _ H locs ⟨hU, hS, ls, rfl, hl⟩
        have hU : UM D ct ad (uA 31 ad s.heap.size) S5 w H := hU
        have hl : lv_has ls 8 [(0, .ref (ad (0))), (1, .int p1), (2, .int p2), (3, .int p3), (4, .int v6), (5, .int v7), (6, .int v8)] := hl
        refine X.eqs (sp2 := sM_toSend_L45 p1 p2 p3 rc9 S5 v6 v7 v8) rfl ?_
        unfold sM_toSend_L45
        refine x_iload hx hb dX4_toSend_45 (lv_at hl 6 rfl) ?_
        refine x_aload_n hx hb dX4_toSend_47 rfl (lv_at hl 0 rfl) ?_
        refine gM_many E hU dX4_toSend_48 ?_
        refine x_icmp_ge (tgt := 109) hx hb dX4_toSend_51 (by decide) (fun hc => ?_) (fun hc => ?_)
        · refine x_iload_n hx hb dX4_toSend_109 rfl (lv_at hl 3 rfl) ?_
          refine x_if_ne (tgt := 118) hx hb dX4_toSend_110 (by decide) (fun hc => ?_) (fun hc => ?_)
          · refine x_iload hx hb dX4_toSend_118 (lv_at hl 5 rfl) ?_
            exact x_iret hx hb hr hlk hS rfl (hU.to fun _ _ => trivial) dX4_toSend_120
          · refine x_iload hx hb dX4_toSend_113 (lv_at hl 4 rfl) ?_
            refine x_goto (tgt := 120) hx hb dX4_toSend_115 (by decide) ?_
            exact x_iret hx hb hr hlk hS rfl (hU.to fun _ _ => trivial) dX4_toSend_120
        · refine x_aload_n hx hb dX4_toSend_54 rfl (lv_at hl 0 rfl) ?_
          refine kM_tries E hU hS hA0 ⟨by decide, by decide⟩ hl.1 (Nat.le_of_ble_eq_true rfl) dX4_toSend_55 ⟨Nat.le_refl _, Nat.le_refl _⟩ (fun o10 H locs hU hS => ?_)
          refine x_aload_n hx hb dX4_toSend_58 rfl (lv_at hl 0 rfl) ?_
          refine gM_rows E hU dX4_toSend_59 ?_
          refine x_bipush (v := 86) hx hb dX4_toSend_62 (by decide) ?_
          refine x_iload_n hx hb dX4_toSend_64 rfl (lv_at hl 1 rfl) ?_
          refine x_iadd hx hb dX4_toSend_65 ?_
          refine x_iload hx hb dX4_toSend_66 (lv_at hl 6 rfl) ?_
          refine ux_ast (i := 14) (n := 98) E hU hS (by decide) rfl dX4_toSend_68 (fun S11 H locs hU hS => ?_)
          refine x_aload_n hx hb dX4_toSend_69 rfl (lv_at hl 0 rfl) ?_
          refine x_iload_n hx hb dX4_toSend_70 rfl (lv_at hl 2 rfl) ?_
          refine kM_daysGo E hU hS hA0 ⟨by decide, by decide⟩ hl.1 (Nat.le_of_ble_eq_true rfl) dX4_toSend_71 ⟨Nat.le_refl _, Nat.le_refl _⟩ (fun o12 H locs hU hS => ?_)
          refine x_aload_n hx hb dX4_toSend_74 rfl (lv_at hl 0 rfl) ?_
          refine x_bipush (v := 49) hx hb dX4_toSend_75 (by decide) ?_
          refine kM_openOnes E hU hS hA0 ⟨by decide, by decide⟩ hl.1 (Nat.le_of_ble_eq_true rfl) dX4_toSend_77 ⟨Nat.le_refl _, Nat.le_refl _⟩ (fun o13 H locs hU hS => ?_)
          refine kM_bits E hS hA0 ⟨by decide, by decide⟩ hl.1 (Nat.le_of_ble_eq_true rfl) dX4_toSend_80 ⟨Nat.le_refl _, Nat.le_refl _⟩ (fun o14 H locs hk hS => ?_)
          replace hU := hU.kept (fun i hi => hk _ (hU.lt hi))
          refine x_istore (lv' := [(7, .int o14), (0, .ref (ad (0))), (1, .int p1), (2, .int p2), (3, .int p3), (4, .int v6), (5, .int v7), (6, .int v8)]) hx hb dX4_toSend_83 hl (by decide) rfl (fun ls hl => ?_)
          refine x_iload hx hb dX4_toSend_85 (lv_at hl 0 rfl) ?_
          refine x_iload hx hb dX4_toSend_87 (lv_at hl 6 rfl) ?_
          refine x_icmp_lt (tgt := 95) hx hb dX4_toSend_89 (by decide) (fun hc => ?_) (fun hc => ?_)
          · refine x_iload hx hb dX4_toSend_95 (lv_at hl 7 rfl) ?_
            refine x_istore (lv' := [(4, .int v8), (7, .int o14), (0, .ref (ad (0))), (1, .int p1), (2, .int p2), (3, .int p3), (5, .int v7), (6, .int v8)]) hx hb dX4_toSend_97 hl (by decide) rfl (fun ls hl => ?_)
            refine x_iload hx hb dX4_toSend_99 (lv_at hl 1 rfl) ?_
            refine x_istore (lv' := [(5, .int o14), (4, .int v8), (7, .int o14), (0, .ref (ad (0))), (1, .int p1), (2, .int p2), (3, .int p3), (6, .int v8)]) hx hb dX4_toSend_101 hl (by decide) rfl (fun ls hl => ?_)
            refine x_iinc (v := (v8 + (1 : Int32))) (lv' := [(6, .int (v8 + (1 : Int32))), (5, .int o14), (4, .int v8), (7, .int o14), (0, .ref (ad (0))), (1, .int p1), (2, .int p2), (3, .int p3)]) (k := 7) hx hb dX4_toSend_103 hl rfl rfl (by decide) rfl (fun ls hl => ?_)
            refine x_goto (tgt := 45) hx hb dX4_toSend_106 (by decide) ?_
            exact ih9 (o12, v8, o14, (v8 + (1 : Int32))) _ _ _ ⟨hU, hS, _, rfl, lv_sub hl [4, 5, 6, 7, 2, 1, 0] rfl⟩
          · refine x_goto (tgt := 103) hx hb dX4_toSend_92 (by decide) ?_
            refine x_iinc (v := (v8 + (1 : Int32))) (lv' := [(6, .int (v8 + (1 : Int32))), (7, .int o14), (0, .ref (ad (0))), (1, .int p1), (2, .int p2), (3, .int p3), (4, .int v6), (5, .int v7)]) (k := 7) hx hb dX4_toSend_103 hl rfl rfl (by decide) rfl (fun ls hl => ?_)
            refine x_goto (tgt := 45) hx hb dX4_toSend_106 (by decide) ?_
            exact ih9 (o12, v6, v7, (v8 + (1 : Int32))) _ _ _ ⟨hU, hS, _, rfl, lv_sub hl [2, 3, 4, 5, 6, 7, 0] rfl⟩
      · refine x_iconst (v := 0) hx hb dX4_toSend_32 (by decide) ?_
        exact x_iret hx hb hr hlk hS rfl (hU.to fun _ _ => trivial) dX4_toSend_33

set_option maxHeartbeats 4000000 in
theorem mM_bestStitch (l : Launch) (D : va_G) (ct : CT) (ad : Nat → Nat) (S : US) (w : Int64) (p1 : Int32) (p2 : Int32) (sz : Nat) (o : (Int32 × US)) (ho : sM_bestStitch S p1 p2 = some o) : Met l yX4_bestStitch (ws_ yX4_bestStitch cX4_bestStitch 6 (some .int)) { frames := 7, cells := 0, slots := 0, locals := 167 } (mP D clW ct [.ref (ad (0)), .int p1, .int p2] sz (UM D ct ad (fun _ => True) S w)) (mC (some (.int o.1)) (UM D ct ad (fun _ => True) o.2 w) (uA 31 ad sz)) 0 0 (uA 31 ad sz) := by
  refine X.start (val := fun (o : (Int32 × US)) => some (.int o.1)) (Bt := fun (o : (Int32 × US)) => UM D ct ad (fun _ => True) o.2 w) (A := uA 31 ad sz) ho (by decide) (Nat.le_of_ble_eq_true rfl) rfl ?_
  intro p e s m args below meth c E hr hlk hnm hsz hU ls hl
  subst hsz
  obtain ⟨⟨hx, hb, hml, hown, hts⟩, hK, hJ⟩ := id E
  replace hU := hU.to (B := uA 31 ad s.heap.size) (fun i hi => Or.inl ⟨i, hi, rfl⟩)
  have hA0 : ∀ q, s.heap.size ≤ q → (uA 31 ad s.heap.size) q := fun q h => Or.inr h
  have hS : va_S (uA 31 ad s.heap.size) s.heap s.heap [] := va_S.rf
  unfold sM_bestStitch
  refine x_aload_n hx hb dX4_bestStitch_0 rfl (lv_at hl 0 rfl) ?_
  refine x_iconst (v := 0) hx hb dX4_bestStitch_1 (by decide) ?_
  refine pM_thrown E hU hS dX4_bestStitch_2 (fun S1 H locs hU hS => ?_)
  refine x_aload_n hx hb dX4_bestStitch_5 rfl (lv_at hl 0 rfl) ?_
  refine x_iload_n hx hb dX4_bestStitch_6 rfl (lv_at hl 1 rfl) ?_
  refine kM_isStretch E hU hS hA0 ⟨by decide, by decide⟩ hl.1 (Nat.le_of_ble_eq_true rfl) dX4_bestStitch_7 ⟨Nat.le_refl _, Nat.le_refl _⟩ (fun o2 H locs hU hS => ?_)
  refine x_if_eq (tgt := 23) hx hb dX4_bestStitch_10 (by decide) (fun hc => ?_) (fun hc => ?_)
  · refine x_iconst (v := 0) hx hb dX4_bestStitch_23 (by decide) ?_
    exact x_iret hx hb hr hlk hS rfl (hU.to fun _ _ => trivial) dX4_bestStitch_24
  · refine x_aload_n hx hb dX4_bestStitch_13 rfl (lv_at hl 0 rfl) ?_
    refine x_iload_n hx hb dX4_bestStitch_14 rfl (lv_at hl 2 rfl) ?_
    refine x_iconst (v := 1) hx hb dX4_bestStitch_15 (by decide) ?_
    refine x_iconst (v := 2) hx hb dX4_bestStitch_16 (by decide) ?_
    refine kM_isDays E hU hS hA0 ⟨by decide, by decide⟩ hl.1 (Nat.le_of_ble_eq_true rfl) dX4_bestStitch_17 ⟨Nat.le_refl _, Nat.le_refl _⟩ (fun o3 H locs hU hS => ?_)
    refine x_if_ne (tgt := 25) hx hb dX4_bestStitch_20 (by decide) (fun hc => ?_) (fun hc => ?_)
    · refine x_iconst (v := -1) hx hb dX4_bestStitch_25 (by decide) ?_
      refine x_istore_n (lv' := [(3, .int (-1 : Int32)), (0, .ref (ad (0))), (1, .int p1), (2, .int p2)]) hx hb dX4_bestStitch_26 rfl hl (by decide) rfl (fun ls hl => ?_)
      refine x_iconst (v := -1) hx hb dX4_bestStitch_27 (by decide) ?_
      refine x_istore (lv' := [(4, .int (-1 : Int32)), (3, .int (-1 : Int32)), (0, .ref (ad (0))), (1, .int p1), (2, .int p2)]) hx hb dX4_bestStitch_28 hl (by decide) rfl (fun ls hl => ?_)
      refine x_iconst (v := 0) hx hb dX4_bestStitch_30 (by decide) ?_
      refine x_istore (lv' := [(5, .int (0 : Int32)), (4, .int (-1 : Int32)), (3, .int (-1 : Int32)), (0, .ref (ad (0))), (1, .int p1), (2, .int p2)]) hx hb dX4_bestStitch_31 hl (by decide) rfl (fun ls hl => ?_)
      refine X.loop (I := fun (x : (US × Int32 × Int32 × Int32)) g H locs => UM D ct ad (uA 31 ad s.heap.size) x.1 w H ∧ va_S (uA 31 ad s.heap.size) s.heap H locs ∧ ∃ ls : Array Slot, g = F0 m 33 ls [] ∧ lv_has ls 6 [(0, .ref (ad (0))), (1, .int p1), (2, .int p2), (3, .int x.2.1), (4, .int x.2.2.1), (5, .int x.2.2.2)]) (fun rc8 ih8 => ?_) FUEL _ _ _ _ ⟨hU, hS, _, rfl, lv_sub hl [3, 4, 5, 2, 1, 0] rfl⟩
      rintro ⟨S4, v5, v6, v7⟩ _ H locs ⟨hU, hS, ls, rfl, hl⟩
      have hU : UM D ct ad (uA 31 ad s.heap.size) S4 w H := hU
      have hl : lv_has ls 6 [(0, .ref (ad (0))), (1, .int p1), (2, .int p2), (3, .int v5), (4, .int v6), (5, .int v7)] := hl
      refine X.eqs (sp2 := sM_bestStitch_L33 p1 p2 rc8 S4 v5 v6 v7) rfl ?_
      unfold sM_bestStitch_L33
      refine x_iload hx hb dX4_bestStitch_33 (lv_at hl 5 rfl) ?_
      refine x_iconst (v := 3) hx hb dX4_bestStitch_35 (by decide) ?_
      refine x_icmp_ge (tgt := 96) hx hb dX4_bestStitch_36 (by decide) (fun hc => ?_) (fun hc => ?_)
      · refine x_iload_n hx hb dX4_bestStitch_96 rfl (lv_at hl 3 rfl) ?_
        exact x_iret hx hb hr hlk hS rfl (hU.to fun _ _ => trivial) dX4_bestStitch_97
      · refine x_aload_n hx hb dX4_bestStitch_39 rfl (lv_at hl 0 rfl) ?_
        refine kM_tries E hU hS hA0 ⟨by decide, by decide⟩ hl.1 (Nat.le_of_ble_eq_true rfl) dX4_bestStitch_40 ⟨Nat.le_refl _, Nat.le_refl _⟩ (fun o9 H locs hU hS => ?_)
        refine x_aload_n hx hb dX4_bestStitch_43 rfl (lv_at hl 0 rfl) ?_
        refine gM_rows E hU dX4_bestStitch_44 ?_
        refine x_bipush (v := 74) hx hb dX4_bestStitch_47 (by decide) ?_
        refine x_iload_n hx hb dX4_bestStitch_49 rfl (lv_at hl 1 rfl) ?_
        refine x_iadd hx hb dX4_bestStitch_50 ?_
        refine x_iload hx hb dX4_bestStitch_51 (lv_at hl 5 rfl) ?_
        refine ux_ast (i := 14) (n := 98) E hU hS (by decide) rfl dX4_bestStitch_53 (fun S10 H locs hU hS => ?_)
        refine x_aload_n hx hb dX4_bestStitch_54 rfl (lv_at hl 0 rfl) ?_
        refine x_iload_n hx hb dX4_bestStitch_55 rfl (lv_at hl 2 rfl) ?_
        refine kM_daysGo E hU hS hA0 ⟨by decide, by decide⟩ hl.1 (Nat.le_of_ble_eq_true rfl) dX4_bestStitch_56 ⟨Nat.le_refl _, Nat.le_refl _⟩ (fun o11 H locs hU hS => ?_)
        refine x_aload_n hx hb dX4_bestStitch_59 rfl (lv_at hl 0 rfl) ?_
        refine gM_rows E hU dX4_bestStitch_60 ?_
        refine x_bipush (v := 62) hx hb dX4_bestStitch_63 (by decide) ?_
        refine x_iload_n hx hb dX4_bestStitch_65 rfl (lv_at hl 1 rfl) ?_
        refine x_iadd hx hb dX4_bestStitch_66 ?_
        refine ux_ald (i := 14) (n := 98) E hU (by decide) rfl dX4_bestStitch_67 ?_
        refine x_iload hx hb dX4_bestStitch_68 (lv_at hl 4 rfl) ?_
        refine x_icmp_gt (tgt := 76) hx hb dX4_bestStitch_70 (by decide) (fun hc => ?_) (fun hc => ?_)
        · refine x_iload hx hb dX4_bestStitch_76 (lv_at hl 5 rfl) ?_
          refine x_istore_n (lv' := [(3, .int v7), (0, .ref (ad (0))), (1, .int p1), (2, .int p2), (4, .int v6), (5, .int v7)]) hx hb dX4_bestStitch_78 rfl hl (by decide) rfl (fun ls hl => ?_)
          refine x_aload_n hx hb dX4_bestStitch_79 rfl (lv_at hl 1 rfl) ?_
          refine gM_rows E hU dX4_bestStitch_80 ?_
          refine x_bipush (v := 62) hx hb dX4_bestStitch_83 (by decide) ?_
          refine x_iload_n hx hb dX4_bestStitch_85 rfl (lv_at hl 2 rfl) ?_
          refine x_iadd hx hb dX4_bestStitch_86 ?_
          refine ux_ald (i := 14) (n := 98) E hU (by decide) rfl dX4_bestStitch_87 ?_
          refine x_istore (lv' := [(4, .int (o11 14 ((62 : Int32) + p1).toNatClampNeg)), (3, .int v7), (0, .ref (ad (0))), (1, .int p1), (2, .int p2), (5, .int v7)]) hx hb dX4_bestStitch_88 hl (by decide) rfl (fun ls hl => ?_)
          refine x_iinc (v := (v7 + (1 : Int32))) (lv' := [(5, .int (v7 + (1 : Int32))), (4, .int (o11 14 ((62 : Int32) + p1).toNatClampNeg)), (3, .int v7), (0, .ref (ad (0))), (1, .int p1), (2, .int p2)]) (k := 5) hx hb dX4_bestStitch_90 hl rfl rfl (by decide) rfl (fun ls hl => ?_)
          refine x_goto (tgt := 33) hx hb dX4_bestStitch_93 (by decide) ?_
          exact ih8 (o11, v7, (o11 14 ((62 : Int32) + p1).toNatClampNeg), (v7 + (1 : Int32))) _ _ _ ⟨hU, hS, _, rfl, lv_sub hl [3, 4, 5, 2, 1, 0] rfl⟩
        · refine x_goto (tgt := 90) hx hb dX4_bestStitch_73 (by decide) ?_
          refine x_iinc (v := (v7 + (1 : Int32))) (lv' := [(5, .int (v7 + (1 : Int32))), (0, .ref (ad (0))), (1, .int p1), (2, .int p2), (3, .int v5), (4, .int v6)]) (k := 5) hx hb dX4_bestStitch_90 hl rfl rfl (by decide) rfl (fun ls hl => ?_)
          refine x_goto (tgt := 33) hx hb dX4_bestStitch_93 (by decide) ?_
          exact ih8 (o11, v5, v6, (v7 + (1 : Int32))) _ _ _ ⟨hU, hS, _, rfl, lv_sub hl [1, 2, 3, 4, 5, 0] rfl⟩
    · refine x_iconst (v := 0) hx hb dX4_bestStitch_23 (by decide) ?_
      exact x_iret hx hb hr hlk hS rfl (hU.to fun _ _ => trivial) dX4_bestStitch_24

set_option maxHeartbeats 4000000 in
theorem mM_stepsBy (l : Launch) (D : va_G) (ct : CT) (ad : Nat → Nat) (S : US) (w : Int64) (p1 : Int32) (p2 : Int32) (sz : Nat) (o : Int32) (ho : sM_stepsBy S p1 p2 = some o) : Met l yX4_stepsBy (ws_ yX4_stepsBy cX4_stepsBy 4 (some .int)) { frames := 2, cells := 0, slots := 0, locals := 53 } (mP D clW ct [.ref (ad (0)), .int p1, .int p2] sz (UM D ct ad (fun _ => True) S w)) (mC (some (.int o)) (fun _ => True) (nA sz)) 0 0 (nA sz) := by
  refine X.start (val := fun (o : Int32) => some (.int o)) (Bt := fun _ _ => True) (A := nA sz) ho (by decide) (Nat.le_of_ble_eq_true rfl) rfl ?_
  intro p e s m args below meth c E hr hlk hnm hsz hU ls hl
  subst hsz
  obtain ⟨⟨hx, hb, hml, hown, hts⟩, hK, hJ⟩ := id E
  have hA0 : ∀ q, s.heap.size ≤ q → (nA s.heap.size) q := fun q h => h
  have hS : va_S (nA s.heap.size) s.heap s.heap [] := va_S.rf
  unfold sM_stepsBy
  refine x_iload_n hx hb dX4_stepsBy_0 rfl (lv_at hl 1 rfl) ?_
  refine x_iload_n hx hb dX4_stepsBy_1 rfl (lv_at hl 2 rfl) ?_
  refine x_icmp_ge (tgt := 11) hx hb dX4_stepsBy_2 (by decide) (fun hc => ?_) (fun hc => ?_)
  · refine x_iload_n hx hb dX4_stepsBy_11 rfl (lv_at hl 1 rfl) ?_
    refine x_iload_n hx hb dX4_stepsBy_12 rfl (lv_at hl 2 rfl) ?_
    refine x_isub hx hb dX4_stepsBy_13 ?_
    refine x_istore_n (lv' := [(3, .int (p1 - p2)), (0, .ref (ad (0))), (1, .int p1), (2, .int p2)]) hx hb dX4_stepsBy_14 rfl hl (by decide) rfl (fun ls hl => ?_)
    refine x_iload_n hx hb dX4_stepsBy_15 rfl (lv_at hl 0 rfl) ?_
    refine x_aload_n hx hb dX4_stepsBy_16 rfl (lv_at hl 1 rfl) ?_
    refine gM_many E hU dX4_stepsBy_17 ?_
    refine x_iload_n hx hb dX4_stepsBy_20 rfl (lv_at hl 0 rfl) ?_
    refine x_isub hx hb dX4_stepsBy_21 ?_
    refine kM_lesser E hS hA0 ⟨by decide, by decide⟩ hl.1 (Nat.le_of_ble_eq_true rfl) dX4_stepsBy_22 ⟨Nat.le_refl _, Nat.le_refl _⟩ (fun o1 H locs hk hS => ?_)
    replace hU := hU.kept (fun i hi => hk _ (hU.lt hi))
    exact x_iret hx hb hr hlk hS rfl trivial dX4_stepsBy_25
  · refine x_iload_n hx hb dX4_stepsBy_5 rfl (lv_at hl 2 rfl) ?_
    refine x_iload_n hx hb dX4_stepsBy_6 rfl (lv_at hl 1 rfl) ?_
    refine x_isub hx hb dX4_stepsBy_7 ?_
    refine x_goto (tgt := 14) hx hb dX4_stepsBy_8 (by decide) ?_
    refine x_istore_n (lv' := [(3, .int (p2 - p1)), (0, .ref (ad (0))), (1, .int p1), (2, .int p2)]) hx hb dX4_stepsBy_14 rfl hl (by decide) rfl (fun ls hl => ?_)
    refine x_iload_n hx hb dX4_stepsBy_15 rfl (lv_at hl 0 rfl) ?_
    refine x_aload_n hx hb dX4_stepsBy_16 rfl (lv_at hl 1 rfl) ?_
    refine gM_many E hU dX4_stepsBy_17 ?_
    refine x_iload_n hx hb dX4_stepsBy_20 rfl (lv_at hl 0 rfl) ?_
    refine x_isub hx hb dX4_stepsBy_21 ?_
    refine kM_lesser E hS hA0 ⟨by decide, by decide⟩ hl.1 (Nat.le_of_ble_eq_true rfl) dX4_stepsBy_22 ⟨Nat.le_refl _, Nat.le_refl _⟩ (fun o2 H locs hk hS => ?_)
    replace hU := hU.kept (fun i hi => hk _ (hU.lt hi))
    exact x_iret hx hb hr hlk hS rfl trivial dX4_stepsBy_25
section MK
variable {ρ : Type} {p : Program} {l : Launch} {e : Env} {R : Room} {s : State} {m : MethodId} {args : Array Value} {below : List Frame} {meth : Method} {c : Code} {H : Heap} {locs : List Loc} {cells slots : Nat} {Qf : ρ → State → Prop}
variable {cc : ByteArray} {pc nL : Nat} {ls : Array Slot} {rest : List Value}
variable {D : va_G} {ct : CT} {ad : Nat → Nat} {A A0 : Nat → Prop} {S : US} {w : Int64} {H0 : Heap}
theorem kM_stepsBy {p1 : Int32} {p2 : Int32} (E : ME p m c cc nL s args RX4 D clW ct) (hU : UM D ct ad A S w H) (hS : va_S A0 H0 H locs) (hA0 : ∀ q, H0.size ≤ q → A0 q) (hR : 2 + 1 ≤ R.frames ∧ 8 + (4 + 11) + 53 ≤ R.locals) (hsize : ls.size = nL) (hW : (rest.map fun v => v.category).sum ≤ 8) (hdg : decode cc pc = .ok (.invokevirtual 410, 3)) (hf : cells ≤ R.cells ∧ slots ≤ R.slots) {kp : Int32 → Option ρ} (kk : ∀ (o : Int32) (H1 : Heap) (locs1 : List Loc), UM D ct ad A S w H1 → va_S A0 H0 H1 locs1 → X p l e R s m args below meth c H1 locs1 cells slots Qf (kp o) (F0 m (pc + 3) ls (.int o :: rest))) : X p l e R s m args below meth c H locs cells slots Qf (callK (sM_stepsBy S p1 p2) kp) (F0 m pc ls (.int p2 :: .int p1 :: .ref (ad 0) :: rest)) := ucV_pure (i := 0) (As := [.int p1, .int p2]) E hU hS hA0 (by decide) rfl rfl (fun sz o ho => mM_stepsBy l D ct ad S w p1 p2 sz o ho) (cwV 2 E.1.2.2.2.2 (lw_V q2385 q2387 qs104 q119 q2388) rfl rfl rfl (by decide +kernel) hR) rfl hsize rfl hW hdg hf kk
end MK

set_option maxHeartbeats 4000000 in
theorem mM_byWoman (l : Launch) (D : va_G) (ct : CT) (ad : Nat → Nat) (S : US) (w : Int64) (p1 : Int32) (p2 : Int32) (p3 : Int32) (sz : Nat) (o : Int32) (ho : sM_byWoman S p1 p2 p3 = some o) : Met l yX4_byWoman (ws_ yX4_byWoman cX4_byWoman 4 (some .int)) { frames := 3, cells := 0, slots := 0, locals := 76 } (mP D clW ct [.ref (ad (0)), .int p1, .int p2, .int p3] sz (UM D ct ad (fun _ => True) S w)) (mC (some (.int o)) (fun _ => True) (nA sz)) 0 0 (nA sz) := by
  refine X.start (val := fun (o : Int32) => some (.int o)) (Bt := fun _ _ => True) (A := nA sz) ho (by decide) (Nat.le_of_ble_eq_true rfl) rfl ?_
  intro p e s m args below meth c E hr hlk hnm hsz hU ls hl
  subst hsz
  obtain ⟨⟨hx, hb, hml, hown, hts⟩, hK, hJ⟩ := id E
  have hA0 : ∀ q, s.heap.size ≤ q → (nA s.heap.size) q := fun q h => h
  have hS : va_S (nA s.heap.size) s.heap s.heap [] := va_S.rf
  unfold sM_byWoman
  refine x_aload_n hx hb dX4_byWoman_0 rfl (lv_at hl 0 rfl) ?_
  refine x_aload_n hx hb dX4_byWoman_1 rfl (lv_at hl 0 rfl) ?_
  refine gM_rows E hU dX4_byWoman_2 ?_
  refine x_bipush (v := 37) hx hb dX4_byWoman_5 (by decide) ?_
  refine x_iload_n hx hb dX4_byWoman_7 rfl (lv_at hl 2 rfl) ?_
  refine x_iadd hx hb dX4_byWoman_8 ?_
  refine ux_ald (i := 14) (n := 98) E hU (by decide) rfl dX4_byWoman_9 ?_
  refine x_aload_n hx hb dX4_byWoman_10 rfl (lv_at hl 0 rfl) ?_
  refine gM_wanted E hU dX4_byWoman_11 ?_
  refine x_iload_n hx hb dX4_byWoman_14 rfl (lv_at hl 1 rfl) ?_
  refine ux_ald (i := 20) (n := 6) E hU (by decide) rfl dX4_byWoman_15 ?_
  refine kM_stepsBy E hU hS hA0 ⟨by decide, by decide⟩ hl.1 (Nat.le_of_ble_eq_true rfl) dX4_byWoman_16 ⟨Nat.le_refl _, Nat.le_refl _⟩ (fun o1 H locs hU hS => ?_)
  refine x_aload_n hx hb dX4_byWoman_19 rfl (lv_at hl 0 rfl) ?_
  refine gM_fewest E hU dX4_byWoman_20 ?_
  refine x_bipush (v := 64) hx hb dX4_byWoman_23 (by decide) ?_
  refine x_iload_n hx hb dX4_byWoman_25 rfl (lv_at hl 1 rfl) ?_
  refine x_iconst (v := 1) hx hb dX4_byWoman_26 (by decide) ?_
  refine x_iadd hx hb dX4_byWoman_27 ?_
  refine x_imul hx hb dX4_byWoman_28 ?_
  refine x_iload_n hx hb dX4_byWoman_29 rfl (lv_at hl 3 rfl) ?_
  refine x_iconst (v := 1) hx hb dX4_byWoman_30 (by decide) ?_
  refine x_iload_n hx hb dX4_byWoman_31 rfl (lv_at hl 2 rfl) ?_
  refine x_ishl hx hb dX4_byWoman_32 ?_
  refine x_ior hx hb dX4_byWoman_33 ?_
  refine x_iadd hx hb dX4_byWoman_34 ?_
  refine ux_ald (i := 19) (n := 448) E hU (by decide) rfl dX4_byWoman_35 ?_
  refine x_iadd hx hb dX4_byWoman_36 ?_
  exact x_iret hx hb hr hlk hS rfl trivial dX4_byWoman_37
section MK
variable {ρ : Type} {p : Program} {l : Launch} {e : Env} {R : Room} {s : State} {m : MethodId} {args : Array Value} {below : List Frame} {meth : Method} {c : Code} {H : Heap} {locs : List Loc} {cells slots : Nat} {Qf : ρ → State → Prop}
variable {cc : ByteArray} {pc nL : Nat} {ls : Array Slot} {rest : List Value}
variable {D : va_G} {ct : CT} {ad : Nat → Nat} {A A0 : Nat → Prop} {S : US} {w : Int64} {H0 : Heap}
theorem kM_byWoman {p1 : Int32} {p2 : Int32} {p3 : Int32} (E : ME p m c cc nL s args RX4 D clW ct) (hU : UM D ct ad A S w H) (hS : va_S A0 H0 H locs) (hA0 : ∀ q, H0.size ≤ q → A0 q) (hR : 3 + 1 ≤ R.frames ∧ 8 + (4 + 11) + 76 ≤ R.locals) (hsize : ls.size = nL) (hW : (rest.map fun v => v.category).sum ≤ 8) (hdg : decode cc pc = .ok (.invokevirtual 413, 3)) (hf : cells ≤ R.cells ∧ slots ≤ R.slots) {kp : Int32 → Option ρ} (kk : ∀ (o : Int32) (H1 : Heap) (locs1 : List Loc), UM D ct ad A S w H1 → va_S A0 H0 H1 locs1 → X p l e R s m args below meth c H1 locs1 cells slots Qf (kp o) (F0 m (pc + 3) ls (.int o :: rest))) : X p l e R s m args below meth c H locs cells slots Qf (callK (sM_byWoman S p1 p2 p3) kp) (F0 m pc ls (.int p3 :: .int p2 :: .int p1 :: .ref (ad 0) :: rest)) := ucV_pure (i := 0) (As := [.int p1, .int p2, .int p3]) E hU hS hA0 (by decide) rfl rfl (fun sz o ho => mM_byWoman l D ct ad S w p1 p2 p3 sz o ho) (cwV 3 E.1.2.2.2.2 (lw_V q2381 q2383 qs103 q119 q2384) rfl rfl rfl (by decide +kernel) hR) rfl hsize rfl hW hdg hf kk
end MK

set_option maxHeartbeats 4000000 in
theorem mM_sent (l : Launch) (D : va_G) (ct : CT) (ad : Nat → Nat) (S : US) (w : Int64) (p1 : Int32) (p2 : Int32) (sz : Nat) (o : (Int32 × US)) (ho : sM_sent S p1 p2 = some o) : Met l yX4_sent (ws_ yX4_sent cX4_sent 8 (some .int)) { frames := 4, cells := 0, slots := 0, locals := 99 } (mP D clW ct [.ref (ad (0)), .int p1, .int p2] sz (UM D ct ad (fun _ => True) S w)) (mC (some (.int o.1)) (UM D ct ad (fun _ => True) o.2 w) (uA 31 ad sz)) 0 0 (uA 31 ad sz) := by
  refine X.start (val := fun (o : (Int32 × US)) => some (.int o.1)) (Bt := fun (o : (Int32 × US)) => UM D ct ad (fun _ => True) o.2 w) (A := uA 31 ad sz) ho (by decide) (Nat.le_of_ble_eq_true rfl) rfl ?_
  intro p e s m args below meth c E hr hlk hnm hsz hU ls hl
  subst hsz
  obtain ⟨⟨hx, hb, hml, hown, hts⟩, hK, hJ⟩ := id E
  replace hU := hU.to (B := uA 31 ad s.heap.size) (fun i hi => Or.inl ⟨i, hi, rfl⟩)
  have hA0 : ∀ q, s.heap.size ≤ q → (uA 31 ad s.heap.size) q := fun q h => Or.inr h
  have hS : va_S (uA 31 ad s.heap.size) s.heap s.heap [] := va_S.rf
  unfold sM_sent
  refine x_aload_n hx hb dX4_sent_0 rfl (lv_at hl 0 rfl) ?_
  refine x_iconst (v := 0) hx hb dX4_sent_1 (by decide) ?_
  refine pM_thrown E hU hS dX4_sent_2 (fun S1 H locs hU hS => ?_)
  refine x_aload_n hx hb dX4_sent_5 rfl (lv_at hl 0 rfl) ?_
  refine x_iload_n hx hb dX4_sent_6 rfl (lv_at hl 1 rfl) ?_
  refine X.join2 (fun (x : Int32) g H locs => UM D ct ad (uA 31 ad s.heap.size) S1 w H ∧ va_S (uA 31 ad s.heap.size) s.heap H locs ∧ ∃ ls : Array Slot, g = F0 m 34 ls [.int x, .ref (ad (0))] ∧ lv_has ls 8 [(0, .ref (ad (0))), (1, .int p1), (2, .int p2)]) ?_ (fun j3 hj3 => ?_)
  · rintro y2 _ H locs ⟨hU, hS, ls, rfl, hl⟩
    refine X.eqs (sp2 := sM_sent_J34 p1 p2 S1 y2) rfl ?_
    unfold sM_sent_J34
    refine x_iconst (v := 2) hx hb dX4_sent_34 (by decide) ?_
    refine kM_right E hU hS hA0 ⟨by decide, by decide⟩ hl.1 (Nat.le_of_ble_eq_true rfl) dX4_sent_35 ⟨Nat.le_refl _, Nat.le_refl _⟩ (fun o4 H locs hU hS => ?_)
    refine x_if_ne (tgt := 43) hx hb dX4_sent_38 (by decide) (fun hc => ?_) (fun hc => ?_)
    · refine x_aload_n hx hb dX4_sent_43 rfl (lv_at hl 0 rfl) ?_
      refine x_iload_n hx hb dX4_sent_44 rfl (lv_at hl 2 rfl) ?_
      refine x_iconst (v := -1) hx hb dX4_sent_45 (by decide) ?_
      refine X.join2 (fun (x : Int32) g H locs => UM D ct ad (uA 31 ad s.heap.size) o4.2 w H ∧ va_S (uA 31 ad s.heap.size) s.heap H locs ∧ ∃ ls : Array Slot, g = F0 m 75 ls [.int x, .ref (ad (0))] ∧ lv_has ls 8 [(0, .ref (ad (0))), (1, .int p1), (2, .int p2)]) ?_ (fun j6 hj6 => ?_)
      · rintro y5 _ H locs ⟨hU, hS, ls, rfl, hl⟩
        refine X.eqs (sp2 := sM_sent_J75 p1 p2 o4 y5) rfl ?_
        unfold sM_sent_J75
        refine x_iconst (v := 1) hx hb dX4_sent_75 (by decide) ?_
        refine kM_right E hU hS hA0 ⟨by decide, by decide⟩ hl.1 (Nat.le_of_ble_eq_true rfl) dX4_sent_76 ⟨Nat.le_refl _, Nat.le_refl _⟩ (fun o7 H locs hU hS => ?_)
        refine x_if_ne (tgt := 84) hx hb dX4_sent_79 (by decide) (fun hc => ?_) (fun hc => ?_)
        · refine x_iconst (v := 0) hx hb dX4_sent_84 (by decide) ?_
          refine x_istore_n (lv' := [(3, .int (0 : Int32)), (0, .ref (ad (0))), (1, .int p1), (2, .int p2)]) hx hb dX4_sent_85 rfl hl (by decide) rfl (fun ls hl => ?_)
          refine x_iconst (v := 0) hx hb dX4_sent_86 (by decide) ?_
          refine x_istore (lv' := [(4, .int (0 : Int32)), (3, .int (0 : Int32)), (0, .ref (ad (0))), (1, .int p1), (2, .int p2)]) hx hb dX4_sent_87 hl (by decide) rfl (fun ls hl => ?_)
          refine X.loop (I := fun (x : (US × Int32 × Int32)) g H locs => UM D ct ad (uA 31 ad s.heap.size) x.1 w H ∧ va_S (uA 31 ad s.heap.size) s.heap H locs ∧ ∃ ls : Array Slot, g = F0 m 89 ls [] ∧ lv_has ls 8 [(0, .ref (ad (0))), (1, .int p1), (2, .int p2), (3, .int x.2.1), (4, .int x.2.2)]) (fun rc11 ih11 => ?_) FUEL _ _ _ _ ⟨hU, hS, _, rfl, lv_sub hl [2, 3, 4, 1, 0] rfl⟩
          rintro ⟨S8, v9, v10⟩ _ H locs ⟨hU, hS, ls, rfl, hl⟩
          have hU : UM D ct ad (uA 31 ad s.heap.size) S8 w H := hU
          have hl : lv_has ls 8 [(0, .ref (ad (0))), (1, .int p1), (2, .int p2), (3, .int v9), (4, .int v10)] := hl
          refine X.eqs (sp2 := sM_sent_L89 p1 p2 rc11 S8 v9 v10) rfl ?_
          unfold sM_sent_L89
          refine x_iload hx hb dX4_sent_89 (lv_at hl 4 rfl) ?_
          refine x_aload_n hx hb dX4_sent_91 rfl (lv_at hl 0 rfl) ?_
          refine gM_many E hU dX4_sent_92 ?_
          refine x_icmp_ge (tgt := 127) hx hb dX4_sent_95 (by decide) (fun hc => ?_) (fun hc => ?_)
          · refine x_iload_n hx hb dX4_sent_127 rfl (lv_at hl 3 rfl) ?_
            refine x_aload_n hx hb dX4_sent_128 rfl (lv_at hl 0 rfl) ?_
            refine gM_women E hU dX4_sent_129 ?_
            refine x_icmp_le (tgt := 138) hx hb dX4_sent_132 (by decide) (fun hc => ?_) (fun hc => ?_)
            · refine x_iconst (v := 0) hx hb dX4_sent_138 (by decide) ?_
              refine x_istore (lv' := [(4, .int (0 : Int32)), (0, .ref (ad (0))), (1, .int p1), (2, .int p2), (3, .int v9)]) hx hb dX4_sent_139 hl (by decide) rfl (fun ls hl => ?_)
              refine X.loop (I := fun (x : (US × Int32)) g H locs => UM D ct ad (uA 31 ad s.heap.size) x.1 w H ∧ va_S (uA 31 ad s.heap.size) s.heap H locs ∧ ∃ ls : Array Slot, g = F0 m 141 ls [] ∧ lv_has ls 8 [(0, .ref (ad (0))), (2, .int p2), (3, .int v9), (4, .int x.2)]) (fun rc14 ih14 => ?_) FUEL _ _ _ _ ⟨hU, hS, _, rfl, lv_sub hl [1, 3, 4, 0] rfl⟩
              rintro ⟨S12, v13⟩ _ H locs ⟨hU, hS, ls, rfl, hl⟩
              have hU : UM D ct ad (uA 31 ad s.heap.size) S12 w H := hU
              have hl : lv_has ls 8 [(0, .ref (ad (0))), (2, .int p2), (3, .int v9), (4, .int v13)] := hl
              refine X.eqs (sp2 := sM_sent_L141 p2 v9 rc14 S12 v13) rfl ?_
              unfold sM_sent_L141
              refine x_iload hx hb dX4_sent_141 (lv_at hl 3 rfl) ?_
              refine x_bipush (v := 64) hx hb dX4_sent_143 (by decide) ?_
              refine x_icmp_ge (tgt := 167) hx hb dX4_sent_145 (by decide) (fun hc => ?_) (fun hc => ?_)
              · refine x_iload_n hx hb dX4_sent_167 rfl (lv_at hl 2 rfl) ?_
                refine x_iconst (v := 1) hx hb dX4_sent_168 (by decide) ?_
                refine x_isub hx hb dX4_sent_169 ?_
                refine x_istore (lv' := [(4, .int (v9 - (1 : Int32))), (0, .ref (ad (0))), (2, .int p2), (3, .int v9)]) hx hb dX4_sent_170 hl (by decide) rfl (fun ls hl => ?_)
                refine X.loop (I := fun (x : (US × Int32)) g H locs => UM D ct ad (uA 31 ad s.heap.size) x.1 w H ∧ va_S (uA 31 ad s.heap.size) s.heap H locs ∧ ∃ ls : Array Slot, g = F0 m 172 ls [] ∧ lv_has ls 8 [(0, .ref (ad (0))), (2, .int p2), (3, .int v9), (4, .int x.2)]) (fun rc17 ih17 => ?_) FUEL _ _ _ _ ⟨hU, hS, _, rfl, lv_sub hl [1, 2, 3, 0] rfl⟩
                rintro ⟨S15, v16⟩ _ H locs ⟨hU, hS, ls, rfl, hl⟩
                have hU : UM D ct ad (uA 31 ad s.heap.size) S15 w H := hU
                have hl : lv_has ls 8 [(0, .ref (ad (0))), (2, .int p2), (3, .int v9), (4, .int v16)] := hl
                refine X.eqs (sp2 := sM_sent_L172 p2 v9 rc17 S15 v16) rfl ?_
                unfold sM_sent_L172
                refine x_iload hx hb dX4_sent_172 (lv_at hl 3 rfl) ?_
                refine x_if_lt (tgt := 268) hx hb dX4_sent_174 (by decide) (fun hc => ?_) (fun hc => ?_)
                · refine x_iload_n hx hb dX4_sent_268 rfl (lv_at hl 1 rfl) ?_
                  refine x_iconst (v := -1) hx hb dX4_sent_269 (by decide) ?_
                  refine x_icmp_ne (tgt := 280) hx hb dX4_sent_270 (by decide) (fun hc => ?_) (fun hc => ?_)
                  · refine x_iconst (v := 0) hx hb dX4_sent_280 (by decide) ?_
                    refine x_istore (lv' := [(4, .int (0 : Int32)), (0, .ref (ad (0))), (2, .int p2), (3, .int v9)]) hx hb dX4_sent_281 hl (by decide) rfl (fun ls hl => ?_)
                    refine x_iconst (v := -1) hx hb dX4_sent_283 (by decide) ?_
                    refine x_istore (lv' := [(5, .int (-1 : Int32)), (4, .int (0 : Int32)), (0, .ref (ad (0))), (2, .int p2), (3, .int v9)]) hx hb dX4_sent_284 hl (by decide) rfl (fun ls hl => ?_)
                    refine x_iconst (v := 0) hx hb dX4_sent_286 (by decide) ?_
                    refine x_istore (lv' := [(6, .int (0 : Int32)), (5, .int (-1 : Int32)), (4, .int (0 : Int32)), (0, .ref (ad (0))), (2, .int p2), (3, .int v9)]) hx hb dX4_sent_287 hl (by decide) rfl (fun ls hl => ?_)
                    refine X.loop (I := fun (x : (Int32 × Int32 × Int32)) g H locs => UM D ct ad (uA 31 ad s.heap.size) S15 w H ∧ va_S (uA 31 ad s.heap.size) s.heap H locs ∧ ∃ ls : Array Slot, g = F0 m 289 ls [] ∧ lv_has ls 8 [(0, .ref (ad (0))), (2, .int p2), (3, .int v9), (4, .int x.1), (5, .int x.2.1), (6, .int x.2.2)]) (fun rc21 ih21 => ?_) FUEL _ _ _ _ ⟨hU, hS, _, rfl, lv_sub hl [3, 4, 5, 2, 1, 0] rfl⟩
                    rintro ⟨v18, v19, v20⟩ _ H locs ⟨hU, hS, ls, rfl, hl⟩
                    have hU : UM D ct ad (uA 31 ad s.heap.size) S15 w H := hU
                    have hl : lv_has ls 8 [(0, .ref (ad (0))), (2, .int p2), (3, .int v9), (4, .int v18), (5, .int v19), (6, .int v20)] := hl
                    refine X.eqs (sp2 := sM_sent_L289 p2 v9 S15 rc21 v18 v19 v20) rfl ?_
                    unfold sM_sent_L289
                    refine x_iload hx hb dX4_sent_289 (lv_at hl 5 rfl) ?_
                    refine x_iload_n hx hb dX4_sent_291 rfl (lv_at hl 2 rfl) ?_
                    refine x_icmp_ge (tgt := 383) hx hb dX4_sent_292 (by decide) (fun hc => ?_) (fun hc => ?_)
                    · refine x_iload hx hb dX4_sent_383 (lv_at hl 4 rfl) ?_
                      exact x_iret hx hb hr hlk hS rfl (hU.to fun _ _ => trivial) dX4_sent_385
                    · refine x_aload_n hx hb dX4_sent_295 rfl (lv_at hl 0 rfl) ?_
                      refine gM_women E hU dX4_sent_296 ?_
                      refine x_iconst (v := 1) hx hb dX4_sent_299 (by decide) ?_
                      refine x_isub hx hb dX4_sent_300 ?_
                      refine x_istore (lv' := [(7, .int ((S15 0 2) - (1 : Int32))), (0, .ref (ad (0))), (2, .int p2), (3, .int v9), (4, .int v18), (5, .int v19), (6, .int v20)]) hx hb dX4_sent_301 hl (by decide) rfl (fun ls hl => ?_)
                      refine X.loop (I := fun (x : (Int32 × Int32)) g H locs => UM D ct ad (uA 31 ad s.heap.size) S15 w H ∧ va_S (uA 31 ad s.heap.size) s.heap H locs ∧ ∃ ls : Array Slot, g = F0 m 303 ls [] ∧ lv_has ls 8 [(0, .ref (ad (0))), (2, .int p2), (3, .int v9), (4, .int v18), (5, .int x.1), (6, .int v20), (7, .int x.2)]) (fun rc24 ih24 => ?_) FUEL _ _ _ _ ⟨hU, hS, _, rfl, lv_sub hl [1, 2, 3, 4, 5, 6, 0] rfl⟩
                      rintro ⟨v22, v23⟩ _ H locs ⟨hU, hS, ls, rfl, hl⟩
                      have hU : UM D ct ad (uA 31 ad s.heap.size) S15 w H := hU
                      have hl : lv_has ls 8 [(0, .ref (ad (0))), (2, .int p2), (3, .int v9), (4, .int v18), (5, .int v22), (6, .int v20), (7, .int v23)] := hl
                      refine X.eqs (sp2 := sM_sent_L303 p2 S15 v18 v20 rc21 rc24 v22 v23) rfl ?_
                      unfold sM_sent_L303
                      refine x_iload hx hb dX4_sent_303 (lv_at hl 6 rfl) ?_
                      refine x_if_lt (tgt := 354) hx hb dX4_sent_305 (by decide) (fun hc => ?_) (fun hc => ?_)
                      · refine x_aload_n hx hb dX4_sent_354 rfl (lv_at hl 0 rfl) ?_
                        refine gM_wanted E hU dX4_sent_355 ?_
                        refine x_iload hx hb dX4_sent_358 (lv_at hl 5 rfl) ?_
                        refine ux_ald (i := 20) (n := 6) E hU (by decide) rfl dX4_sent_360 ?_
                        refine x_iload_n hx hb dX4_sent_361 rfl (lv_at hl 1 rfl) ?_
                        refine x_icmp_ne (tgt := 368) hx hb dX4_sent_362 (by decide) (fun hc => ?_) (fun hc => ?_)
                        · refine x_iload hx hb dX4_sent_368 (lv_at hl 3 rfl) ?_
                          refine x_iconst (v := 1) hx hb dX4_sent_370 (by decide) ?_
                          refine x_iload hx hb dX4_sent_371 (lv_at hl 4 rfl) ?_
                          refine x_ishl hx hb dX4_sent_373 ?_
                          refine x_ior hx hb dX4_sent_374 ?_
                          refine x_istore (lv' := [(4, .int (v18 ||| ((1 : Int32) <<< (v22 &&& 31)))), (0, .ref (ad (0))), (2, .int p2), (3, .int v9), (5, .int v22), (6, .int v20), (7, .int v23)]) hx hb dX4_sent_375 hl (by decide) rfl (fun ls hl => ?_)
                          refine x_iinc (v := (v20 + (1 : Int32))) (lv' := [(6, .int (v20 + (1 : Int32))), (4, .int (v18 ||| ((1 : Int32) <<< (v22 &&& 31)))), (0, .ref (ad (0))), (2, .int p2), (3, .int v9), (5, .int v22), (7, .int v23)]) (k := 5) hx hb dX4_sent_377 hl rfl rfl (by decide) rfl (fun ls hl => ?_)
                          refine x_goto (tgt := 289) hx hb dX4_sent_380 (by decide) ?_
                          exact ih21 ((v18 ||| ((1 : Int32) <<< (v22 &&& 31))), v22, (v20 + (1 : Int32))) _ _ _ ⟨hU, hS, _, rfl, lv_sub hl [2, 3, 4, 1, 5, 0] rfl⟩
                        · refine x_iload hx hb dX4_sent_365 (lv_at hl 4 rfl) ?_
                          exact x_iret hx hb hr hlk hS rfl (hU.to fun _ _ => trivial) dX4_sent_367
                      · refine x_iload hx hb dX4_sent_308 (lv_at hl 3 rfl) ?_
                        refine x_iload hx hb dX4_sent_310 (lv_at hl 6 rfl) ?_
                        refine x_ishr hx hb dX4_sent_312 ?_
                        refine x_iconst (v := 1) hx hb dX4_sent_313 (by decide) ?_
                        refine x_iand hx hb dX4_sent_314 ?_
                        refine x_if_ne (tgt := 348) hx hb dX4_sent_315 (by decide) (fun hc => ?_) (fun hc => ?_)
                        · refine x_iinc (v := (v23 + (-1 : Int32))) (lv' := [(7, .int (v23 + (-1 : Int32))), (0, .ref (ad (0))), (2, .int p2), (3, .int v9), (4, .int v18), (5, .int v22), (6, .int v20)]) (k := 6) hx hb dX4_sent_348 hl rfl rfl (by decide) rfl (fun ls hl => ?_)
                          refine x_goto (tgt := 303) hx hb dX4_sent_351 (by decide) ?_
                          exact ih24 (v22, (v23 + (-1 : Int32))) _ _ _ ⟨hU, hS, _, rfl, lv_sub hl [1, 2, 3, 4, 5, 6, 0] rfl⟩
                        · refine x_aload_n hx hb dX4_sent_318 rfl (lv_at hl 0 rfl) ?_
                          refine x_iload hx hb dX4_sent_319 (lv_at hl 5 rfl) ?_
                          refine x_iload hx hb dX4_sent_321 (lv_at hl 6 rfl) ?_
                          refine x_iload hx hb dX4_sent_323 (lv_at hl 3 rfl) ?_
                          refine kM_byWoman E hU hS hA0 ⟨by decide, by decide⟩ hl.1 (Nat.le_of_ble_eq_true rfl) dX4_sent_325 ⟨Nat.le_refl _, Nat.le_refl _⟩ (fun o25 H locs hU hS => ?_)
                          refine x_aload_n hx hb dX4_sent_328 rfl (lv_at hl 0 rfl) ?_
                          refine gM_fewest E hU dX4_sent_329 ?_
                          refine x_bipush (v := 64) hx hb dX4_sent_332 (by decide) ?_
                          refine x_iload hx hb dX4_sent_334 (lv_at hl 5 rfl) ?_
                          refine x_imul hx hb dX4_sent_336 ?_
                          refine x_iload hx hb dX4_sent_337 (lv_at hl 3 rfl) ?_
                          refine x_iadd hx hb dX4_sent_339 ?_
                          refine ux_ald (i := 19) (n := 448) E hU (by decide) rfl dX4_sent_340 ?_
                          refine x_icmp_ne (tgt := 348) hx hb dX4_sent_341 (by decide) (fun hc => ?_) (fun hc => ?_)
                          · refine x_iinc (v := (v23 + (-1 : Int32))) (lv' := [(7, .int (v23 + (-1 : Int32))), (0, .ref (ad (0))), (2, .int p2), (3, .int v9), (4, .int v18), (5, .int v22), (6, .int v20)]) (k := 6) hx hb dX4_sent_348 hl rfl rfl (by decide) rfl (fun ls hl => ?_)
                            refine x_goto (tgt := 303) hx hb dX4_sent_351 (by decide) ?_
                            exact ih24 (v22, (v23 + (-1 : Int32))) _ _ _ ⟨hU, hS, _, rfl, lv_sub hl [1, 2, 3, 4, 5, 6, 0] rfl⟩
                          · refine x_iload hx hb dX4_sent_344 (lv_at hl 6 rfl) ?_
                            refine x_istore (lv' := [(5, .int v23), (0, .ref (ad (0))), (2, .int p2), (3, .int v9), (4, .int v18), (6, .int v20), (7, .int v23)]) hx hb dX4_sent_346 hl (by decide) rfl (fun ls hl => ?_)
                            refine x_iinc (v := (v23 + (-1 : Int32))) (lv' := [(7, .int (v23 + (-1 : Int32))), (5, .int v23), (0, .ref (ad (0))), (2, .int p2), (3, .int v9), (4, .int v18), (6, .int v20)]) (k := 6) hx hb dX4_sent_348 hl rfl rfl (by decide) rfl (fun ls hl => ?_)
                            refine x_goto (tgt := 303) hx hb dX4_sent_351 (by decide) ?_
                            exact ih24 (v23, (v23 + (-1 : Int32))) _ _ _ ⟨hU, hS, _, rfl, lv_sub hl [2, 3, 4, 5, 1, 6, 0] rfl⟩
                  · refine x_aload_n hx hb dX4_sent_273 rfl (lv_at hl 0 rfl) ?_
                    refine gM_fewest E hU dX4_sent_274 ?_
                    refine x_iconst (v := 0) hx hb dX4_sent_277 (by decide) ?_
                    refine ux_ald (i := 19) (n := 448) E hU (by decide) rfl dX4_sent_278 ?_
                    exact x_iret hx hb hr hlk hS rfl (hU.to fun _ _ => trivial) dX4_sent_279
                · refine x_iconst (v := 0) hx hb dX4_sent_177 (by decide) ?_
                  refine x_istore (lv' := [(5, .int (0 : Int32)), (0, .ref (ad (0))), (2, .int p2), (3, .int v9), (4, .int v16)]) hx hb dX4_sent_178 hl (by decide) rfl (fun ls hl => ?_)
                  refine X.loop (I := fun (x : (US × Int32)) g H locs => UM D ct ad (uA 31 ad s.heap.size) x.1 w H ∧ va_S (uA 31 ad s.heap.size) s.heap H locs ∧ ∃ ls : Array Slot, g = F0 m 180 ls [] ∧ lv_has ls 8 [(0, .ref (ad (0))), (2, .int p2), (3, .int v9), (4, .int v16), (5, .int x.2)]) (fun rc28 ih28 => ?_) FUEL _ _ _ _ ⟨hU, hS, _, rfl, lv_sub hl [1, 2, 3, 4, 0] rfl⟩
                  rintro ⟨S26, v27⟩ _ H locs ⟨hU, hS, ls, rfl, hl⟩
                  have hU : UM D ct ad (uA 31 ad s.heap.size) S26 w H := hU
                  have hl : lv_has ls 8 [(0, .ref (ad (0))), (2, .int p2), (3, .int v9), (4, .int v16), (5, .int v27)] := hl
                  refine X.eqs (sp2 := sM_sent_L180 v16 rc17 rc28 S26 v27) rfl ?_
                  unfold sM_sent_L180
                  refine x_iload hx hb dX4_sent_180 (lv_at hl 4 rfl) ?_
                  refine x_iconst (v := 1) hx hb dX4_sent_182 (by decide) ?_
                  refine x_aload_n hx hb dX4_sent_183 rfl (lv_at hl 0 rfl) ?_
                  refine gM_women E hU dX4_sent_184 ?_
                  refine x_ishl hx hb dX4_sent_187 ?_
                  refine x_icmp_ge (tgt := 262) hx hb dX4_sent_188 (by decide) (fun hc => ?_) (fun hc => ?_)
                  · refine x_iinc (v := (v16 + (-1 : Int32))) (lv' := [(4, .int (v16 + (-1 : Int32))), (0, .ref (ad (0))), (2, .int p2), (3, .int v9), (5, .int v27)]) (k := 3) hx hb dX4_sent_262 hl rfl rfl (by decide) rfl (fun ls hl => ?_)
                    refine x_goto (tgt := 172) hx hb dX4_sent_265 (by decide) ?_
                    exact ih17 (S26, (v16 + (-1 : Int32))) _ _ _ ⟨hU, hS, _, rfl, lv_sub hl [1, 2, 3, 0] rfl⟩
                  · refine x_ldcw hx hb hown (hts _ q2352) dX4_sent_191 ?_
                    refine x_istore (lv' := [(6, .int (99999 : Int32)), (0, .ref (ad (0))), (2, .int p2), (3, .int v9), (4, .int v16), (5, .int v27)]) hx hb dX4_sent_194 hl (by decide) rfl (fun ls hl => ?_)
                    refine x_iconst (v := 0) hx hb dX4_sent_196 (by decide) ?_
                    refine x_istore (lv' := [(7, .int (0 : Int32)), (6, .int (99999 : Int32)), (0, .ref (ad (0))), (2, .int p2), (3, .int v9), (4, .int v16), (5, .int v27)]) hx hb dX4_sent_197 hl (by decide) rfl (fun ls hl => ?_)
                    refine X.loop (I := fun (x : (Int32 × Int32)) g H locs => UM D ct ad (uA 31 ad s.heap.size) S26 w H ∧ va_S (uA 31 ad s.heap.size) s.heap H locs ∧ ∃ ls : Array Slot, g = F0 m 199 ls [] ∧ lv_has ls 8 [(0, .ref (ad (0))), (2, .int p2), (3, .int v9), (4, .int v16), (5, .int v27), (6, .int x.1), (7, .int x.2)]) (fun rc31 ih31 => ?_) FUEL _ _ _ _ ⟨hU, hS, _, rfl, lv_sub hl [2, 3, 4, 5, 6, 1, 0] rfl⟩
                    rintro ⟨v29, v30⟩ _ H locs ⟨hU, hS, ls, rfl, hl⟩
                    have hU : UM D ct ad (uA 31 ad s.heap.size) S26 w H := hU
                    have hl : lv_has ls 8 [(0, .ref (ad (0))), (2, .int p2), (3, .int v9), (4, .int v16), (5, .int v27), (6, .int v29), (7, .int v30)] := hl
                    refine X.eqs (sp2 := sM_sent_L199 v16 S26 v27 rc28 rc31 v29 v30) rfl ?_
                    unfold sM_sent_L199
                    refine x_iload hx hb dX4_sent_199 (lv_at hl 6 rfl) ?_
                    refine x_aload_n hx hb dX4_sent_201 rfl (lv_at hl 0 rfl) ?_
                    refine gM_women E hU dX4_sent_202 ?_
                    refine x_icmp_ge (tgt := 241) hx hb dX4_sent_205 (by decide) (fun hc => ?_) (fun hc => ?_)
                    · refine x_aload_n hx hb dX4_sent_241 rfl (lv_at hl 0 rfl) ?_
                      refine gM_fewest E hU dX4_sent_242 ?_
                      refine x_bipush (v := 64) hx hb dX4_sent_245 (by decide) ?_
                      refine x_iload hx hb dX4_sent_247 (lv_at hl 3 rfl) ?_
                      refine x_imul hx hb dX4_sent_249 ?_
                      refine x_iload hx hb dX4_sent_250 (lv_at hl 4 rfl) ?_
                      refine x_iadd hx hb dX4_sent_252 ?_
                      refine x_iload hx hb dX4_sent_253 (lv_at hl 5 rfl) ?_
                      refine ux_ast (i := 19) (n := 448) E hU hS (by decide) rfl dX4_sent_255 (fun S32 H locs hU hS => ?_)
                      refine x_iinc (v := (v27 + (1 : Int32))) (lv' := [(5, .int (v27 + (1 : Int32))), (0, .ref (ad (0))), (2, .int p2), (3, .int v9), (4, .int v16), (6, .int v29), (7, .int v30)]) (k := 4) hx hb dX4_sent_256 hl rfl rfl (by decide) rfl (fun ls hl => ?_)
                      refine x_goto (tgt := 180) hx hb dX4_sent_259 (by decide) ?_
                      exact ih28 (S32, (v27 + (1 : Int32))) _ _ _ ⟨hU, hS, _, rfl, lv_sub hl [1, 2, 3, 4, 0] rfl⟩
                    · refine x_iload hx hb dX4_sent_208 (lv_at hl 4 rfl) ?_
                      refine x_iload hx hb dX4_sent_210 (lv_at hl 6 rfl) ?_
                      refine x_ishr hx hb dX4_sent_212 ?_
                      refine x_iconst (v := 1) hx hb dX4_sent_213 (by decide) ?_
                      refine x_iand hx hb dX4_sent_214 ?_
                      refine x_if_ne (tgt := 235) hx hb dX4_sent_215 (by decide) (fun hc => ?_) (fun hc => ?_)
                      · refine x_iinc (v := (v30 + (1 : Int32))) (lv' := [(7, .int (v30 + (1 : Int32))), (0, .ref (ad (0))), (2, .int p2), (3, .int v9), (4, .int v16), (5, .int v27), (6, .int v29)]) (k := 6) hx hb dX4_sent_235 hl rfl rfl (by decide) rfl (fun ls hl => ?_)
                        refine x_goto (tgt := 199) hx hb dX4_sent_238 (by decide) ?_
                        exact ih31 (v29, (v30 + (1 : Int32))) _ _ _ ⟨hU, hS, _, rfl, lv_sub hl [1, 2, 3, 4, 5, 6, 0] rfl⟩
                      · refine x_iload hx hb dX4_sent_218 (lv_at hl 5 rfl) ?_
                        refine x_aload_n hx hb dX4_sent_220 rfl (lv_at hl 0 rfl) ?_
                        refine x_iload hx hb dX4_sent_221 (lv_at hl 3 rfl) ?_
                        refine x_iload hx hb dX4_sent_223 (lv_at hl 6 rfl) ?_
                        refine x_iload hx hb dX4_sent_225 (lv_at hl 4 rfl) ?_
                        refine kM_byWoman E hU hS hA0 ⟨by decide, by decide⟩ hl.1 (Nat.le_of_ble_eq_true rfl) dX4_sent_227 ⟨Nat.le_refl _, Nat.le_refl _⟩ (fun o33 H locs hU hS => ?_)
                        refine kM_lesser E hS hA0 ⟨by decide, by decide⟩ hl.1 (Nat.le_of_ble_eq_true rfl) dX4_sent_230 ⟨Nat.le_refl _, Nat.le_refl _⟩ (fun o34 H locs hk hS => ?_)
                        replace hU := hU.kept (fun i hi => hk _ (hU.lt hi))
                        refine x_istore (lv' := [(6, .int o34), (0, .ref (ad (0))), (2, .int p2), (3, .int v9), (4, .int v16), (5, .int v27), (7, .int v30)]) hx hb dX4_sent_233 hl (by decide) rfl (fun ls hl => ?_)
                        refine x_iinc (v := (v30 + (1 : Int32))) (lv' := [(7, .int (v30 + (1 : Int32))), (6, .int o34), (0, .ref (ad (0))), (2, .int p2), (3, .int v9), (4, .int v16), (5, .int v27)]) (k := 6) hx hb dX4_sent_235 hl rfl rfl (by decide) rfl (fun ls hl => ?_)
                        refine x_goto (tgt := 199) hx hb dX4_sent_238 (by decide) ?_
                        exact ih31 (o34, (v30 + (1 : Int32))) _ _ _ ⟨hU, hS, _, rfl, lv_sub hl [2, 3, 4, 5, 6, 1, 0] rfl⟩
              · refine x_aload_n hx hb dX4_sent_148 rfl (lv_at hl 0 rfl) ?_
                refine gM_fewest E hU dX4_sent_149 ?_
                refine x_bipush (v := 64) hx hb dX4_sent_152 (by decide) ?_
                refine x_iload_n hx hb dX4_sent_154 rfl (lv_at hl 2 rfl) ?_
                refine x_imul hx hb dX4_sent_155 ?_
                refine x_iload hx hb dX4_sent_156 (lv_at hl 3 rfl) ?_
                refine x_iadd hx hb dX4_sent_158 ?_
                refine x_iconst (v := 0) hx hb dX4_sent_159 (by decide) ?_
                refine ux_ast (i := 19) (n := 448) E hU hS (by decide) rfl dX4_sent_160 (fun S35 H locs hU hS => ?_)
                refine x_iinc (v := (v13 + (1 : Int32))) (lv' := [(4, .int (v13 + (1 : Int32))), (0, .ref (ad (0))), (2, .int p2), (3, .int v9)]) (k := 3) hx hb dX4_sent_161 hl rfl rfl (by decide) rfl (fun ls hl => ?_)
                refine x_goto (tgt := 141) hx hb dX4_sent_164 (by decide) ?_
                exact ih14 (S35, (v13 + (1 : Int32))) _ _ _ ⟨hU, hS, _, rfl, lv_sub hl [1, 2, 3, 0] rfl⟩
            · refine x_bipush (v := -2) hx hb dX4_sent_135 (by decide) ?_
              exact x_iret hx hb hr hlk hS rfl (hU.to fun _ _ => trivial) dX4_sent_137
          · refine x_iload_n hx hb dX4_sent_98 rfl (lv_at hl 1 rfl) ?_
            refine x_iload hx hb dX4_sent_99 (lv_at hl 4 rfl) ?_
            refine x_ishr hx hb dX4_sent_101 ?_
            refine x_iconst (v := 1) hx hb dX4_sent_102 (by decide) ?_
            refine x_iand hx hb dX4_sent_103 ?_
            refine x_if_ne (tgt := 110) hx hb dX4_sent_104 (by decide) (fun hc => ?_) (fun hc => ?_)
            · refine x_aload_n hx hb dX4_sent_110 rfl (lv_at hl 0 rfl) ?_
              refine gM_wanted E hU dX4_sent_111 ?_
              refine x_iload_n hx hb dX4_sent_114 rfl (lv_at hl 3 rfl) ?_
              refine x_iload hx hb dX4_sent_115 (lv_at hl 4 rfl) ?_
              refine ux_ast (i := 20) (n := 6) E hU hS (by decide) rfl dX4_sent_117 (fun S36 H locs hU hS => ?_)
              refine x_iinc (v := (v9 + (1 : Int32))) (lv' := [(3, .int (v9 + (1 : Int32))), (0, .ref (ad (0))), (1, .int p1), (2, .int p2), (4, .int v10)]) (k := 3) hx hb dX4_sent_118 hl rfl rfl (by decide) rfl (fun ls hl => ?_)
              refine x_iinc (v := (v10 + (1 : Int32))) (lv' := [(4, .int (v10 + (1 : Int32))), (3, .int (v9 + (1 : Int32))), (0, .ref (ad (0))), (1, .int p1), (2, .int p2)]) (k := 4) hx hb dX4_sent_121 hl rfl rfl (by decide) rfl (fun ls hl => ?_)
              refine x_goto (tgt := 89) hx hb dX4_sent_124 (by decide) ?_
              exact ih11 (S36, (v9 + (1 : Int32)), (v10 + (1 : Int32))) _ _ _ ⟨hU, hS, _, rfl, lv_sub hl [2, 3, 4, 1, 0] rfl⟩
            · refine x_goto (tgt := 121) hx hb dX4_sent_107 (by decide) ?_
              refine x_iinc (v := (v10 + (1 : Int32))) (lv' := [(4, .int (v10 + (1 : Int32))), (0, .ref (ad (0))), (1, .int p1), (2, .int p2), (3, .int v9)]) (k := 4) hx hb dX4_sent_121 hl rfl rfl (by decide) rfl (fun ls hl => ?_)
              refine x_goto (tgt := 89) hx hb dX4_sent_124 (by decide) ?_
              exact ih11 (S8, v9, (v10 + (1 : Int32))) _ _ _ ⟨hU, hS, _, rfl, lv_sub hl [1, 2, 3, 4, 0] rfl⟩
        · refine x_iconst (v := 0) hx hb dX4_sent_82 (by decide) ?_
          exact x_iret hx hb hr hlk hS rfl (hU.to fun _ _ => trivial) dX4_sent_83
      · refine x_icmp_eq (tgt := 70) hx hb dX4_sent_46 (by decide) (fun hc => ?_) (fun hc => ?_)
        · refine x_iconst (v := 1) hx hb dX4_sent_70 (by decide) ?_
          refine x_goto (tgt := 75) hx hb dX4_sent_71 (by decide) ?_
          exact hj6 (1 : Int32) _ _ _ ⟨hU, hS, _, rfl, lv_sub hl [0, 1, 2] rfl⟩
        · refine x_iload_n hx hb dX4_sent_49 rfl (lv_at hl 2 rfl) ?_
          refine x_if_lt (tgt := 74) hx hb dX4_sent_50 (by decide) (fun hc => ?_) (fun hc => ?_)
          · refine x_iconst (v := 0) hx hb dX4_sent_74 (by decide) ?_
            exact hj6 (0 : Int32) _ _ _ ⟨hU, hS, _, rfl, lv_sub hl [0, 1, 2] rfl⟩
          · refine x_iload_n hx hb dX4_sent_53 rfl (lv_at hl 2 rfl) ?_
            refine x_aload_n hx hb dX4_sent_54 rfl (lv_at hl 0 rfl) ?_
            refine gM_many E hU dX4_sent_55 ?_
            refine x_icmp_ge (tgt := 74) hx hb dX4_sent_58 (by decide) (fun hc => ?_) (fun hc => ?_)
            · refine x_iconst (v := 0) hx hb dX4_sent_74 (by decide) ?_
              exact hj6 (0 : Int32) _ _ _ ⟨hU, hS, _, rfl, lv_sub hl [0, 1, 2] rfl⟩
            · refine x_iload_n hx hb dX4_sent_61 rfl (lv_at hl 1 rfl) ?_
              refine x_iload_n hx hb dX4_sent_62 rfl (lv_at hl 2 rfl) ?_
              refine x_ishr hx hb dX4_sent_63 ?_
              refine x_iconst (v := 1) hx hb dX4_sent_64 (by decide) ?_
              refine x_iand hx hb dX4_sent_65 ?_
              refine x_iconst (v := 1) hx hb dX4_sent_66 (by decide) ?_
              refine x_icmp_ne (tgt := 74) hx hb dX4_sent_67 (by decide) (fun hc => ?_) (fun hc => ?_)
              · refine x_iconst (v := 0) hx hb dX4_sent_74 (by decide) ?_
                exact hj6 (0 : Int32) _ _ _ ⟨hU, hS, _, rfl, lv_sub hl [0, 1, 2] rfl⟩
              · refine x_iconst (v := 1) hx hb dX4_sent_70 (by decide) ?_
                refine x_goto (tgt := 75) hx hb dX4_sent_71 (by decide) ?_
                exact hj6 (1 : Int32) _ _ _ ⟨hU, hS, _, rfl, lv_sub hl [0, 1, 2] rfl⟩
    · refine x_iconst (v := 0) hx hb dX4_sent_41 (by decide) ?_
      exact x_iret hx hb hr hlk hS rfl (hU.to fun _ _ => trivial) dX4_sent_42
  · refine x_if_lt (tgt := 33) hx hb dX4_sent_7 (by decide) (fun hc => ?_) (fun hc => ?_)
    · refine x_iconst (v := 0) hx hb dX4_sent_33 (by decide) ?_
      exact hj3 (0 : Int32) _ _ _ ⟨hU, hS, _, rfl, lv_sub hl [0, 1, 2] rfl⟩
    · refine x_iload_n hx hb dX4_sent_10 rfl (lv_at hl 1 rfl) ?_
      refine x_iconst (v := 1) hx hb dX4_sent_11 (by decide) ?_
      refine x_aload_n hx hb dX4_sent_12 rfl (lv_at hl 0 rfl) ?_
      refine gM_many E hU dX4_sent_13 ?_
      refine x_ishl hx hb dX4_sent_16 ?_
      refine x_icmp_ge (tgt := 33) hx hb dX4_sent_17 (by decide) (fun hc => ?_) (fun hc => ?_)
      · refine x_iconst (v := 0) hx hb dX4_sent_33 (by decide) ?_
        exact hj3 (0 : Int32) _ _ _ ⟨hU, hS, _, rfl, lv_sub hl [0, 1, 2] rfl⟩
      · refine x_iload_n hx hb dX4_sent_20 rfl (lv_at hl 1 rfl) ?_
        refine kM_bits E hS hA0 ⟨by decide, by decide⟩ hl.1 (Nat.le_of_ble_eq_true rfl) dX4_sent_21 ⟨Nat.le_refl _, Nat.le_refl _⟩ (fun o37 H locs hk hS => ?_)
        replace hU := hU.kept (fun i hi => hk _ (hU.lt hi))
        refine x_bipush (v := 6) hx hb dX4_sent_24 (by decide) ?_
        refine x_icmp_gt (tgt := 33) hx hb dX4_sent_26 (by decide) (fun hc => ?_) (fun hc => ?_)
        · refine x_iconst (v := 0) hx hb dX4_sent_33 (by decide) ?_
          exact hj3 (0 : Int32) _ _ _ ⟨hU, hS, _, rfl, lv_sub hl [0, 1, 2] rfl⟩
        · refine x_iconst (v := 1) hx hb dX4_sent_29 (by decide) ?_
          refine x_goto (tgt := 34) hx hb dX4_sent_30 (by decide) ?_
          exact hj3 (1 : Int32) _ _ _ ⟨hU, hS, _, rfl, lv_sub hl [0, 1, 2] rfl⟩

set_option maxHeartbeats 4000000 in
theorem mM_closed (l : Launch) (D : va_G) (ct : CT) (ad : Nat → Nat) (S : US) (w : Int64) (p1 : Int32) (sz : Nat) (o : (Int32 × US)) (ho : sM_closed S p1 = some o) : Met l yX4_closed (ws_ yX4_closed cX4_closed 6 (some .int)) { frames := 3, cells := 0, slots := 0, locals := 76 } (mP D clW ct [.ref (ad (0)), .int p1] sz (UM D ct ad (fun _ => True) S w)) (mC (some (.int o.1)) (UM D ct ad (fun _ => True) o.2 w) (uA 31 ad sz)) 0 0 (uA 31 ad sz) := by
  refine X.start (val := fun (o : (Int32 × US)) => some (.int o.1)) (Bt := fun (o : (Int32 × US)) => UM D ct ad (fun _ => True) o.2 w) (A := uA 31 ad sz) ho (by decide) (Nat.le_of_ble_eq_true rfl) rfl ?_
  intro p e s m args below meth c E hr hlk hnm hsz hU ls hl
  subst hsz
  obtain ⟨⟨hx, hb, hml, hown, hts⟩, hK, hJ⟩ := id E
  replace hU := hU.to (B := uA 31 ad s.heap.size) (fun i hi => Or.inl ⟨i, hi, rfl⟩)
  have hA0 : ∀ q, s.heap.size ≤ q → (uA 31 ad s.heap.size) q := fun q h => Or.inr h
  have hS : va_S (uA 31 ad s.heap.size) s.heap s.heap [] := va_S.rf
  unfold sM_closed
  refine x_aload_n hx hb dX4_closed_0 rfl (lv_at hl 0 rfl) ?_
  refine x_iconst (v := 0) hx hb dX4_closed_1 (by decide) ?_
  refine pM_thrown E hU hS dX4_closed_2 (fun S1 H locs hU hS => ?_)
  refine x_aload_n hx hb dX4_closed_5 rfl (lv_at hl 0 rfl) ?_
  refine x_iload_n hx hb dX4_closed_6 rfl (lv_at hl 1 rfl) ?_
  refine x_iconst (v := 1) hx hb dX4_closed_7 (by decide) ?_
  refine kM_isWhat E hU hS hA0 ⟨by decide, by decide⟩ hl.1 (Nat.le_of_ble_eq_true rfl) dX4_closed_8 ⟨Nat.le_refl _, Nat.le_refl _⟩ (fun o2 H locs hU hS => ?_)
  refine x_if_ne (tgt := 16) hx hb dX4_closed_11 (by decide) (fun hc => ?_) (fun hc => ?_)
  · refine x_iconst (v := 0) hx hb dX4_closed_16 (by decide) ?_
    refine x_istore_n (lv' := [(2, .int (0 : Int32)), (0, .ref (ad (0))), (1, .int p1)]) hx hb dX4_closed_17 rfl hl (by decide) rfl (fun ls hl => ?_)
    refine x_iconst (v := -1) hx hb dX4_closed_18 (by decide) ?_
    refine x_istore_n (lv' := [(3, .int (-1 : Int32)), (2, .int (0 : Int32)), (0, .ref (ad (0))), (1, .int p1)]) hx hb dX4_closed_19 rfl hl (by decide) rfl (fun ls hl => ?_)
    refine x_iconst (v := 0) hx hb dX4_closed_20 (by decide) ?_
    refine x_istore (lv' := [(4, .int (0 : Int32)), (3, .int (-1 : Int32)), (2, .int (0 : Int32)), (0, .ref (ad (0))), (1, .int p1)]) hx hb dX4_closed_21 hl (by decide) rfl (fun ls hl => ?_)
    refine X.loop (I := fun (x : (Int32 × Int32 × Int32)) g H locs => UM D ct ad (uA 31 ad s.heap.size) o2.2 w H ∧ va_S (uA 31 ad s.heap.size) s.heap H locs ∧ ∃ ls : Array Slot, g = F0 m 23 ls [] ∧ lv_has ls 6 [(0, .ref (ad (0))), (1, .int p1), (2, .int x.1), (3, .int x.2.1), (4, .int x.2.2)]) (fun rc6 ih6 => ?_) FUEL _ _ _ _ ⟨hU, hS, _, rfl, lv_sub hl [3, 4, 2, 1, 0] rfl⟩
    rintro ⟨v3, v4, v5⟩ _ H locs ⟨hU, hS, ls, rfl, hl⟩
    have hU : UM D ct ad (uA 31 ad s.heap.size) o2.2 w H := hU
    have hl : lv_has ls 6 [(0, .ref (ad (0))), (1, .int p1), (2, .int v3), (3, .int v4), (4, .int v5)] := hl
    refine X.eqs (sp2 := sM_closed_L23 p1 o2 rc6 v3 v4 v5) rfl ?_
    unfold sM_closed_L23
    refine x_iload hx hb dX4_closed_23 (lv_at hl 4 rfl) ?_
    refine x_aload_n hx hb dX4_closed_25 rfl (lv_at hl 0 rfl) ?_
    refine gM_many E hU dX4_closed_26 ?_
    refine x_icmp_ge (tgt := 89) hx hb dX4_closed_29 (by decide) (fun hc => ?_) (fun hc => ?_)
    · refine x_iload_n hx hb dX4_closed_89 rfl (lv_at hl 1 rfl) ?_
      refine x_if_ne (tgt := 97) hx hb dX4_closed_90 (by decide) (fun hc => ?_) (fun hc => ?_)
      · refine x_iload_n hx hb dX4_closed_97 rfl (lv_at hl 3 rfl) ?_
        exact x_iret hx hb hr hlk hS rfl (hU.to fun _ _ => trivial) dX4_closed_98
      · refine x_iload_n hx hb dX4_closed_93 rfl (lv_at hl 2 rfl) ?_
        refine x_goto (tgt := 98) hx hb dX4_closed_94 (by decide) ?_
        exact x_iret hx hb hr hlk hS rfl (hU.to fun _ _ => trivial) dX4_closed_98
    · refine x_iconst (v := 0) hx hb dX4_closed_32 (by decide) ?_
      refine x_istore (lv' := [(5, .int (0 : Int32)), (0, .ref (ad (0))), (1, .int p1), (2, .int v3), (3, .int v4), (4, .int v5)]) hx hb dX4_closed_33 hl (by decide) rfl (fun ls hl => ?_)
      refine X.join2 (fun (x : Int32) g H locs => UM D ct ad (uA 31 ad s.heap.size) o2.2 w H ∧ va_S (uA 31 ad s.heap.size) s.heap H locs ∧ ∃ ls : Array Slot, g = F0 m 68 ls [] ∧ lv_has ls 6 [(0, .ref (ad (0))), (1, .int p1), (2, .int v3), (3, .int v4), (4, .int v5), (5, .int x)]) ?_ (fun j8 hj8 => ?_)
      · rintro v7 _ H locs ⟨hU, hS, ls, rfl, hl⟩
        refine X.eqs (sp2 := sM_closed_J68 v3 v4 v5 rc6 v7) rfl ?_
        unfold sM_closed_J68
        refine x_iload hx hb dX4_closed_68 (lv_at hl 5 rfl) ?_
        refine x_iload_n hx hb dX4_closed_70 rfl (lv_at hl 2 rfl) ?_
        refine x_icmp_gt (tgt := 77) hx hb dX4_closed_71 (by decide) (fun hc => ?_) (fun hc => ?_)
        · refine x_iload hx hb dX4_closed_77 (lv_at hl 5 rfl) ?_
          refine x_istore_n (lv' := [(2, .int v7), (0, .ref (ad (0))), (1, .int p1), (3, .int v4), (4, .int v5), (5, .int v7)]) hx hb dX4_closed_79 rfl hl (by decide) rfl (fun ls hl => ?_)
          refine x_iload hx hb dX4_closed_80 (lv_at hl 4 rfl) ?_
          refine x_istore_n (lv' := [(3, .int v5), (2, .int v7), (0, .ref (ad (0))), (1, .int p1), (4, .int v5), (5, .int v7)]) hx hb dX4_closed_82 rfl hl (by decide) rfl (fun ls hl => ?_)
          refine x_iinc (v := (v5 + (1 : Int32))) (lv' := [(4, .int (v5 + (1 : Int32))), (3, .int v5), (2, .int v7), (0, .ref (ad (0))), (1, .int p1), (5, .int v7)]) (k := 4) hx hb dX4_closed_83 hl rfl rfl (by decide) rfl (fun ls hl => ?_)
          refine x_goto (tgt := 23) hx hb dX4_closed_86 (by decide) ?_
          exact ih6 (v7, v5, (v5 + (1 : Int32))) _ _ _ ⟨hU, hS, _, rfl, lv_sub hl [3, 4, 2, 1, 0] rfl⟩
        · refine x_goto (tgt := 83) hx hb dX4_closed_74 (by decide) ?_
          refine x_iinc (v := (v5 + (1 : Int32))) (lv' := [(4, .int (v5 + (1 : Int32))), (0, .ref (ad (0))), (1, .int p1), (2, .int v3), (3, .int v4), (5, .int v7)]) (k := 4) hx hb dX4_closed_83 hl rfl rfl (by decide) rfl (fun ls hl => ?_)
          refine x_goto (tgt := 23) hx hb dX4_closed_86 (by decide) ?_
          exact ih6 (v3, v4, (v5 + (1 : Int32))) _ _ _ ⟨hU, hS, _, rfl, lv_sub hl [1, 2, 3, 4, 0] rfl⟩
      · refine X.loop (I := fun (x : Int32) g H locs => UM D ct ad (uA 31 ad s.heap.size) o2.2 w H ∧ va_S (uA 31 ad s.heap.size) s.heap H locs ∧ ∃ ls : Array Slot, g = F0 m 35 ls [] ∧ lv_has ls 6 [(0, .ref (ad (0))), (1, .int p1), (2, .int v3), (3, .int v4), (4, .int v5), (5, .int x)]) (fun rc10 ih10 => ?_) FUEL _ _ _ _ ⟨hU, hS, _, rfl, lv_sub hl [1, 2, 3, 4, 5, 0] rfl⟩
        rintro v9 _ H locs ⟨hU, hS, ls, rfl, hl⟩
        refine X.eqs (sp2 := sM_closed_L35 o2 v5 j8 rc10 v9) rfl ?_
        unfold sM_closed_L35
        refine x_iload hx hb dX4_closed_35 (lv_at hl 5 rfl) ?_
        refine x_aload_n hx hb dX4_closed_37 rfl (lv_at hl 0 rfl) ?_
        refine gM_many E hU dX4_closed_38 ?_
        refine x_icmp_ge (tgt := 68) hx hb dX4_closed_41 (by decide) (fun hc => ?_) (fun hc => ?_)
        · exact hj8 v9 _ _ _ ⟨hU, hS, _, rfl, lv_sub hl [0, 1, 2, 3, 4, 5] rfl⟩
        · refine x_aload_n hx hb dX4_closed_44 rfl (lv_at hl 0 rfl) ?_
          refine x_iconst (v := 0) hx hb dX4_closed_45 (by decide) ?_
          refine x_iload hx hb dX4_closed_46 (lv_at hl 4 rfl) ?_
          refine x_iload hx hb dX4_closed_48 (lv_at hl 5 rfl) ?_
          refine x_iadd hx hb dX4_closed_50 ?_
          refine x_aload_n hx hb dX4_closed_51 rfl (lv_at hl 0 rfl) ?_
          refine gM_many E hU dX4_closed_52 ?_
          refine x_iremG hx hb dX4_closed_55 ?_
          refine kM_isGap E hU hS hA0 ⟨by decide, by decide⟩ hl.1 (Nat.le_of_ble_eq_true rfl) dX4_closed_56 ⟨Nat.le_refl _, Nat.le_refl _⟩ (fun o11 H locs hU hS => ?_)
          refine x_if_ne (tgt := 68) hx hb dX4_closed_59 (by decide) (fun hc => ?_) (fun hc => ?_)
          · exact hj8 v9 _ _ _ ⟨hU, hS, _, rfl, lv_sub hl [0, 1, 2, 3, 4, 5] rfl⟩
          · refine x_iinc (v := (v9 + (1 : Int32))) (lv' := [(5, .int (v9 + (1 : Int32))), (0, .ref (ad (0))), (1, .int p1), (2, .int v3), (3, .int v4), (4, .int v5)]) (k := 5) hx hb dX4_closed_62 hl rfl rfl (by decide) rfl (fun ls hl => ?_)
            refine x_goto (tgt := 35) hx hb dX4_closed_65 (by decide) ?_
            exact ih10 (v9 + (1 : Int32)) _ _ _ ⟨hU, hS, _, rfl, lv_sub hl [1, 2, 3, 4, 5, 0] rfl⟩
  · refine x_iconst (v := 0) hx hb dX4_closed_14 (by decide) ?_
    exact x_iret hx hb hr hlk hS rfl (hU.to fun _ _ => trivial) dX4_closed_15

set_option maxHeartbeats 4000000 in
theorem mM_tight (l : Launch) (D : va_G) (ct : CT) (ad : Nat → Nat) (S : US) (w : Int64) (p1 : Int32) (p2 : Int32) (sz : Nat) (o : (Int32 × US)) (ho : sM_tight S p1 p2 = some o) : Met l yX4_tight (ws_ yX4_tight cX4_tight 8 (some .int)) { frames := 3, cells := 0, slots := 0, locals := 76 } (mP D clW ct [.ref (ad (0)), .int p1, .int p2] sz (UM D ct ad (fun _ => True) S w)) (mC (some (.int o.1)) (UM D ct ad (fun _ => True) o.2 w) (uA 31 ad sz)) 0 0 (uA 31 ad sz) := by
  refine X.start (val := fun (o : (Int32 × US)) => some (.int o.1)) (Bt := fun (o : (Int32 × US)) => UM D ct ad (fun _ => True) o.2 w) (A := uA 31 ad sz) ho (by decide) (Nat.le_of_ble_eq_true rfl) rfl ?_
  intro p e s m args below meth c E hr hlk hnm hsz hU ls hl
  subst hsz
  obtain ⟨⟨hx, hb, hml, hown, hts⟩, hK, hJ⟩ := id E
  replace hU := hU.to (B := uA 31 ad s.heap.size) (fun i hi => Or.inl ⟨i, hi, rfl⟩)
  have hA0 : ∀ q, s.heap.size ≤ q → (uA 31 ad s.heap.size) q := fun q h => Or.inr h
  have hS : va_S (uA 31 ad s.heap.size) s.heap s.heap [] := va_S.rf
  unfold sM_tight
  refine x_aload_n hx hb dX4_tight_0 rfl (lv_at hl 0 rfl) ?_
  refine x_iconst (v := 0) hx hb dX4_tight_1 (by decide) ?_
  refine pM_thrown E hU hS dX4_tight_2 (fun S1 H locs hU hS => ?_)
  refine x_aload_n hx hb dX4_tight_5 rfl (lv_at hl 0 rfl) ?_
  refine x_iload_n hx hb dX4_tight_6 rfl (lv_at hl 2 rfl) ?_
  refine x_iconst (v := 1) hx hb dX4_tight_7 (by decide) ?_
  refine kM_isWhat E hU hS hA0 ⟨by decide, by decide⟩ hl.1 (Nat.le_of_ble_eq_true rfl) dX4_tight_8 ⟨Nat.le_refl _, Nat.le_refl _⟩ (fun o2 H locs hU hS => ?_)
  refine x_if_eq (tgt := 29) hx hb dX4_tight_11 (by decide) (fun hc => ?_) (fun hc => ?_)
  · refine x_iconst (v := 0) hx hb dX4_tight_29 (by decide) ?_
    exact x_iret hx hb hr hlk hS rfl (hU.to fun _ _ => trivial) dX4_tight_30
  · refine x_aload_n hx hb dX4_tight_14 rfl (lv_at hl 0 rfl) ?_
    refine x_iload_n hx hb dX4_tight_15 rfl (lv_at hl 1 rfl) ?_
    refine x_iconst (v := 1) hx hb dX4_tight_16 (by decide) ?_
    refine x_bipush (v := 12) hx hb dX4_tight_17 (by decide) ?_
    refine kM_within E hS hA0 ⟨by decide, by decide⟩ hl.1 (Nat.le_of_ble_eq_true rfl) dX4_tight_19 ⟨Nat.le_refl _, Nat.le_refl _⟩ (fun o3 H locs hk hS => ?_)
    replace hU := hU.kept (fun i hi => hk _ (hU.lt hi))
    refine x_iconst (v := 2) hx hb dX4_tight_22 (by decide) ?_
    refine kM_right E hU hS hA0 ⟨by decide, by decide⟩ hl.1 (Nat.le_of_ble_eq_true rfl) dX4_tight_23 ⟨Nat.le_refl _, Nat.le_refl _⟩ (fun o4 H locs hU hS => ?_)
    refine x_if_ne (tgt := 31) hx hb dX4_tight_26 (by decide) (fun hc => ?_) (fun hc => ?_)
    · refine x_iconst (v := -1) hx hb dX4_tight_31 (by decide) ?_
      refine x_istore_n (lv' := [(3, .int (-1 : Int32)), (0, .ref (ad (0))), (1, .int p1), (2, .int p2)]) hx hb dX4_tight_32 rfl hl (by decide) rfl (fun ls hl => ?_)
      refine x_iconst (v := -1) hx hb dX4_tight_33 (by decide) ?_
      refine x_istore (lv' := [(4, .int (-1 : Int32)), (3, .int (-1 : Int32)), (0, .ref (ad (0))), (1, .int p1), (2, .int p2)]) hx hb dX4_tight_34 hl (by decide) rfl (fun ls hl => ?_)
      refine x_iconst (v := 0) hx hb dX4_tight_36 (by decide) ?_
      refine x_istore (lv' := [(5, .int (0 : Int32)), (4, .int (-1 : Int32)), (3, .int (-1 : Int32)), (0, .ref (ad (0))), (1, .int p1), (2, .int p2)]) hx hb dX4_tight_37 hl (by decide) rfl (fun ls hl => ?_)
      refine X.join2 (fun (x : (Int32 × Int32)) g H locs => UM D ct ad (uA 31 ad s.heap.size) o4.2 w H ∧ va_S (uA 31 ad s.heap.size) s.heap H locs ∧ ∃ ls : Array Slot, g = F0 m 119 ls [] ∧ lv_has ls 8 [(2, .int p2), (3, .int x.1), (4, .int x.2)]) ?_ (fun j7 hj7 => ?_)
      · rintro ⟨v5, v6⟩ _ H locs ⟨hU, hS, ls, rfl, hl⟩
        have hU : UM D ct ad (uA 31 ad s.heap.size) o4.2 w H := hU
        have hl : lv_has ls 8 [(2, .int p2), (3, .int v5), (4, .int v6)] := hl
        refine X.eqs (sp2 := sM_tight_J119 p2 o4 v5 v6) rfl ?_
        unfold sM_tight_J119
        refine x_iload_n hx hb dX4_tight_119 rfl (lv_at hl 0 rfl) ?_
        refine x_if_ne (tgt := 128) hx hb dX4_tight_120 (by decide) (fun hc => ?_) (fun hc => ?_)
        · refine x_iload_n hx hb dX4_tight_128 rfl (lv_at hl 1 rfl) ?_
          exact x_iret hx hb hr hlk hS rfl (hU.to fun _ _ => trivial) dX4_tight_129
        · refine x_iload hx hb dX4_tight_123 (lv_at hl 2 rfl) ?_
          refine x_goto (tgt := 129) hx hb dX4_tight_125 (by decide) ?_
          exact x_iret hx hb hr hlk hS rfl (hU.to fun _ _ => trivial) dX4_tight_129
      · refine X.loop (I := fun (x : (Int32 × Int32 × Int32)) g H locs => UM D ct ad (uA 31 ad s.heap.size) o4.2 w H ∧ va_S (uA 31 ad s.heap.size) s.heap H locs ∧ ∃ ls : Array Slot, g = F0 m 39 ls [] ∧ lv_has ls 8 [(0, .ref (ad (0))), (1, .int p1), (2, .int p2), (3, .int x.1), (4, .int x.2.1), (5, .int x.2.2)]) (fun rc11 ih11 => ?_) FUEL _ _ _ _ ⟨hU, hS, _, rfl, lv_sub hl [3, 4, 5, 2, 1, 0] rfl⟩
        rintro ⟨v8, v9, v10⟩ _ H locs ⟨hU, hS, ls, rfl, hl⟩
        have hU : UM D ct ad (uA 31 ad s.heap.size) o4.2 w H := hU
        have hl : lv_has ls 8 [(0, .ref (ad (0))), (1, .int p1), (2, .int p2), (3, .int v8), (4, .int v9), (5, .int v10)] := hl
        refine X.eqs (sp2 := sM_tight_L39 p1 o4 j7 rc11 v8 v9 v10) rfl ?_
        unfold sM_tight_L39
        refine x_iload hx hb dX4_tight_39 (lv_at hl 5 rfl) ?_
        refine x_aload_n hx hb dX4_tight_41 rfl (lv_at hl 0 rfl) ?_
        refine gM_many E hU dX4_tight_42 ?_
        refine x_icmp_ge (tgt := 119) hx hb dX4_tight_45 (by decide) (fun hc => ?_) (fun hc => ?_)
        · exact hj7 (v8, v9) _ _ _ ⟨hU, hS, _, rfl, lv_sub hl [2, 3, 4] rfl⟩
        · refine x_iload_n hx hb dX4_tight_48 rfl (lv_at hl 1 rfl) ?_
          refine x_aload_n hx hb dX4_tight_49 rfl (lv_at hl 0 rfl) ?_
          refine gM_many E hU dX4_tight_50 ?_
          refine x_icmp_gt (tgt := 119) hx hb dX4_tight_53 (by decide) (fun hc => ?_) (fun hc => ?_)
          · exact hj7 (v8, v9) _ _ _ ⟨hU, hS, _, rfl, lv_sub hl [2, 3, 4] rfl⟩
          · refine x_iconst (v := 0) hx hb dX4_tight_56 (by decide) ?_
            refine x_istore (lv' := [(6, .int (0 : Int32)), (0, .ref (ad (0))), (1, .int p1), (2, .int p2), (3, .int v8), (4, .int v9), (5, .int v10)]) hx hb dX4_tight_57 hl (by decide) rfl (fun ls hl => ?_)
            refine x_iconst (v := 0) hx hb dX4_tight_59 (by decide) ?_
            refine x_istore (lv' := [(7, .int (0 : Int32)), (6, .int (0 : Int32)), (0, .ref (ad (0))), (1, .int p1), (2, .int p2), (3, .int v8), (4, .int v9), (5, .int v10)]) hx hb dX4_tight_60 hl (by decide) rfl (fun ls hl => ?_)
            refine X.loop (I := fun (x : (Int32 × Int32)) g H locs => UM D ct ad (uA 31 ad s.heap.size) o4.2 w H ∧ va_S (uA 31 ad s.heap.size) s.heap H locs ∧ ∃ ls : Array Slot, g = F0 m 62 ls [] ∧ lv_has ls 8 [(0, .ref (ad (0))), (1, .int p1), (2, .int p2), (3, .int v8), (4, .int v9), (5, .int v10), (6, .int x.1), (7, .int x.2)]) (fun rc14 ih14 => ?_) FUEL _ _ _ _ ⟨hU, hS, _, rfl, lv_sub hl [2, 3, 4, 5, 6, 7, 1, 0] rfl⟩
            rintro ⟨v12, v13⟩ _ H locs ⟨hU, hS, ls, rfl, hl⟩
            have hU : UM D ct ad (uA 31 ad s.heap.size) o4.2 w H := hU
            have hl : lv_has ls 8 [(0, .ref (ad (0))), (1, .int p1), (2, .int p2), (3, .int v8), (4, .int v9), (5, .int v10), (6, .int v12), (7, .int v13)] := hl
            refine X.eqs (sp2 := sM_tight_L62 p1 o4 v8 v9 v10 rc11 rc14 v12 v13) rfl ?_
            unfold sM_tight_L62
            refine x_iload hx hb dX4_tight_62 (lv_at hl 7 rfl) ?_
            refine x_iload_n hx hb dX4_tight_64 rfl (lv_at hl 1 rfl) ?_
            refine x_icmp_ge (tgt := 96) hx hb dX4_tight_65 (by decide) (fun hc => ?_) (fun hc => ?_)
            · refine x_iload hx hb dX4_tight_96 (lv_at hl 6 rfl) ?_
              refine x_iload hx hb dX4_tight_98 (lv_at hl 4 rfl) ?_
              refine x_icmp_gt (tgt := 106) hx hb dX4_tight_100 (by decide) (fun hc => ?_) (fun hc => ?_)
              · refine x_iload hx hb dX4_tight_106 (lv_at hl 5 rfl) ?_
                refine x_istore_n (lv' := [(3, .int v10), (0, .ref (ad (0))), (1, .int p1), (2, .int p2), (4, .int v9), (5, .int v10), (6, .int v12), (7, .int v13)]) hx hb dX4_tight_108 rfl hl (by decide) rfl (fun ls hl => ?_)
                refine x_iload hx hb dX4_tight_109 (lv_at hl 6 rfl) ?_
                refine x_istore (lv' := [(4, .int v12), (3, .int v10), (0, .ref (ad (0))), (1, .int p1), (2, .int p2), (5, .int v10), (6, .int v12), (7, .int v13)]) hx hb dX4_tight_111 hl (by decide) rfl (fun ls hl => ?_)
                refine x_iinc (v := (v10 + (1 : Int32))) (lv' := [(5, .int (v10 + (1 : Int32))), (4, .int v12), (3, .int v10), (0, .ref (ad (0))), (1, .int p1), (2, .int p2), (6, .int v12), (7, .int v13)]) (k := 5) hx hb dX4_tight_113 hl rfl rfl (by decide) rfl (fun ls hl => ?_)
                refine x_goto (tgt := 39) hx hb dX4_tight_116 (by decide) ?_
                exact ih11 (v10, v12, (v10 + (1 : Int32))) _ _ _ ⟨hU, hS, _, rfl, lv_sub hl [3, 4, 5, 2, 1, 0] rfl⟩
              · refine x_goto (tgt := 113) hx hb dX4_tight_103 (by decide) ?_
                refine x_iinc (v := (v10 + (1 : Int32))) (lv' := [(5, .int (v10 + (1 : Int32))), (0, .ref (ad (0))), (1, .int p1), (2, .int p2), (3, .int v8), (4, .int v9), (6, .int v12), (7, .int v13)]) (k := 5) hx hb dX4_tight_113 hl rfl rfl (by decide) rfl (fun ls hl => ?_)
                refine x_goto (tgt := 39) hx hb dX4_tight_116 (by decide) ?_
                exact ih11 (v8, v9, (v10 + (1 : Int32))) _ _ _ ⟨hU, hS, _, rfl, lv_sub hl [1, 2, 3, 4, 5, 0] rfl⟩
            · refine x_iload hx hb dX4_tight_68 (lv_at hl 6 rfl) ?_
              refine x_aload_n hx hb dX4_tight_70 rfl (lv_at hl 0 rfl) ?_
              refine gM_rows E hU dX4_tight_71 ?_
              refine x_iconst (v := 1) hx hb dX4_tight_74 (by decide) ?_
              refine x_iload hx hb dX4_tight_75 (lv_at hl 5 rfl) ?_
              refine x_iload hx hb dX4_tight_77 (lv_at hl 7 rfl) ?_
              refine x_iadd hx hb dX4_tight_79 ?_
              refine x_aload_n hx hb dX4_tight_80 rfl (lv_at hl 0 rfl) ?_
              refine gM_many E hU dX4_tight_81 ?_
              refine x_iremG hx hb dX4_tight_84 ?_
              refine x_iadd hx hb dX4_tight_85 ?_
              refine ux_ald (i := 14) (n := 98) E hU (by decide) rfl dX4_tight_86 ?_
              refine x_iadd hx hb dX4_tight_87 ?_
              refine x_topi (fun e15 => ?_)
              refine x_istore (lv' := [(6, .int e15), (0, .ref (ad (0))), (1, .int p1), (2, .int p2), (3, .int v8), (4, .int v9), (5, .int v10), (7, .int v13)]) hx hb dX4_tight_88 hl (by decide) rfl (fun ls hl => ?_)
              refine x_iinc (v := (v13 + (1 : Int32))) (lv' := [(7, .int (v13 + (1 : Int32))), (6, .int e15), (0, .ref (ad (0))), (1, .int p1), (2, .int p2), (3, .int v8), (4, .int v9), (5, .int v10)]) (k := 7) hx hb dX4_tight_90 hl rfl rfl (by decide) rfl (fun ls hl => ?_)
              refine x_goto (tgt := 62) hx hb dX4_tight_93 (by decide) ?_
              exact ih14 (e15, (v13 + (1 : Int32))) _ _ _ ⟨hU, hS, _, rfl, lv_sub hl [2, 3, 4, 5, 6, 7, 1, 0] rfl⟩
    · refine x_iconst (v := 0) hx hb dX4_tight_29 (by decide) ?_
      exact x_iret hx hb hr hlk hS rfl (hU.to fun _ _ => trivial) dX4_tight_30

set_option maxHeartbeats 4000000 in
theorem mM_gaps (l : Launch) (D : va_G) (ct : CT) (ad : Nat → Nat) (S : US) (w : Int64) (sz : Nat) (o : (Int32 × US)) (ho : sM_gaps S = some o) : Met l yX4_gaps (ws_ yX4_gaps cX4_gaps 3 (some .int)) { frames := 2, cells := 0, slots := 0, locals := 54 } (mP D clW ct [.ref (ad (0))] sz (UM D ct ad (fun _ => True) S w)) (mC (some (.int o.1)) (UM D ct ad (fun _ => True) o.2 w) (uA 31 ad sz)) 0 0 (uA 31 ad sz) := by
  refine X.start (val := fun (o : (Int32 × US)) => some (.int o.1)) (Bt := fun (o : (Int32 × US)) => UM D ct ad (fun _ => True) o.2 w) (A := uA 31 ad sz) ho (by decide) (Nat.le_of_ble_eq_true rfl) rfl ?_
  intro p e s m args below meth c E hr hlk hnm hsz hU ls hl
  subst hsz
  obtain ⟨⟨hx, hb, hml, hown, hts⟩, hK, hJ⟩ := id E
  replace hU := hU.to (B := uA 31 ad s.heap.size) (fun i hi => Or.inl ⟨i, hi, rfl⟩)
  have hA0 : ∀ q, s.heap.size ≤ q → (uA 31 ad s.heap.size) q := fun q h => Or.inr h
  have hS : va_S (uA 31 ad s.heap.size) s.heap s.heap [] := va_S.rf
  unfold sM_gaps
  refine x_aload_n hx hb dX4_gaps_0 rfl (lv_at hl 0 rfl) ?_
  refine x_iconst (v := 0) hx hb dX4_gaps_1 (by decide) ?_
  refine pM_thrown E hU hS dX4_gaps_2 (fun S1 H locs hU hS => ?_)
  refine x_iconst (v := 0) hx hb dX4_gaps_5 (by decide) ?_
  refine x_istore_n (lv' := [(1, .int (0 : Int32)), (0, .ref (ad (0)))]) hx hb dX4_gaps_6 rfl hl (by decide) rfl (fun ls hl => ?_)
  refine x_iconst (v := 0) hx hb dX4_gaps_7 (by decide) ?_
  refine x_istore_n (lv' := [(2, .int (0 : Int32)), (1, .int (0 : Int32)), (0, .ref (ad (0)))]) hx hb dX4_gaps_8 rfl hl (by decide) rfl (fun ls hl => ?_)
  refine X.loop (I := fun (x : (Int32 × Int32)) g H locs => UM D ct ad (uA 31 ad s.heap.size) S1 w H ∧ va_S (uA 31 ad s.heap.size) s.heap H locs ∧ ∃ ls : Array Slot, g = F0 m 9 ls [] ∧ lv_has ls 3 [(0, .ref (ad (0))), (1, .int x.1), (2, .int x.2)]) (fun rc4 ih4 => ?_) FUEL _ _ _ _ ⟨hU, hS, _, rfl, lv_sub hl [2, 1, 0] rfl⟩
  rintro ⟨v2, v3⟩ _ H locs ⟨hU, hS, ls, rfl, hl⟩
  have hU : UM D ct ad (uA 31 ad s.heap.size) S1 w H := hU
  have hl : lv_has ls 3 [(0, .ref (ad (0))), (1, .int v2), (2, .int v3)] := hl
  refine X.eqs (sp2 := sM_gaps_L9 S1 rc4 v2 v3) rfl ?_
  unfold sM_gaps_L9
  refine x_iload_n hx hb dX4_gaps_9 rfl (lv_at hl 2 rfl) ?_
  refine x_aload_n hx hb dX4_gaps_10 rfl (lv_at hl 0 rfl) ?_
  refine gM_many E hU dX4_gaps_11 ?_
  refine x_icmp_ge (tgt := 53) hx hb dX4_gaps_14 (by decide) (fun hc => ?_) (fun hc => ?_)
  · refine x_iload_n hx hb dX4_gaps_53 rfl (lv_at hl 1 rfl) ?_
    refine x_if_ne (tgt := 70) hx hb dX4_gaps_54 (by decide) (fun hc => ?_) (fun hc => ?_)
    · refine x_iload_n hx hb dX4_gaps_70 rfl (lv_at hl 1 rfl) ?_
      exact x_iret hx hb hr hlk hS rfl (hU.to fun _ _ => trivial) dX4_gaps_71
    · refine x_aload_n hx hb dX4_gaps_57 rfl (lv_at hl 0 rfl) ?_
      refine x_iconst (v := 0) hx hb dX4_gaps_58 (by decide) ?_
      refine x_iconst (v := 0) hx hb dX4_gaps_59 (by decide) ?_
      refine kM_isGap E hU hS hA0 ⟨by decide, by decide⟩ hl.1 (Nat.le_of_ble_eq_true rfl) dX4_gaps_60 ⟨Nat.le_refl _, Nat.le_refl _⟩ (fun o5 H locs hU hS => ?_)
      refine x_if_eq (tgt := 70) hx hb dX4_gaps_63 (by decide) (fun hc => ?_) (fun hc => ?_)
      · refine x_iload_n hx hb dX4_gaps_70 rfl (lv_at hl 1 rfl) ?_
        exact x_iret hx hb hr hlk hS rfl (hU.to fun _ _ => trivial) dX4_gaps_71
      · refine x_iconst (v := 1) hx hb dX4_gaps_66 (by decide) ?_
        refine x_goto (tgt := 71) hx hb dX4_gaps_67 (by decide) ?_
        exact x_iret hx hb hr hlk hS rfl (hU.to fun _ _ => trivial) dX4_gaps_71
  · refine x_iload_n hx hb dX4_gaps_17 rfl (lv_at hl 1 rfl) ?_
    refine x_aload_n hx hb dX4_gaps_18 rfl (lv_at hl 0 rfl) ?_
    refine x_iconst (v := 0) hx hb dX4_gaps_19 (by decide) ?_
    refine x_iload_n hx hb dX4_gaps_20 rfl (lv_at hl 2 rfl) ?_
    refine kM_isGap E hU hS hA0 ⟨by decide, by decide⟩ hl.1 (Nat.le_of_ble_eq_true rfl) dX4_gaps_21 ⟨Nat.le_refl _, Nat.le_refl _⟩ (fun o6 H locs hU hS => ?_)
    refine x_if_eq (tgt := 44) hx hb dX4_gaps_24 (by decide) (fun hc => ?_) (fun hc => ?_)
    · refine x_iconst (v := 0) hx hb dX4_gaps_44 (by decide) ?_
      refine x_iadd hx hb dX4_gaps_45 ?_
      refine x_istore_n (lv' := [(1, .int (v2 + (0 : Int32))), (0, .ref (ad (0))), (2, .int v3)]) hx hb dX4_gaps_46 rfl hl (by decide) rfl (fun ls hl => ?_)
      refine x_iinc (v := (v3 + (1 : Int32))) (lv' := [(2, .int (v3 + (1 : Int32))), (1, .int (v2 + (0 : Int32))), (0, .ref (ad (0)))]) (k := 2) hx hb dX4_gaps_47 hl rfl rfl (by decide) rfl (fun ls hl => ?_)
      refine x_goto (tgt := 9) hx hb dX4_gaps_50 (by decide) ?_
      exact ih4 ((v2 + (0 : Int32)), (v3 + (1 : Int32))) _ _ _ ⟨hU, hS, _, rfl, lv_sub hl [2, 1, 0] rfl⟩
    · refine x_aload_n hx hb dX4_gaps_27 rfl (lv_at hl 0 rfl) ?_
      refine x_iconst (v := 0) hx hb dX4_gaps_28 (by decide) ?_
      refine x_aload_n hx hb dX4_gaps_29 rfl (lv_at hl 0 rfl) ?_
      refine x_iload_n hx hb dX4_gaps_30 rfl (lv_at hl 2 rfl) ?_
      refine kM_ahead1 E hU hS hA0 ⟨by decide, by decide⟩ hl.1 (Nat.le_of_ble_eq_true rfl) dX4_gaps_31 ⟨Nat.le_refl _, Nat.le_refl _⟩ (fun o7 H locs hU hS => ?_)
      refine kM_isGap E hU hS hA0 ⟨by decide, by decide⟩ hl.1 (Nat.le_of_ble_eq_true rfl) dX4_gaps_34 ⟨Nat.le_refl _, Nat.le_refl _⟩ (fun o8 H locs hU hS => ?_)
      refine x_if_ne (tgt := 44) hx hb dX4_gaps_37 (by decide) (fun hc => ?_) (fun hc => ?_)
      · refine x_iconst (v := 0) hx hb dX4_gaps_44 (by decide) ?_
        refine x_iadd hx hb dX4_gaps_45 ?_
        refine x_istore_n (lv' := [(1, .int (v2 + (0 : Int32))), (0, .ref (ad (0))), (2, .int v3)]) hx hb dX4_gaps_46 rfl hl (by decide) rfl (fun ls hl => ?_)
        refine x_iinc (v := (v3 + (1 : Int32))) (lv' := [(2, .int (v3 + (1 : Int32))), (1, .int (v2 + (0 : Int32))), (0, .ref (ad (0)))]) (k := 2) hx hb dX4_gaps_47 hl rfl rfl (by decide) rfl (fun ls hl => ?_)
        refine x_goto (tgt := 9) hx hb dX4_gaps_50 (by decide) ?_
        exact ih4 ((v2 + (0 : Int32)), (v3 + (1 : Int32))) _ _ _ ⟨hU, hS, _, rfl, lv_sub hl [2, 1, 0] rfl⟩
      · refine x_iconst (v := 1) hx hb dX4_gaps_40 (by decide) ?_
        refine x_goto (tgt := 45) hx hb dX4_gaps_41 (by decide) ?_
        refine x_iadd hx hb dX4_gaps_45 ?_
        refine x_istore_n (lv' := [(1, .int (v2 + (1 : Int32))), (0, .ref (ad (0))), (2, .int v3)]) hx hb dX4_gaps_46 rfl hl (by decide) rfl (fun ls hl => ?_)
        refine x_iinc (v := (v3 + (1 : Int32))) (lv' := [(2, .int (v3 + (1 : Int32))), (1, .int (v2 + (1 : Int32))), (0, .ref (ad (0)))]) (k := 2) hx hb dX4_gaps_47 hl rfl rfl (by decide) rfl (fun ls hl => ?_)
        refine x_goto (tgt := 9) hx hb dX4_gaps_50 (by decide) ?_
        exact ih4 ((v2 + (1 : Int32)), (v3 + (1 : Int32))) _ _ _ ⟨hU, hS, _, rfl, lv_sub hl [2, 1, 0] rfl⟩
