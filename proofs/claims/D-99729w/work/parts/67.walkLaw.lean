set_option maxRecDepth 100000
set_option maxHeartbeats 8000000 in
theorem law_loop {p : Program} {e : Env} {s : State} {m : MethodId} {below : List Frame} {meth : Method} {c : Code} {l : Launch} (hst : l.stackTraces = false) {D : va_G} {ct : CT} {b L a0 q0 : Nat} {xs : Nat → Int32} {G0 : GS} (E : ME p m c cL_law 7 s #[Value.ref b] RX0 D clW ct) (hr : meth.sig.returnType = ret) (hlk : meth.locks = false) (hX : va_X b L xs s s.heap) (hbl : b < s.heap.size) (hA : s.heap.size = G0.2.1) (hZ : YC ct room_1 s (nA s.heap.size) G0)
    {ad ad2 : Nat → Nat} {P : Nat → Nat → Option Nat} {S S2 : US} {w2 : Int64} {G : GS} {H : Heap} {locs : List Loc} {ls : Array Slot} (hU : LW D ct ad2 ad P (nA s.heap.size) S G0 G S2 w2 H ∧ ad 0 = a0) (hS : va_S (nA s.heap.size) s.heap H locs) (hl : lv_has ls 7 [(0, .ref b), (1, .ref a0), (2, .ref (ad2 0)), (3, .ref q0), (4, .int (0 : Int32))]) :
    X p l e room_1 s m #[Value.ref b] below meth c H locs (G.2.1 - G0.2.1) (G.2.2 - G0.2.2) (fun (_ : Unit) => lw_Z below #[Value.ref b] s) (sL_loop ct L xs a0 q0 S G P ad S2 w2) (F0 m 23 ls []) := by
  have hbA : ¬ nA s.heap.size b := fun h => Nat.not_le.mpr hbl h
  obtain ⟨⟨hx, hb, hml, hown, hts⟩, hK, hJ⟩ := id E
  unfold sL_loop
  refine X.loopY (I := fun (x : (US × GS × (Nat → Nat → Option Nat) × (Nat → Nat) × US × Int64 × Int32)) g H locs => (LW D ct ad2 x.2.2.2.1 x.2.2.1 (nA s.heap.size) x.1 G0 x.2.1 x.2.2.2.2.1 x.2.2.2.2.2.1 H ∧ x.2.2.2.1 0 = a0) ∧ va_S (nA s.heap.size) s.heap H locs ∧ ∃ ls : Array Slot, g = F0 m 23 ls [] ∧ lv_has ls 7 [(0, .ref b), (1, .ref a0), (2, .ref (ad2 0)), (3, .ref q0), (4, .int x.2.2.2.2.2.2)]) (cf := (fun (x : (US × GS × (Nat → Nat → Option Nat) × (Nat → Nat) × US × Int64 × Int32)) => x.2.1.2.1 - G0.2.1)) (sf := (fun (x : (US × GS × (Nat → Nat → Option Nat) × (Nat → Nat) × US × Int64 × Int32)) => x.2.1.2.2 - G0.2.2)) (fun rc8 ih8 => ?_) FUEL (S, G, P, ad, S2, w2, (0 : Int32)) _ _ _ ⟨hU, hS, _, rfl, lv_sub hl [0, 1, 2, 3, 4] rfl⟩
  rintro ⟨S1, G2, P3, d4, M5, w6, v7⟩ _ H locs ⟨hU, hS, ls, rfl, hl⟩
  have hU : (LW D ct ad2 d4 P3 (nA s.heap.size) S1 G0 G2 M5 w6 H ∧ d4 0 = a0) := hU
  have hl : lv_has ls 7 [(0, .ref b), (1, .ref a0), (2, .ref (ad2 0)), (3, .ref q0), (4, .int v7)] := hl
  refine X.cs (cells2 := G2.2.1 - G0.2.1) (slots2 := G2.2.2 - G0.2.2) rfl rfl ?_
  refine X.eqs (sp2 := sL_law_L23 ct a0 q0 L xs rc8 S1 G2 P3 d4 M5 w6 v7) rfl ?_
  unfold sL_law_L23
  refine x_iload hx hb dL_law_23 (lv_at hl 4 rfl) ?_
  refine x_aload_n hx hb dL_law_25 rfl (lv_at hl 0 rfl) ?_
  refine lx_slen E hX hbl hbA hS dL_law_26 ?_
  refine x_bipush (v := 6) hx hb dL_law_27 (by decide) ?_
  refine x_isub hx hb dL_law_29 ?_
  refine x_icmp_gt (tgt := 2561) hx hb dL_law_30 (by decide) (fun hc => ?_) (fun hc => ?_)
  · refine x_iconst (v := 1) hx hb dL_law_2561 (by decide) ?_
    exact lx_ret hA hx hb hr hlk hZ hU.1.1 hS dL_law_2562
  · refine x_aload_n hx hb dL_law_33 rfl (lv_at hl 0 rfl) ?_
    refine x_iload hx hb dL_law_34 (lv_at hl 4 rfl) ?_
    refine lx_sld E hX hbl hbA hS dL_law_36 ?_
    refine x_bipush (v := 63) hx hb dL_law_37 (by decide) ?_
    refine x_iand hx hb dL_law_39 ?_
    refine X.ite (fun hc => ?_) (fun hc0 => ?_)
    · refine x_tabEq (tgt := 228) hx hb hc dL_law_40 (by decide) (by decide) rfl (by decide) ?_
      refine x_aload_n hx hb dL_law_228 rfl (lv_at hl 1 rfl) ?_
      refine x_aload_n hx hb dL_law_229 rfl (lv_at hl 0 rfl) ?_
      refine x_iload hx hb dL_law_230 (lv_at hl 4 rfl) ?_
      refine x_iconst (v := 1) hx hb dL_law_232 (by decide) ?_
      refine x_iadd hx hb dL_law_233 ?_
      refine lx_sld E hX hbl hbA hS dL_law_234 ?_
      refine x_aload_n hx hb dL_law_235 rfl (lv_at hl 0 rfl) ?_
      refine x_iload hx hb dL_law_236 (lv_at hl 4 rfl) ?_
      refine x_iconst (v := 2) hx hb dL_law_238 (by decide) ?_
      refine x_iadd hx hb dL_law_239 ?_
      refine lx_sld E hX hbl hbA hS dL_law_240 ?_
      refine x_aload_n hx hb dL_law_241 rfl (lv_at hl 0 rfl) ?_
      refine x_iload hx hb dL_law_242 (lv_at hl 4 rfl) ?_
      refine x_iconst (v := 3) hx hb dL_law_244 (by decide) ?_
      refine x_iadd hx hb dL_law_245 ?_
      refine lx_sld E hX hbl hbA hS dL_law_246 ?_
      refine x_aload_n hx hb dL_law_247 rfl (lv_at hl 0 rfl) ?_
      refine x_iload hx hb dL_law_248 (lv_at hl 4 rfl) ?_
      refine x_iconst (v := 4) hx hb dL_law_250 (by decide) ?_
      refine x_iadd hx hb dL_law_251 ?_
      refine lx_sld E hX hbl hbA hS dL_law_252 ?_
      refine x_aload_n hx hb dL_law_253 rfl (lv_at hl 0 rfl) ?_
      refine x_iload hx hb dL_law_254 (lv_at hl 4 rfl) ?_
      refine x_iconst (v := 5) hx hb dL_law_256 (by decide) ?_
      refine x_iadd hx hb dL_law_257 ?_
      refine lx_sld E hX hbl hbA hS dL_law_258 ?_
      refine kl1_feed hst E hZ hU.1 hU.2 hS ⟨Nat.le_of_ble_eq_true rfl, Nat.le_of_ble_eq_true rfl⟩ hl.1 (Nat.le_of_ble_eq_true rfl) dL_law_259 (fun o9 H locs hU1 hS => ?_)
      replace hU := And.intro hU1 hU.2
      refine x_aload_n hx hb dL_law_262 rfl (lv_at hl 2 rfl) ?_
      refine x_aload_n hx hb dL_law_263 rfl (lv_at hl 0 rfl) ?_
      refine x_iload hx hb dL_law_264 (lv_at hl 4 rfl) ?_
      refine x_iconst (v := 1) hx hb dL_law_266 (by decide) ?_
      refine x_iadd hx hb dL_law_267 ?_
      refine lx_sld E hX hbl hbA hS dL_law_268 ?_
      refine x_aload_n hx hb dL_law_269 rfl (lv_at hl 0 rfl) ?_
      refine x_iload hx hb dL_law_270 (lv_at hl 4 rfl) ?_
      refine x_iconst (v := 2) hx hb dL_law_272 (by decide) ?_
      refine x_iadd hx hb dL_law_273 ?_
      refine lx_sld E hX hbl hbA hS dL_law_274 ?_
      refine x_aload_n hx hb dL_law_275 rfl (lv_at hl 0 rfl) ?_
      refine x_iload hx hb dL_law_276 (lv_at hl 4 rfl) ?_
      refine x_iconst (v := 3) hx hb dL_law_278 (by decide) ?_
      refine x_iadd hx hb dL_law_279 ?_
      refine lx_sld E hX hbl hbA hS dL_law_280 ?_
      refine x_aload_n hx hb dL_law_281 rfl (lv_at hl 0 rfl) ?_
      refine x_iload hx hb dL_law_282 (lv_at hl 4 rfl) ?_
      refine x_iconst (v := 4) hx hb dL_law_284 (by decide) ?_
      refine x_iadd hx hb dL_law_285 ?_
      refine lx_sld E hX hbl hbA hS dL_law_286 ?_
      refine x_aload_n hx hb dL_law_287 rfl (lv_at hl 0 rfl) ?_
      refine x_iload hx hb dL_law_288 (lv_at hl 4 rfl) ?_
      refine x_iconst (v := 5) hx hb dL_law_290 (by decide) ?_
      refine x_iadd hx hb dL_law_291 ?_
      refine lx_sld E hX hbl hbA hS dL_law_292 ?_
      refine kml_feed E hZ hU.1 hS ⟨Nat.le_of_ble_eq_true rfl, Nat.le_of_ble_eq_true rfl⟩ hl.1 (Nat.le_of_ble_eq_true rfl) dL_law_293 (fun o10 H locs hU1 hS => ?_)
      replace hU := And.intro hU1 hU.2
      refine x_icmp_eq (tgt := 2555) hx hb dL_law_296 (by decide) (fun hc => ?_) (fun hc => ?_)
      · refine x_iinc (v := (v7 + (6 : Int32))) (lv' := [(4, .int (v7 + (6 : Int32))), (0, .ref b), (1, .ref a0), (2, .ref (ad2 0)), (3, .ref q0)]) (k := 4) hx hb dL_law_2555 hl rfl rfl (by decide) rfl (fun ls hl => ?_)
        refine x_goto (tgt := 23) hx hb dL_law_2558 (by decide) ?_
        exact ih8 (o9.2, G2, P3, d4, o10.2, w6, (v7 + (6 : Int32))) _ _ _ ⟨hU, hS, _, rfl, lv_sub hl [1, 2, 3, 4, 0] rfl⟩
      · refine x_iconst (v := 0) hx hb dL_law_299 (by decide) ?_
        exact X.none
    refine X.ite (fun hc => ?_) (fun hc1 => ?_)
    · refine x_tabEq (tgt := 301) hx hb hc dL_law_40 (by decide) (by decide) rfl (by decide) ?_
      refine x_aload_n hx hb dL_law_301 rfl (lv_at hl 1 rfl) ?_
      refine x_aload_n hx hb dL_law_302 rfl (lv_at hl 0 rfl) ?_
      refine x_iload hx hb dL_law_303 (lv_at hl 4 rfl) ?_
      refine x_iconst (v := 1) hx hb dL_law_305 (by decide) ?_
      refine x_iadd hx hb dL_law_306 ?_
      refine lx_sld E hX hbl hbA hS dL_law_307 ?_
      refine x_aload_n hx hb dL_law_308 rfl (lv_at hl 3 rfl) ?_
      refine kl0_ring hst E hZ hU.1 hU.2 hS ⟨Nat.le_of_ble_eq_true rfl, Nat.le_of_ble_eq_true rfl⟩ hl.1 (Nat.le_of_ble_eq_true rfl) dL_law_309 (fun o11 H locs hU1 hS => ?_)
      refine X.ite (fun hD_ => ?_) (fun _ => X.none)
      replace hU := And.intro hU1 hD_
      refine x_istore (lv' := [(5, .int o11.1), (0, .ref b), (1, .ref a0), (2, .ref (ad2 0)), (3, .ref q0), (4, .int v7)]) hx hb dL_law_312 hl (by decide) rfl (fun ls hl => ?_)
      refine x_aload_n hx hb dL_law_314 rfl (lv_at hl 3 rfl) ?_
      refine x_aload_n hx hb dL_law_315 rfl (lv_at hl 1 rfl) ?_
      refine x_iload hx hb dL_law_316 (lv_at hl 5 rfl) ?_
      refine x_iconst (v := 1) hx hb dL_law_318 (by decide) ?_
      refine x_iadd hx hb dL_law_319 ?_
      refine lx_sld E hX hbl hbA hS dL_law_320 ?_
      refine kml_ring E hZ hU.1 hS ⟨Nat.le_of_ble_eq_true rfl, Nat.le_of_ble_eq_true rfl⟩ hl.1 (Nat.le_of_ble_eq_true rfl) dL_law_321 (fun o12 H locs hU1 hS => ?_)
      replace hU := And.intro hU1 hU.2
      refine x_istore (lv' := [(6, .int o12.1), (5, .int o11.1), (0, .ref b), (1, .ref a0), (2, .ref (ad2 0)), (3, .ref q0), (4, .int v7)]) hx hb dL_law_324 hl (by decide) rfl (fun ls hl => ?_)
      refine x_aload_n hx hb dL_law_326 rfl (lv_at hl 4 rfl) ?_
      refine kml_thrown E hZ hU.1 hS ⟨Nat.le_of_ble_eq_true rfl, Nat.le_of_ble_eq_true rfl⟩ hl.1 (Nat.le_of_ble_eq_true rfl) dL_law_327 (fun o13 H locs hU1 hS => ?_)
      replace hU := And.intro hU1 hU.2
      refine x_iload hx hb dL_law_330 (lv_at hl 1 rfl) ?_
      refine x_icmp_eq (tgt := 337) hx hb dL_law_332 (by decide) (fun hc => ?_) (fun hc => ?_)
      · refine x_iload hx hb dL_law_337 (lv_at hl 1 rfl) ?_
        refine x_if_ne (tgt := 354) hx hb dL_law_339 (by decide) (fun hc => ?_) (fun hc => ?_)
        · refine x_goto (tgt := 2555) hx hb dL_law_354 (by decide) ?_
          refine x_iinc (v := (v7 + (6 : Int32))) (lv' := [(4, .int (v7 + (6 : Int32))), (6, .int o12.1), (5, .int o11.1), (0, .ref b), (1, .ref a0), (2, .ref (ad2 0)), (3, .ref q0)]) (k := 6) hx hb dL_law_2555 hl rfl rfl (by decide) rfl (fun ls hl => ?_)
          refine x_goto (tgt := 23) hx hb dL_law_2558 (by decide) ?_
          exact ih8 (o11.2.1, o11.2.2.1, o11.2.2.2.1, o11.2.2.2.2, o12.2.1, o12.2.2, (v7 + (6 : Int32))) _ _ _ ⟨hU, hS, _, rfl, lv_sub hl [3, 4, 5, 6, 0] rfl⟩
        · refine x_aload_n hx hb dL_law_342 rfl (lv_at hl 5 rfl) ?_
          refine x_iconst (v := 0) hx hb dL_law_343 (by decide) ?_
          refine fx_laload E hU.1.1.1.1.2.1 dL_law_344 (fun u14 => ?_)
          refine x_iload hx hb dL_law_345 (lv_at hl 0 rfl) ?_
          refine x_i2l hx hb dL_law_347 rfl ?_
          refine x_lcmp hx hb dL_law_348 ?_
          refine x_if_eq (tgt := 354) hx hb dL_law_349 (by decide) (fun hc => ?_) (fun hc => ?_)
          · refine x_goto (tgt := 2555) hx hb dL_law_354 (by decide) ?_
            refine x_iinc (v := (v7 + (6 : Int32))) (lv' := [(4, .int (v7 + (6 : Int32))), (6, .int o12.1), (5, .int o11.1), (0, .ref b), (1, .ref a0), (2, .ref (ad2 0)), (3, .ref q0)]) (k := 6) hx hb dL_law_2555 hl rfl rfl (by decide) rfl (fun ls hl => ?_)
            refine x_goto (tgt := 23) hx hb dL_law_2558 (by decide) ?_
            exact ih8 (o11.2.1, o11.2.2.1, o11.2.2.2.1, o11.2.2.2.2, o12.2.1, o12.2.2, (v7 + (6 : Int32))) _ _ _ ⟨hU, hS, _, rfl, lv_sub hl [3, 4, 5, 6, 0] rfl⟩
          · refine x_iconst (v := 0) hx hb dL_law_352 (by decide) ?_
            exact X.none
      · refine x_iconst (v := 0) hx hb dL_law_335 (by decide) ?_
        exact X.none
    refine X.ite (fun hc => ?_) (fun hc2 => ?_)
    · refine x_tabEq (tgt := 357) hx hb hc dL_law_40 (by decide) (by decide) rfl (by decide) ?_
      refine x_aload_n hx hb dL_law_357 rfl (lv_at hl 1 rfl) ?_
      refine kl1_fault hst E hZ hU.1 hU.2 hS ⟨Nat.le_of_ble_eq_true rfl, Nat.le_of_ble_eq_true rfl⟩ hl.1 (Nat.le_of_ble_eq_true rfl) dL_law_358 (fun o15 H locs hU1 hS => ?_)
      replace hU := And.intro hU1 hU.2
      refine x_aload_n hx hb dL_law_361 rfl (lv_at hl 2 rfl) ?_
      refine kml_fault E hZ hU.1 hS ⟨Nat.le_of_ble_eq_true rfl, Nat.le_of_ble_eq_true rfl⟩ hl.1 (Nat.le_of_ble_eq_true rfl) dL_law_362 (fun o16 H locs hU1 hS => ?_)
      replace hU := And.intro hU1 hU.2
      refine x_icmp_eq (tgt := 2555) hx hb dL_law_365 (by decide) (fun hc => ?_) (fun hc => ?_)
      · refine x_iinc (v := (v7 + (6 : Int32))) (lv' := [(4, .int (v7 + (6 : Int32))), (0, .ref b), (1, .ref a0), (2, .ref (ad2 0)), (3, .ref q0)]) (k := 4) hx hb dL_law_2555 hl rfl rfl (by decide) rfl (fun ls hl => ?_)
        refine x_goto (tgt := 23) hx hb dL_law_2558 (by decide) ?_
        exact ih8 (S1, G2, P3, d4, o16.2, w6, (v7 + (6 : Int32))) _ _ _ ⟨hU, hS, _, rfl, lv_sub hl [1, 2, 3, 4, 0] rfl⟩
      · refine x_iconst (v := 0) hx hb dL_law_368 (by decide) ?_
        exact X.none
    refine X.ite (fun hc => ?_) (fun hc3 => ?_)
    · refine x_tabEq (tgt := 370) hx hb hc dL_law_40 (by decide) (by decide) rfl (by decide) ?_
      refine x_aload_n hx hb dL_law_370 rfl (lv_at hl 1 rfl) ?_
      refine x_aload_n hx hb dL_law_371 rfl (lv_at hl 0 rfl) ?_
      refine x_iload hx hb dL_law_372 (lv_at hl 4 rfl) ?_
      refine x_iconst (v := 1) hx hb dL_law_374 (by decide) ?_
      refine x_iadd hx hb dL_law_375 ?_
      refine lx_sld E hX hbl hbA hS dL_law_376 ?_
      refine x_aload_n hx hb dL_law_377 rfl (lv_at hl 3 rfl) ?_
      refine kl0_count hst E hZ hU.1 hU.2 hS ⟨Nat.le_of_ble_eq_true rfl, Nat.le_of_ble_eq_true rfl⟩ hl.1 (Nat.le_of_ble_eq_true rfl) dL_law_378 (fun o17 H locs hU1 hS => ?_)
      replace hU := And.intro hU1 hU.2
      refine x_istore (lv' := [(5, .int o17.1), (0, .ref b), (1, .ref a0), (2, .ref (ad2 0)), (3, .ref q0), (4, .int v7)]) hx hb dL_law_381 hl (by decide) rfl (fun ls hl => ?_)
      refine x_aload_n hx hb dL_law_383 rfl (lv_at hl 3 rfl) ?_
      refine x_aload_n hx hb dL_law_384 rfl (lv_at hl 1 rfl) ?_
      refine x_iload hx hb dL_law_385 (lv_at hl 5 rfl) ?_
      refine x_iconst (v := 1) hx hb dL_law_387 (by decide) ?_
      refine x_iadd hx hb dL_law_388 ?_
      refine lx_sld E hX hbl hbA hS dL_law_389 ?_
      refine kml_count E hZ hU.1 hS ⟨Nat.le_of_ble_eq_true rfl, Nat.le_of_ble_eq_true rfl⟩ hl.1 (Nat.le_of_ble_eq_true rfl) dL_law_390 (fun o18 H locs hU1 hS => ?_)
      replace hU := And.intro hU1 hU.2
      refine x_istore (lv' := [(6, .int o18.1), (5, .int o17.1), (0, .ref b), (1, .ref a0), (2, .ref (ad2 0)), (3, .ref q0), (4, .int v7)]) hx hb dL_law_393 hl (by decide) rfl (fun ls hl => ?_)
      refine x_aload_n hx hb dL_law_395 rfl (lv_at hl 4 rfl) ?_
      refine kml_thrown E hZ hU.1 hS ⟨Nat.le_of_ble_eq_true rfl, Nat.le_of_ble_eq_true rfl⟩ hl.1 (Nat.le_of_ble_eq_true rfl) dL_law_396 (fun o19 H locs hU1 hS => ?_)
      replace hU := And.intro hU1 hU.2
      refine x_iload hx hb dL_law_399 (lv_at hl 1 rfl) ?_
      refine x_icmp_eq (tgt := 406) hx hb dL_law_401 (by decide) (fun hc => ?_) (fun hc => ?_)
      · refine x_iload hx hb dL_law_406 (lv_at hl 1 rfl) ?_
        refine x_if_ne (tgt := 423) hx hb dL_law_408 (by decide) (fun hc => ?_) (fun hc => ?_)
        · refine x_goto (tgt := 2555) hx hb dL_law_423 (by decide) ?_
          refine x_iinc (v := (v7 + (6 : Int32))) (lv' := [(4, .int (v7 + (6 : Int32))), (6, .int o18.1), (5, .int o17.1), (0, .ref b), (1, .ref a0), (2, .ref (ad2 0)), (3, .ref q0)]) (k := 6) hx hb dL_law_2555 hl rfl rfl (by decide) rfl (fun ls hl => ?_)
          refine x_goto (tgt := 23) hx hb dL_law_2558 (by decide) ?_
          exact ih8 (S1, o17.2, P3, d4, o18.2, w6, (v7 + (6 : Int32))) _ _ _ ⟨hU, hS, _, rfl, lv_sub hl [3, 4, 5, 6, 0] rfl⟩
        · refine x_aload_n hx hb dL_law_411 rfl (lv_at hl 5 rfl) ?_
          refine x_iconst (v := 0) hx hb dL_law_412 (by decide) ?_
          refine fx_laload E hU.1.1.1.1.2.1 dL_law_413 (fun u20 => ?_)
          refine x_iload hx hb dL_law_414 (lv_at hl 0 rfl) ?_
          refine x_i2l hx hb dL_law_416 rfl ?_
          refine x_lcmp hx hb dL_law_417 ?_
          refine x_if_eq (tgt := 423) hx hb dL_law_418 (by decide) (fun hc => ?_) (fun hc => ?_)
          · refine x_goto (tgt := 2555) hx hb dL_law_423 (by decide) ?_
            refine x_iinc (v := (v7 + (6 : Int32))) (lv' := [(4, .int (v7 + (6 : Int32))), (6, .int o18.1), (5, .int o17.1), (0, .ref b), (1, .ref a0), (2, .ref (ad2 0)), (3, .ref q0)]) (k := 6) hx hb dL_law_2555 hl rfl rfl (by decide) rfl (fun ls hl => ?_)
            refine x_goto (tgt := 23) hx hb dL_law_2558 (by decide) ?_
            exact ih8 (S1, o17.2, P3, d4, o18.2, w6, (v7 + (6 : Int32))) _ _ _ ⟨hU, hS, _, rfl, lv_sub hl [3, 4, 5, 6, 0] rfl⟩
          · refine x_iconst (v := 0) hx hb dL_law_421 (by decide) ?_
            exact X.none
      · refine x_iconst (v := 0) hx hb dL_law_404 (by decide) ?_
        exact X.none
    refine X.ite (fun hc => ?_) (fun hc4 => ?_)
    · refine x_tabEq (tgt := 426) hx hb hc dL_law_40 (by decide) (by decide) rfl (by decide) ?_
      refine x_aload_n hx hb dL_law_426 rfl (lv_at hl 1 rfl) ?_
      refine x_aload_n hx hb dL_law_427 rfl (lv_at hl 0 rfl) ?_
      refine x_iload hx hb dL_law_428 (lv_at hl 4 rfl) ?_
      refine x_iconst (v := 1) hx hb dL_law_430 (by decide) ?_
      refine x_iadd hx hb dL_law_431 ?_
      refine lx_sld E hX hbl hbA hS dL_law_432 ?_
      refine x_aload_n hx hb dL_law_433 rfl (lv_at hl 0 rfl) ?_
      refine x_iload hx hb dL_law_434 (lv_at hl 4 rfl) ?_
      refine x_iconst (v := 2) hx hb dL_law_436 (by decide) ?_
      refine x_iadd hx hb dL_law_437 ?_
      refine lx_sld E hX hbl hbA hS dL_law_438 ?_
      refine x_aload_n hx hb dL_law_439 rfl (lv_at hl 3 rfl) ?_
      refine kl0_stretch hst E hZ hU.1 hU.2 hS ⟨Nat.le_of_ble_eq_true rfl, Nat.le_of_ble_eq_true rfl⟩ hl.1 (Nat.le_of_ble_eq_true rfl) dL_law_440 (fun o21 H locs hU1 hS => ?_)
      replace hU := And.intro hU1 hU.2
      refine x_istore (lv' := [(5, .int o21.1), (0, .ref b), (1, .ref a0), (2, .ref (ad2 0)), (3, .ref q0), (4, .int v7)]) hx hb dL_law_443 hl (by decide) rfl (fun ls hl => ?_)
      refine x_aload_n hx hb dL_law_445 rfl (lv_at hl 3 rfl) ?_
      refine x_aload_n hx hb dL_law_446 rfl (lv_at hl 1 rfl) ?_
      refine x_iload hx hb dL_law_447 (lv_at hl 5 rfl) ?_
      refine x_iconst (v := 1) hx hb dL_law_449 (by decide) ?_
      refine x_iadd hx hb dL_law_450 ?_
      refine lx_sld E hX hbl hbA hS dL_law_451 ?_
      refine x_aload_n hx hb dL_law_452 rfl (lv_at hl 1 rfl) ?_
      refine x_iload hx hb dL_law_453 (lv_at hl 5 rfl) ?_
      refine x_iconst (v := 2) hx hb dL_law_455 (by decide) ?_
      refine x_iadd hx hb dL_law_456 ?_
      refine lx_sld E hX hbl hbA hS dL_law_457 ?_
      refine kml_stretch E hZ hU.1 hS ⟨Nat.le_of_ble_eq_true rfl, Nat.le_of_ble_eq_true rfl⟩ hl.1 (Nat.le_of_ble_eq_true rfl) dL_law_458 (fun o22 H locs hU1 hS => ?_)
      replace hU := And.intro hU1 hU.2
      refine x_istore (lv' := [(6, .int o22.1), (5, .int o21.1), (0, .ref b), (1, .ref a0), (2, .ref (ad2 0)), (3, .ref q0), (4, .int v7)]) hx hb dL_law_461 hl (by decide) rfl (fun ls hl => ?_)
      refine x_aload_n hx hb dL_law_463 rfl (lv_at hl 4 rfl) ?_
      refine kml_thrown E hZ hU.1 hS ⟨Nat.le_of_ble_eq_true rfl, Nat.le_of_ble_eq_true rfl⟩ hl.1 (Nat.le_of_ble_eq_true rfl) dL_law_464 (fun o23 H locs hU1 hS => ?_)
      replace hU := And.intro hU1 hU.2
      refine x_iload hx hb dL_law_467 (lv_at hl 1 rfl) ?_
      refine x_icmp_eq (tgt := 474) hx hb dL_law_469 (by decide) (fun hc => ?_) (fun hc => ?_)
      · refine x_iload hx hb dL_law_474 (lv_at hl 1 rfl) ?_
        refine x_if_ne (tgt := 491) hx hb dL_law_476 (by decide) (fun hc => ?_) (fun hc => ?_)
        · refine x_goto (tgt := 2555) hx hb dL_law_491 (by decide) ?_
          refine x_iinc (v := (v7 + (6 : Int32))) (lv' := [(4, .int (v7 + (6 : Int32))), (6, .int o22.1), (5, .int o21.1), (0, .ref b), (1, .ref a0), (2, .ref (ad2 0)), (3, .ref q0)]) (k := 6) hx hb dL_law_2555 hl rfl rfl (by decide) rfl (fun ls hl => ?_)
          refine x_goto (tgt := 23) hx hb dL_law_2558 (by decide) ?_
          exact ih8 (o21.2.1, o21.2.2, P3, d4, o22.2, w6, (v7 + (6 : Int32))) _ _ _ ⟨hU, hS, _, rfl, lv_sub hl [3, 4, 5, 6, 0] rfl⟩
        · refine x_aload_n hx hb dL_law_479 rfl (lv_at hl 5 rfl) ?_
          refine x_iconst (v := 0) hx hb dL_law_480 (by decide) ?_
          refine fx_laload E hU.1.1.1.1.2.1 dL_law_481 (fun u24 => ?_)
          refine x_iload hx hb dL_law_482 (lv_at hl 0 rfl) ?_
          refine x_i2l hx hb dL_law_484 rfl ?_
          refine x_lcmp hx hb dL_law_485 ?_
          refine x_if_eq (tgt := 491) hx hb dL_law_486 (by decide) (fun hc => ?_) (fun hc => ?_)
          · refine x_goto (tgt := 2555) hx hb dL_law_491 (by decide) ?_
            refine x_iinc (v := (v7 + (6 : Int32))) (lv' := [(4, .int (v7 + (6 : Int32))), (6, .int o22.1), (5, .int o21.1), (0, .ref b), (1, .ref a0), (2, .ref (ad2 0)), (3, .ref q0)]) (k := 6) hx hb dL_law_2555 hl rfl rfl (by decide) rfl (fun ls hl => ?_)
            refine x_goto (tgt := 23) hx hb dL_law_2558 (by decide) ?_
            exact ih8 (o21.2.1, o21.2.2, P3, d4, o22.2, w6, (v7 + (6 : Int32))) _ _ _ ⟨hU, hS, _, rfl, lv_sub hl [3, 4, 5, 6, 0] rfl⟩
          · refine x_iconst (v := 0) hx hb dL_law_489 (by decide) ?_
            exact X.none
      · refine x_iconst (v := 0) hx hb dL_law_472 (by decide) ?_
        exact X.none
    refine X.ite (fun hc => ?_) (fun hc5 => ?_)
    · refine x_tabEq (tgt := 494) hx hb hc dL_law_40 (by decide) (by decide) rfl (by decide) ?_
      refine x_aload_n hx hb dL_law_494 rfl (lv_at hl 1 rfl) ?_
      refine x_aload_n hx hb dL_law_495 rfl (lv_at hl 0 rfl) ?_
      refine x_iload hx hb dL_law_496 (lv_at hl 4 rfl) ?_
      refine x_iconst (v := 1) hx hb dL_law_498 (by decide) ?_
      refine x_iadd hx hb dL_law_499 ?_
      refine lx_sld E hX hbl hbA hS dL_law_500 ?_
      refine x_aload_n hx hb dL_law_501 rfl (lv_at hl 0 rfl) ?_
      refine x_iload hx hb dL_law_502 (lv_at hl 4 rfl) ?_
      refine x_iconst (v := 2) hx hb dL_law_504 (by decide) ?_
      refine x_iadd hx hb dL_law_505 ?_
      refine lx_sld E hX hbl hbA hS dL_law_506 ?_
      refine x_aload_n hx hb dL_law_507 rfl (lv_at hl 3 rfl) ?_
      refine kl0_woman hst E hZ hU.1 hU.2 hS ⟨Nat.le_of_ble_eq_true rfl, Nat.le_of_ble_eq_true rfl⟩ hl.1 (Nat.le_of_ble_eq_true rfl) dL_law_508 (fun o25 H locs hU1 hS => ?_)
      replace hU := And.intro hU1 hU.2
      refine x_istore (lv' := [(5, .int o25.1), (0, .ref b), (1, .ref a0), (2, .ref (ad2 0)), (3, .ref q0), (4, .int v7)]) hx hb dL_law_511 hl (by decide) rfl (fun ls hl => ?_)
      refine x_aload_n hx hb dL_law_513 rfl (lv_at hl 3 rfl) ?_
      refine x_aload_n hx hb dL_law_514 rfl (lv_at hl 1 rfl) ?_
      refine x_iload hx hb dL_law_515 (lv_at hl 5 rfl) ?_
      refine x_iconst (v := 1) hx hb dL_law_517 (by decide) ?_
      refine x_iadd hx hb dL_law_518 ?_
      refine lx_sld E hX hbl hbA hS dL_law_519 ?_
      refine x_aload_n hx hb dL_law_520 rfl (lv_at hl 1 rfl) ?_
      refine x_iload hx hb dL_law_521 (lv_at hl 5 rfl) ?_
      refine x_iconst (v := 2) hx hb dL_law_523 (by decide) ?_
      refine x_iadd hx hb dL_law_524 ?_
      refine lx_sld E hX hbl hbA hS dL_law_525 ?_
      refine kml_woman E hZ hU.1 hS ⟨Nat.le_of_ble_eq_true rfl, Nat.le_of_ble_eq_true rfl⟩ hl.1 (Nat.le_of_ble_eq_true rfl) dL_law_526 (fun o26 H locs hU1 hS => ?_)
      replace hU := And.intro hU1 hU.2
      refine x_istore (lv' := [(6, .int o26.1), (5, .int o25.1), (0, .ref b), (1, .ref a0), (2, .ref (ad2 0)), (3, .ref q0), (4, .int v7)]) hx hb dL_law_529 hl (by decide) rfl (fun ls hl => ?_)
      refine x_aload_n hx hb dL_law_531 rfl (lv_at hl 4 rfl) ?_
      refine kml_thrown E hZ hU.1 hS ⟨Nat.le_of_ble_eq_true rfl, Nat.le_of_ble_eq_true rfl⟩ hl.1 (Nat.le_of_ble_eq_true rfl) dL_law_532 (fun o27 H locs hU1 hS => ?_)
      replace hU := And.intro hU1 hU.2
      refine x_iload hx hb dL_law_535 (lv_at hl 1 rfl) ?_
      refine x_icmp_eq (tgt := 542) hx hb dL_law_537 (by decide) (fun hc => ?_) (fun hc => ?_)
      · refine x_iload hx hb dL_law_542 (lv_at hl 1 rfl) ?_
        refine x_if_ne (tgt := 559) hx hb dL_law_544 (by decide) (fun hc => ?_) (fun hc => ?_)
        · refine x_goto (tgt := 2555) hx hb dL_law_559 (by decide) ?_
          refine x_iinc (v := (v7 + (6 : Int32))) (lv' := [(4, .int (v7 + (6 : Int32))), (6, .int o26.1), (5, .int o25.1), (0, .ref b), (1, .ref a0), (2, .ref (ad2 0)), (3, .ref q0)]) (k := 6) hx hb dL_law_2555 hl rfl rfl (by decide) rfl (fun ls hl => ?_)
          refine x_goto (tgt := 23) hx hb dL_law_2558 (by decide) ?_
          exact ih8 (S1, o25.2, P3, d4, o26.2, w6, (v7 + (6 : Int32))) _ _ _ ⟨hU, hS, _, rfl, lv_sub hl [3, 4, 5, 6, 0] rfl⟩
        · refine x_aload_n hx hb dL_law_547 rfl (lv_at hl 5 rfl) ?_
          refine x_iconst (v := 0) hx hb dL_law_548 (by decide) ?_
          refine fx_laload E hU.1.1.1.1.2.1 dL_law_549 (fun u28 => ?_)
          refine x_iload hx hb dL_law_550 (lv_at hl 0 rfl) ?_
          refine x_i2l hx hb dL_law_552 rfl ?_
          refine x_lcmp hx hb dL_law_553 ?_
          refine x_if_eq (tgt := 559) hx hb dL_law_554 (by decide) (fun hc => ?_) (fun hc => ?_)
          · refine x_goto (tgt := 2555) hx hb dL_law_559 (by decide) ?_
            refine x_iinc (v := (v7 + (6 : Int32))) (lv' := [(4, .int (v7 + (6 : Int32))), (6, .int o26.1), (5, .int o25.1), (0, .ref b), (1, .ref a0), (2, .ref (ad2 0)), (3, .ref q0)]) (k := 6) hx hb dL_law_2555 hl rfl rfl (by decide) rfl (fun ls hl => ?_)
            refine x_goto (tgt := 23) hx hb dL_law_2558 (by decide) ?_
            exact ih8 (S1, o25.2, P3, d4, o26.2, w6, (v7 + (6 : Int32))) _ _ _ ⟨hU, hS, _, rfl, lv_sub hl [3, 4, 5, 6, 0] rfl⟩
          · refine x_iconst (v := 0) hx hb dL_law_557 (by decide) ?_
            exact X.none
      · refine x_iconst (v := 0) hx hb dL_law_540 (by decide) ?_
        exact X.none
    refine X.ite (fun hc => ?_) (fun hc6 => ?_)
    · refine x_tabEq (tgt := 562) hx hb hc dL_law_40 (by decide) (by decide) rfl (by decide) ?_
      refine x_aload_n hx hb dL_law_562 rfl (lv_at hl 1 rfl) ?_
      refine x_aload_n hx hb dL_law_563 rfl (lv_at hl 0 rfl) ?_
      refine x_iload hx hb dL_law_564 (lv_at hl 4 rfl) ?_
      refine x_iconst (v := 1) hx hb dL_law_566 (by decide) ?_
      refine x_iadd hx hb dL_law_567 ?_
      refine lx_sld E hX hbl hbA hS dL_law_568 ?_
      refine kl1_days hst E hZ hU.1 hU.2 hS ⟨Nat.le_of_ble_eq_true rfl, Nat.le_of_ble_eq_true rfl⟩ hl.1 (Nat.le_of_ble_eq_true rfl) dL_law_569 (fun o29 H locs hU1 hS => ?_)
      replace hU := And.intro hU1 hU.2
      refine x_aload_n hx hb dL_law_572 rfl (lv_at hl 2 rfl) ?_
      refine x_aload_n hx hb dL_law_573 rfl (lv_at hl 0 rfl) ?_
      refine x_iload hx hb dL_law_574 (lv_at hl 4 rfl) ?_
      refine x_iconst (v := 1) hx hb dL_law_576 (by decide) ?_
      refine x_iadd hx hb dL_law_577 ?_
      refine lx_sld E hX hbl hbA hS dL_law_578 ?_
      refine kml_days E hZ hU.1 hS ⟨Nat.le_of_ble_eq_true rfl, Nat.le_of_ble_eq_true rfl⟩ hl.1 (Nat.le_of_ble_eq_true rfl) dL_law_579 (fun o30 H locs hU1 hS => ?_)
      replace hU := And.intro hU1 hU.2
      refine x_icmp_eq (tgt := 2555) hx hb dL_law_582 (by decide) (fun hc => ?_) (fun hc => ?_)
      · refine x_iinc (v := (v7 + (6 : Int32))) (lv' := [(4, .int (v7 + (6 : Int32))), (0, .ref b), (1, .ref a0), (2, .ref (ad2 0)), (3, .ref q0)]) (k := 4) hx hb dL_law_2555 hl rfl rfl (by decide) rfl (fun ls hl => ?_)
        refine x_goto (tgt := 23) hx hb dL_law_2558 (by decide) ?_
        exact ih8 (o29.2.1, o29.2.2, P3, d4, o30.2, w6, (v7 + (6 : Int32))) _ _ _ ⟨hU, hS, _, rfl, lv_sub hl [1, 2, 3, 4, 0] rfl⟩
      · refine x_iconst (v := 0) hx hb dL_law_585 (by decide) ?_
        exact X.none
    refine X.ite (fun hc => ?_) (fun hc7 => ?_)
    · refine x_tabEq (tgt := 587) hx hb hc dL_law_40 (by decide) (by decide) rfl (by decide) ?_
      refine x_aload_n hx hb dL_law_587 rfl (lv_at hl 1 rfl) ?_
      refine x_aload_n hx hb dL_law_588 rfl (lv_at hl 0 rfl) ?_
      refine x_iload hx hb dL_law_589 (lv_at hl 4 rfl) ?_
      refine x_iconst (v := 1) hx hb dL_law_591 (by decide) ?_
      refine x_iadd hx hb dL_law_592 ?_
      refine lx_sld E hX hbl hbA hS dL_law_593 ?_
      refine x_aload_n hx hb dL_law_594 rfl (lv_at hl 3 rfl) ?_
      refine kl0_mend hst E hZ hU.1 hU.2 hS ⟨Nat.le_of_ble_eq_true rfl, Nat.le_of_ble_eq_true rfl⟩ hl.1 (Nat.le_of_ble_eq_true rfl) dL_law_595 (fun o31 H locs hU1 hS => ?_)
      replace hU := And.intro hU1 hU.2
      refine x_istore (lv' := [(5, .int o31.1), (0, .ref b), (1, .ref a0), (2, .ref (ad2 0)), (3, .ref q0), (4, .int v7)]) hx hb dL_law_598 hl (by decide) rfl (fun ls hl => ?_)
      refine x_aload_n hx hb dL_law_600 rfl (lv_at hl 3 rfl) ?_
      refine x_aload_n hx hb dL_law_601 rfl (lv_at hl 1 rfl) ?_
      refine x_iload hx hb dL_law_602 (lv_at hl 5 rfl) ?_
      refine x_iconst (v := 1) hx hb dL_law_604 (by decide) ?_
      refine x_iadd hx hb dL_law_605 ?_
      refine lx_sld E hX hbl hbA hS dL_law_606 ?_
      refine kml_mend E hZ hU.1 hS ⟨Nat.le_of_ble_eq_true rfl, Nat.le_of_ble_eq_true rfl⟩ hl.1 (Nat.le_of_ble_eq_true rfl) dL_law_607 (fun o32 H locs hU1 hS => ?_)
      replace hU := And.intro hU1 hU.2
      refine x_istore (lv' := [(6, .int o32.1), (5, .int o31.1), (0, .ref b), (1, .ref a0), (2, .ref (ad2 0)), (3, .ref q0), (4, .int v7)]) hx hb dL_law_610 hl (by decide) rfl (fun ls hl => ?_)
      refine x_aload_n hx hb dL_law_612 rfl (lv_at hl 4 rfl) ?_
      refine kml_thrown E hZ hU.1 hS ⟨Nat.le_of_ble_eq_true rfl, Nat.le_of_ble_eq_true rfl⟩ hl.1 (Nat.le_of_ble_eq_true rfl) dL_law_613 (fun o33 H locs hU1 hS => ?_)
      replace hU := And.intro hU1 hU.2
      refine x_iload hx hb dL_law_616 (lv_at hl 1 rfl) ?_
      refine x_icmp_eq (tgt := 623) hx hb dL_law_618 (by decide) (fun hc => ?_) (fun hc => ?_)
      · refine x_iload hx hb dL_law_623 (lv_at hl 1 rfl) ?_
        refine x_if_ne (tgt := 640) hx hb dL_law_625 (by decide) (fun hc => ?_) (fun hc => ?_)
        · refine x_goto (tgt := 2555) hx hb dL_law_640 (by decide) ?_
          refine x_iinc (v := (v7 + (6 : Int32))) (lv' := [(4, .int (v7 + (6 : Int32))), (6, .int o32.1), (5, .int o31.1), (0, .ref b), (1, .ref a0), (2, .ref (ad2 0)), (3, .ref q0)]) (k := 6) hx hb dL_law_2555 hl rfl rfl (by decide) rfl (fun ls hl => ?_)
          refine x_goto (tgt := 23) hx hb dL_law_2558 (by decide) ?_
          exact ih8 (o31.2.1, o31.2.2, P3, d4, o32.2, w6, (v7 + (6 : Int32))) _ _ _ ⟨hU, hS, _, rfl, lv_sub hl [3, 4, 5, 6, 0] rfl⟩
        · refine x_aload_n hx hb dL_law_628 rfl (lv_at hl 5 rfl) ?_
          refine x_iconst (v := 0) hx hb dL_law_629 (by decide) ?_
          refine fx_laload E hU.1.1.1.1.2.1 dL_law_630 (fun u34 => ?_)
          refine x_iload hx hb dL_law_631 (lv_at hl 0 rfl) ?_
          refine x_i2l hx hb dL_law_633 rfl ?_
          refine x_lcmp hx hb dL_law_634 ?_
          refine x_if_eq (tgt := 640) hx hb dL_law_635 (by decide) (fun hc => ?_) (fun hc => ?_)
          · refine x_goto (tgt := 2555) hx hb dL_law_640 (by decide) ?_
            refine x_iinc (v := (v7 + (6 : Int32))) (lv' := [(4, .int (v7 + (6 : Int32))), (6, .int o32.1), (5, .int o31.1), (0, .ref b), (1, .ref a0), (2, .ref (ad2 0)), (3, .ref q0)]) (k := 6) hx hb dL_law_2555 hl rfl rfl (by decide) rfl (fun ls hl => ?_)
            refine x_goto (tgt := 23) hx hb dL_law_2558 (by decide) ?_
            exact ih8 (o31.2.1, o31.2.2, P3, d4, o32.2, w6, (v7 + (6 : Int32))) _ _ _ ⟨hU, hS, _, rfl, lv_sub hl [3, 4, 5, 6, 0] rfl⟩
          · refine x_iconst (v := 0) hx hb dL_law_638 (by decide) ?_
            exact X.none
      · refine x_iconst (v := 0) hx hb dL_law_621 (by decide) ?_
        exact X.none
    refine X.ite (fun hc => ?_) (fun hc8 => ?_)
    · refine x_tabEq (tgt := 643) hx hb hc dL_law_40 (by decide) (by decide) rfl (by decide) ?_
      refine x_aload_n hx hb dL_law_643 rfl (lv_at hl 1 rfl) ?_
      refine x_aload_n hx hb dL_law_644 rfl (lv_at hl 0 rfl) ?_
      refine x_iload hx hb dL_law_645 (lv_at hl 4 rfl) ?_
      refine x_iconst (v := 1) hx hb dL_law_647 (by decide) ?_
      refine x_iadd hx hb dL_law_648 ?_
      refine lx_sld E hX hbl hbA hS dL_law_649 ?_
      refine x_aload_n hx hb dL_law_650 rfl (lv_at hl 0 rfl) ?_
      refine x_iload hx hb dL_law_651 (lv_at hl 4 rfl) ?_
      refine x_iconst (v := 2) hx hb dL_law_653 (by decide) ?_
      refine x_iadd hx hb dL_law_654 ?_
      refine lx_sld E hX hbl hbA hS dL_law_655 ?_
      refine x_aload_n hx hb dL_law_656 rfl (lv_at hl 3 rfl) ?_
      refine kl0_go hst E hZ hU.1 hU.2 hS ⟨Nat.le_of_ble_eq_true rfl, Nat.le_of_ble_eq_true rfl⟩ hl.1 (Nat.le_of_ble_eq_true rfl) dL_law_657 (fun o35 H locs hU1 hS => ?_)
      replace hU := And.intro hU1 hU.2
      refine x_istore (lv' := [(5, .int o35.1), (0, .ref b), (1, .ref a0), (2, .ref (ad2 0)), (3, .ref q0), (4, .int v7)]) hx hb dL_law_660 hl (by decide) rfl (fun ls hl => ?_)
      refine x_aload_n hx hb dL_law_662 rfl (lv_at hl 3 rfl) ?_
      refine x_aload_n hx hb dL_law_663 rfl (lv_at hl 1 rfl) ?_
      refine x_iload hx hb dL_law_664 (lv_at hl 5 rfl) ?_
      refine x_iconst (v := 1) hx hb dL_law_666 (by decide) ?_
      refine x_iadd hx hb dL_law_667 ?_
      refine lx_sld E hX hbl hbA hS dL_law_668 ?_
      refine x_aload_n hx hb dL_law_669 rfl (lv_at hl 1 rfl) ?_
      refine x_iload hx hb dL_law_670 (lv_at hl 5 rfl) ?_
      refine x_iconst (v := 2) hx hb dL_law_672 (by decide) ?_
      refine x_iadd hx hb dL_law_673 ?_
      refine lx_sld E hX hbl hbA hS dL_law_674 ?_
      refine kml_go E hZ hU.1 hS ⟨Nat.le_of_ble_eq_true rfl, Nat.le_of_ble_eq_true rfl⟩ hl.1 (Nat.le_of_ble_eq_true rfl) dL_law_675 (fun o36 H locs hU1 hS => ?_)
      replace hU := And.intro hU1 hU.2
      refine x_istore (lv' := [(6, .int o36.1), (5, .int o35.1), (0, .ref b), (1, .ref a0), (2, .ref (ad2 0)), (3, .ref q0), (4, .int v7)]) hx hb dL_law_678 hl (by decide) rfl (fun ls hl => ?_)
      refine x_aload_n hx hb dL_law_680 rfl (lv_at hl 4 rfl) ?_
      refine kml_thrown E hZ hU.1 hS ⟨Nat.le_of_ble_eq_true rfl, Nat.le_of_ble_eq_true rfl⟩ hl.1 (Nat.le_of_ble_eq_true rfl) dL_law_681 (fun o37 H locs hU1 hS => ?_)
      replace hU := And.intro hU1 hU.2
      refine x_iload hx hb dL_law_684 (lv_at hl 1 rfl) ?_
      refine x_icmp_eq (tgt := 691) hx hb dL_law_686 (by decide) (fun hc => ?_) (fun hc => ?_)
      · refine x_iload hx hb dL_law_691 (lv_at hl 1 rfl) ?_
        refine x_if_ne (tgt := 708) hx hb dL_law_693 (by decide) (fun hc => ?_) (fun hc => ?_)
        · refine x_goto (tgt := 2555) hx hb dL_law_708 (by decide) ?_
          refine x_iinc (v := (v7 + (6 : Int32))) (lv' := [(4, .int (v7 + (6 : Int32))), (6, .int o36.1), (5, .int o35.1), (0, .ref b), (1, .ref a0), (2, .ref (ad2 0)), (3, .ref q0)]) (k := 6) hx hb dL_law_2555 hl rfl rfl (by decide) rfl (fun ls hl => ?_)
          refine x_goto (tgt := 23) hx hb dL_law_2558 (by decide) ?_
          exact ih8 (o35.2.1, o35.2.2, P3, d4, o36.2, w6, (v7 + (6 : Int32))) _ _ _ ⟨hU, hS, _, rfl, lv_sub hl [3, 4, 5, 6, 0] rfl⟩
        · refine x_aload_n hx hb dL_law_696 rfl (lv_at hl 5 rfl) ?_
          refine x_iconst (v := 0) hx hb dL_law_697 (by decide) ?_
          refine fx_laload E hU.1.1.1.1.2.1 dL_law_698 (fun u38 => ?_)
          refine x_iload hx hb dL_law_699 (lv_at hl 0 rfl) ?_
          refine x_i2l hx hb dL_law_701 rfl ?_
          refine x_lcmp hx hb dL_law_702 ?_
          refine x_if_eq (tgt := 708) hx hb dL_law_703 (by decide) (fun hc => ?_) (fun hc => ?_)
          · refine x_goto (tgt := 2555) hx hb dL_law_708 (by decide) ?_
            refine x_iinc (v := (v7 + (6 : Int32))) (lv' := [(4, .int (v7 + (6 : Int32))), (6, .int o36.1), (5, .int o35.1), (0, .ref b), (1, .ref a0), (2, .ref (ad2 0)), (3, .ref q0)]) (k := 6) hx hb dL_law_2555 hl rfl rfl (by decide) rfl (fun ls hl => ?_)
            refine x_goto (tgt := 23) hx hb dL_law_2558 (by decide) ?_
            exact ih8 (o35.2.1, o35.2.2, P3, d4, o36.2, w6, (v7 + (6 : Int32))) _ _ _ ⟨hU, hS, _, rfl, lv_sub hl [3, 4, 5, 6, 0] rfl⟩
          · refine x_iconst (v := 0) hx hb dL_law_706 (by decide) ?_
            exact X.none
      · refine x_iconst (v := 0) hx hb dL_law_689 (by decide) ?_
        exact X.none
    refine X.ite (fun hc => ?_) (fun hc9 => ?_)
    · refine x_tabEq (tgt := 711) hx hb hc dL_law_40 (by decide) (by decide) rfl (by decide) ?_
      refine x_aload_n hx hb dL_law_711 rfl (lv_at hl 1 rfl) ?_
      refine x_aload_n hx hb dL_law_712 rfl (lv_at hl 0 rfl) ?_
      refine x_iload hx hb dL_law_713 (lv_at hl 4 rfl) ?_
      refine x_iconst (v := 1) hx hb dL_law_715 (by decide) ?_
      refine x_iadd hx hb dL_law_716 ?_
      refine lx_sld E hX hbl hbA hS dL_law_717 ?_
      refine x_aload_n hx hb dL_law_718 rfl (lv_at hl 0 rfl) ?_
      refine x_iload hx hb dL_law_719 (lv_at hl 4 rfl) ?_
      refine x_iconst (v := 2) hx hb dL_law_721 (by decide) ?_
      refine x_iadd hx hb dL_law_722 ?_
      refine lx_sld E hX hbl hbA hS dL_law_723 ?_
      refine x_aload_n hx hb dL_law_724 rfl (lv_at hl 3 rfl) ?_
      refine kl0_stitch hst E hZ hU.1 hU.2 hS ⟨Nat.le_of_ble_eq_true rfl, Nat.le_of_ble_eq_true rfl⟩ hl.1 (Nat.le_of_ble_eq_true rfl) dL_law_725 (fun o39 H locs hU1 hS => ?_)
      replace hU := And.intro hU1 hU.2
      refine x_istore (lv' := [(5, .int o39.1), (0, .ref b), (1, .ref a0), (2, .ref (ad2 0)), (3, .ref q0), (4, .int v7)]) hx hb dL_law_728 hl (by decide) rfl (fun ls hl => ?_)
      refine x_aload_n hx hb dL_law_730 rfl (lv_at hl 3 rfl) ?_
      refine x_aload_n hx hb dL_law_731 rfl (lv_at hl 1 rfl) ?_
      refine x_iload hx hb dL_law_732 (lv_at hl 5 rfl) ?_
      refine x_iconst (v := 1) hx hb dL_law_734 (by decide) ?_
      refine x_iadd hx hb dL_law_735 ?_
      refine lx_sld E hX hbl hbA hS dL_law_736 ?_
      refine x_aload_n hx hb dL_law_737 rfl (lv_at hl 1 rfl) ?_
      refine x_iload hx hb dL_law_738 (lv_at hl 5 rfl) ?_
      refine x_iconst (v := 2) hx hb dL_law_740 (by decide) ?_
      refine x_iadd hx hb dL_law_741 ?_
      refine lx_sld E hX hbl hbA hS dL_law_742 ?_
      refine kml_stitch E hZ hU.1 hS ⟨Nat.le_of_ble_eq_true rfl, Nat.le_of_ble_eq_true rfl⟩ hl.1 (Nat.le_of_ble_eq_true rfl) dL_law_743 (fun o40 H locs hU1 hS => ?_)
      replace hU := And.intro hU1 hU.2
      refine x_istore (lv' := [(6, .int o40.1), (5, .int o39.1), (0, .ref b), (1, .ref a0), (2, .ref (ad2 0)), (3, .ref q0), (4, .int v7)]) hx hb dL_law_746 hl (by decide) rfl (fun ls hl => ?_)
      refine x_aload_n hx hb dL_law_748 rfl (lv_at hl 4 rfl) ?_
      refine kml_thrown E hZ hU.1 hS ⟨Nat.le_of_ble_eq_true rfl, Nat.le_of_ble_eq_true rfl⟩ hl.1 (Nat.le_of_ble_eq_true rfl) dL_law_749 (fun o41 H locs hU1 hS => ?_)
      replace hU := And.intro hU1 hU.2
      refine x_iload hx hb dL_law_752 (lv_at hl 1 rfl) ?_
      refine x_icmp_eq (tgt := 759) hx hb dL_law_754 (by decide) (fun hc => ?_) (fun hc => ?_)
      · refine x_iload hx hb dL_law_759 (lv_at hl 1 rfl) ?_
        refine x_if_ne (tgt := 776) hx hb dL_law_761 (by decide) (fun hc => ?_) (fun hc => ?_)
        · refine x_goto (tgt := 2555) hx hb dL_law_776 (by decide) ?_
          refine x_iinc (v := (v7 + (6 : Int32))) (lv' := [(4, .int (v7 + (6 : Int32))), (6, .int o40.1), (5, .int o39.1), (0, .ref b), (1, .ref a0), (2, .ref (ad2 0)), (3, .ref q0)]) (k := 6) hx hb dL_law_2555 hl rfl rfl (by decide) rfl (fun ls hl => ?_)
          refine x_goto (tgt := 23) hx hb dL_law_2558 (by decide) ?_
          exact ih8 (o39.2.1, o39.2.2, P3, d4, o40.2, w6, (v7 + (6 : Int32))) _ _ _ ⟨hU, hS, _, rfl, lv_sub hl [3, 4, 5, 6, 0] rfl⟩
        · refine x_aload_n hx hb dL_law_764 rfl (lv_at hl 5 rfl) ?_
          refine x_iconst (v := 0) hx hb dL_law_765 (by decide) ?_
          refine fx_laload E hU.1.1.1.1.2.1 dL_law_766 (fun u42 => ?_)
          refine x_iload hx hb dL_law_767 (lv_at hl 0 rfl) ?_
          refine x_i2l hx hb dL_law_769 rfl ?_
          refine x_lcmp hx hb dL_law_770 ?_
          refine x_if_eq (tgt := 776) hx hb dL_law_771 (by decide) (fun hc => ?_) (fun hc => ?_)
          · refine x_goto (tgt := 2555) hx hb dL_law_776 (by decide) ?_
            refine x_iinc (v := (v7 + (6 : Int32))) (lv' := [(4, .int (v7 + (6 : Int32))), (6, .int o40.1), (5, .int o39.1), (0, .ref b), (1, .ref a0), (2, .ref (ad2 0)), (3, .ref q0)]) (k := 6) hx hb dL_law_2555 hl rfl rfl (by decide) rfl (fun ls hl => ?_)
            refine x_goto (tgt := 23) hx hb dL_law_2558 (by decide) ?_
            exact ih8 (o39.2.1, o39.2.2, P3, d4, o40.2, w6, (v7 + (6 : Int32))) _ _ _ ⟨hU, hS, _, rfl, lv_sub hl [3, 4, 5, 6, 0] rfl⟩
          · refine x_iconst (v := 0) hx hb dL_law_774 (by decide) ?_
            exact X.none
      · refine x_iconst (v := 0) hx hb dL_law_757 (by decide) ?_
        exact X.none
    refine X.ite (fun hc => ?_) (fun hc10 => ?_)
    · refine x_tabEq (tgt := 779) hx hb hc dL_law_40 (by decide) (by decide) rfl (by decide) ?_
      refine x_aload_n hx hb dL_law_779 rfl (lv_at hl 1 rfl) ?_
      refine x_aload_n hx hb dL_law_780 rfl (lv_at hl 0 rfl) ?_
      refine x_iload hx hb dL_law_781 (lv_at hl 4 rfl) ?_
      refine x_iconst (v := 1) hx hb dL_law_783 (by decide) ?_
      refine x_iadd hx hb dL_law_784 ?_
      refine lx_sld E hX hbl hbA hS dL_law_785 ?_
      refine x_aload_n hx hb dL_law_786 rfl (lv_at hl 0 rfl) ?_
      refine x_iload hx hb dL_law_787 (lv_at hl 4 rfl) ?_
      refine x_iconst (v := 2) hx hb dL_law_789 (by decide) ?_
      refine x_iadd hx hb dL_law_790 ?_
      refine lx_sld E hX hbl hbA hS dL_law_791 ?_
      refine x_aload_n hx hb dL_law_792 rfl (lv_at hl 3 rfl) ?_
      refine kl0_thread hst E hZ hU.1 hU.2 hS ⟨Nat.le_of_ble_eq_true rfl, Nat.le_of_ble_eq_true rfl⟩ hl.1 (Nat.le_of_ble_eq_true rfl) dL_law_793 (fun o43 H locs hU1 hS => ?_)
      replace hU := And.intro hU1 hU.2
      refine x_istore (lv' := [(5, .int o43.1), (0, .ref b), (1, .ref a0), (2, .ref (ad2 0)), (3, .ref q0), (4, .int v7)]) hx hb dL_law_796 hl (by decide) rfl (fun ls hl => ?_)
      refine x_aload_n hx hb dL_law_798 rfl (lv_at hl 3 rfl) ?_
      refine x_aload_n hx hb dL_law_799 rfl (lv_at hl 1 rfl) ?_
      refine x_iload hx hb dL_law_800 (lv_at hl 5 rfl) ?_
      refine x_iconst (v := 1) hx hb dL_law_802 (by decide) ?_
      refine x_iadd hx hb dL_law_803 ?_
      refine lx_sld E hX hbl hbA hS dL_law_804 ?_
      refine x_aload_n hx hb dL_law_805 rfl (lv_at hl 1 rfl) ?_
      refine x_iload hx hb dL_law_806 (lv_at hl 5 rfl) ?_
      refine x_iconst (v := 2) hx hb dL_law_808 (by decide) ?_
      refine x_iadd hx hb dL_law_809 ?_
      refine lx_sld E hX hbl hbA hS dL_law_810 ?_
      refine kml_thread E hZ hU.1 hS ⟨Nat.le_of_ble_eq_true rfl, Nat.le_of_ble_eq_true rfl⟩ hl.1 (Nat.le_of_ble_eq_true rfl) dL_law_811 (fun o44 H locs hU1 hS => ?_)
      replace hU := And.intro hU1 hU.2
      refine x_istore (lv' := [(6, .int o44.1), (5, .int o43.1), (0, .ref b), (1, .ref a0), (2, .ref (ad2 0)), (3, .ref q0), (4, .int v7)]) hx hb dL_law_814 hl (by decide) rfl (fun ls hl => ?_)
      refine x_aload_n hx hb dL_law_816 rfl (lv_at hl 4 rfl) ?_
      refine kml_thrown E hZ hU.1 hS ⟨Nat.le_of_ble_eq_true rfl, Nat.le_of_ble_eq_true rfl⟩ hl.1 (Nat.le_of_ble_eq_true rfl) dL_law_817 (fun o45 H locs hU1 hS => ?_)
      replace hU := And.intro hU1 hU.2
      refine x_iload hx hb dL_law_820 (lv_at hl 1 rfl) ?_
      refine x_icmp_eq (tgt := 827) hx hb dL_law_822 (by decide) (fun hc => ?_) (fun hc => ?_)
      · refine x_iload hx hb dL_law_827 (lv_at hl 1 rfl) ?_
        refine x_if_ne (tgt := 844) hx hb dL_law_829 (by decide) (fun hc => ?_) (fun hc => ?_)
        · refine x_goto (tgt := 2555) hx hb dL_law_844 (by decide) ?_
          refine x_iinc (v := (v7 + (6 : Int32))) (lv' := [(4, .int (v7 + (6 : Int32))), (6, .int o44.1), (5, .int o43.1), (0, .ref b), (1, .ref a0), (2, .ref (ad2 0)), (3, .ref q0)]) (k := 6) hx hb dL_law_2555 hl rfl rfl (by decide) rfl (fun ls hl => ?_)
          refine x_goto (tgt := 23) hx hb dL_law_2558 (by decide) ?_
          exact ih8 (o43.2.1, o43.2.2, P3, d4, o44.2, w6, (v7 + (6 : Int32))) _ _ _ ⟨hU, hS, _, rfl, lv_sub hl [3, 4, 5, 6, 0] rfl⟩
        · refine x_aload_n hx hb dL_law_832 rfl (lv_at hl 5 rfl) ?_
          refine x_iconst (v := 0) hx hb dL_law_833 (by decide) ?_
          refine fx_laload E hU.1.1.1.1.2.1 dL_law_834 (fun u46 => ?_)
          refine x_iload hx hb dL_law_835 (lv_at hl 0 rfl) ?_
          refine x_i2l hx hb dL_law_837 rfl ?_
          refine x_lcmp hx hb dL_law_838 ?_
          refine x_if_eq (tgt := 844) hx hb dL_law_839 (by decide) (fun hc => ?_) (fun hc => ?_)
          · refine x_goto (tgt := 2555) hx hb dL_law_844 (by decide) ?_
            refine x_iinc (v := (v7 + (6 : Int32))) (lv' := [(4, .int (v7 + (6 : Int32))), (6, .int o44.1), (5, .int o43.1), (0, .ref b), (1, .ref a0), (2, .ref (ad2 0)), (3, .ref q0)]) (k := 6) hx hb dL_law_2555 hl rfl rfl (by decide) rfl (fun ls hl => ?_)
            refine x_goto (tgt := 23) hx hb dL_law_2558 (by decide) ?_
            exact ih8 (o43.2.1, o43.2.2, P3, d4, o44.2, w6, (v7 + (6 : Int32))) _ _ _ ⟨hU, hS, _, rfl, lv_sub hl [3, 4, 5, 6, 0] rfl⟩
          · refine x_iconst (v := 0) hx hb dL_law_842 (by decide) ?_
            exact X.none
      · refine x_iconst (v := 0) hx hb dL_law_825 (by decide) ?_
        exact X.none
    refine X.ite (fun hc => ?_) (fun hc11 => ?_)
    · refine x_tabEq (tgt := 847) hx hb hc dL_law_40 (by decide) (by decide) rfl (by decide) ?_
      refine x_aload_n hx hb dL_law_847 rfl (lv_at hl 1 rfl) ?_
      refine x_aload_n hx hb dL_law_848 rfl (lv_at hl 0 rfl) ?_
      refine x_iload hx hb dL_law_849 (lv_at hl 4 rfl) ?_
      refine x_iconst (v := 1) hx hb dL_law_851 (by decide) ?_
      refine x_iadd hx hb dL_law_852 ?_
      refine lx_sld E hX hbl hbA hS dL_law_853 ?_
      refine x_aload_n hx hb dL_law_854 rfl (lv_at hl 0 rfl) ?_
      refine x_iload hx hb dL_law_855 (lv_at hl 4 rfl) ?_
      refine x_iconst (v := 2) hx hb dL_law_857 (by decide) ?_
      refine x_iadd hx hb dL_law_858 ?_
      refine lx_sld E hX hbl hbA hS dL_law_859 ?_
      refine x_aload_n hx hb dL_law_860 rfl (lv_at hl 3 rfl) ?_
      refine kl0_tear hst E hZ hU.1 hU.2 hS ⟨Nat.le_of_ble_eq_true rfl, Nat.le_of_ble_eq_true rfl⟩ hl.1 (Nat.le_of_ble_eq_true rfl) dL_law_861 (fun o47 H locs hU1 hS => ?_)
      replace hU := And.intro hU1 hU.2
      refine x_istore (lv' := [(5, .int o47.1), (0, .ref b), (1, .ref a0), (2, .ref (ad2 0)), (3, .ref q0), (4, .int v7)]) hx hb dL_law_864 hl (by decide) rfl (fun ls hl => ?_)
      refine x_aload_n hx hb dL_law_866 rfl (lv_at hl 3 rfl) ?_
      refine x_aload_n hx hb dL_law_867 rfl (lv_at hl 1 rfl) ?_
      refine x_iload hx hb dL_law_868 (lv_at hl 5 rfl) ?_
      refine x_iconst (v := 1) hx hb dL_law_870 (by decide) ?_
      refine x_iadd hx hb dL_law_871 ?_
      refine lx_sld E hX hbl hbA hS dL_law_872 ?_
      refine x_aload_n hx hb dL_law_873 rfl (lv_at hl 1 rfl) ?_
      refine x_iload hx hb dL_law_874 (lv_at hl 5 rfl) ?_
      refine x_iconst (v := 2) hx hb dL_law_876 (by decide) ?_
      refine x_iadd hx hb dL_law_877 ?_
      refine lx_sld E hX hbl hbA hS dL_law_878 ?_
      refine kml_tear E hZ hU.1 hS ⟨Nat.le_of_ble_eq_true rfl, Nat.le_of_ble_eq_true rfl⟩ hl.1 (Nat.le_of_ble_eq_true rfl) dL_law_879 (fun o48 H locs hU1 hS => ?_)
      replace hU := And.intro hU1 hU.2
      refine x_istore (lv' := [(6, .int o48.1), (5, .int o47.1), (0, .ref b), (1, .ref a0), (2, .ref (ad2 0)), (3, .ref q0), (4, .int v7)]) hx hb dL_law_882 hl (by decide) rfl (fun ls hl => ?_)
      refine x_aload_n hx hb dL_law_884 rfl (lv_at hl 4 rfl) ?_
      refine kml_thrown E hZ hU.1 hS ⟨Nat.le_of_ble_eq_true rfl, Nat.le_of_ble_eq_true rfl⟩ hl.1 (Nat.le_of_ble_eq_true rfl) dL_law_885 (fun o49 H locs hU1 hS => ?_)
      replace hU := And.intro hU1 hU.2
      refine x_iload hx hb dL_law_888 (lv_at hl 1 rfl) ?_
      refine x_icmp_eq (tgt := 895) hx hb dL_law_890 (by decide) (fun hc => ?_) (fun hc => ?_)
      · refine x_iload hx hb dL_law_895 (lv_at hl 1 rfl) ?_
        refine x_if_ne (tgt := 912) hx hb dL_law_897 (by decide) (fun hc => ?_) (fun hc => ?_)
        · refine x_goto (tgt := 2555) hx hb dL_law_912 (by decide) ?_
          refine x_iinc (v := (v7 + (6 : Int32))) (lv' := [(4, .int (v7 + (6 : Int32))), (6, .int o48.1), (5, .int o47.1), (0, .ref b), (1, .ref a0), (2, .ref (ad2 0)), (3, .ref q0)]) (k := 6) hx hb dL_law_2555 hl rfl rfl (by decide) rfl (fun ls hl => ?_)
          refine x_goto (tgt := 23) hx hb dL_law_2558 (by decide) ?_
          exact ih8 (o47.2.1, o47.2.2, P3, d4, o48.2, w6, (v7 + (6 : Int32))) _ _ _ ⟨hU, hS, _, rfl, lv_sub hl [3, 4, 5, 6, 0] rfl⟩
        · refine x_aload_n hx hb dL_law_900 rfl (lv_at hl 5 rfl) ?_
          refine x_iconst (v := 0) hx hb dL_law_901 (by decide) ?_
          refine fx_laload E hU.1.1.1.1.2.1 dL_law_902 (fun u50 => ?_)
          refine x_iload hx hb dL_law_903 (lv_at hl 0 rfl) ?_
          refine x_i2l hx hb dL_law_905 rfl ?_
          refine x_lcmp hx hb dL_law_906 ?_
          refine x_if_eq (tgt := 912) hx hb dL_law_907 (by decide) (fun hc => ?_) (fun hc => ?_)
          · refine x_goto (tgt := 2555) hx hb dL_law_912 (by decide) ?_
            refine x_iinc (v := (v7 + (6 : Int32))) (lv' := [(4, .int (v7 + (6 : Int32))), (6, .int o48.1), (5, .int o47.1), (0, .ref b), (1, .ref a0), (2, .ref (ad2 0)), (3, .ref q0)]) (k := 6) hx hb dL_law_2555 hl rfl rfl (by decide) rfl (fun ls hl => ?_)
            refine x_goto (tgt := 23) hx hb dL_law_2558 (by decide) ?_
            exact ih8 (o47.2.1, o47.2.2, P3, d4, o48.2, w6, (v7 + (6 : Int32))) _ _ _ ⟨hU, hS, _, rfl, lv_sub hl [3, 4, 5, 6, 0] rfl⟩
          · refine x_iconst (v := 0) hx hb dL_law_910 (by decide) ?_
            exact X.none
      · refine x_iconst (v := 0) hx hb dL_law_893 (by decide) ?_
        exact X.none
    refine X.ite (fun hc => ?_) (fun hc12 => ?_)
    · refine x_tabEq (tgt := 915) hx hb hc dL_law_40 (by decide) (by decide) rfl (by decide) ?_
      refine x_aload_n hx hb dL_law_915 rfl (lv_at hl 1 rfl) ?_
      refine kl1_undo hst E hZ hU.1 hU.2 hS ⟨Nat.le_of_ble_eq_true rfl, Nat.le_of_ble_eq_true rfl⟩ hl.1 (Nat.le_of_ble_eq_true rfl) dL_law_916 (fun o51 H locs hU1 hS => ?_)
      refine X.ite (fun hD_ => ?_) (fun _ => X.none)
      replace hU := And.intro hU1 hD_
      refine x_aload_n hx hb dL_law_919 rfl (lv_at hl 2 rfl) ?_
      refine kml_undo E hZ hU.1 hS ⟨Nat.le_of_ble_eq_true rfl, Nat.le_of_ble_eq_true rfl⟩ hl.1 (Nat.le_of_ble_eq_true rfl) dL_law_920 (fun o52 H locs hU1 hS => ?_)
      replace hU := And.intro hU1 hU.2
      refine x_icmp_eq (tgt := 2555) hx hb dL_law_923 (by decide) (fun hc => ?_) (fun hc => ?_)
      · refine x_iinc (v := (v7 + (6 : Int32))) (lv' := [(4, .int (v7 + (6 : Int32))), (0, .ref b), (1, .ref a0), (2, .ref (ad2 0)), (3, .ref q0)]) (k := 4) hx hb dL_law_2555 hl rfl rfl (by decide) rfl (fun ls hl => ?_)
        refine x_goto (tgt := 23) hx hb dL_law_2558 (by decide) ?_
        exact ih8 (o51.2.1, o51.2.2.1, o51.2.2.2.1, o51.2.2.2.2, o52.2, w6, (v7 + (6 : Int32))) _ _ _ ⟨hU, hS, _, rfl, lv_sub hl [1, 2, 3, 4, 0] rfl⟩
      · refine x_iconst (v := 0) hx hb dL_law_926 (by decide) ?_
        exact X.none
    refine X.ite (fun hc => ?_) (fun hc13 => ?_)
    · refine x_tabEq (tgt := 928) hx hb hc dL_law_40 (by decide) (by decide) rfl (by decide) ?_
      refine x_aload_n hx hb dL_law_928 rfl (lv_at hl 1 rfl) ?_
      refine x_aload_n hx hb dL_law_929 rfl (lv_at hl 0 rfl) ?_
      refine x_iload hx hb dL_law_930 (lv_at hl 4 rfl) ?_
      refine x_iconst (v := 1) hx hb dL_law_932 (by decide) ?_
      refine x_iadd hx hb dL_law_933 ?_
      refine lx_sld E hX hbl hbA hS dL_law_934 ?_
      refine x_aload_n hx hb dL_law_935 rfl (lv_at hl 0 rfl) ?_
      refine x_iload hx hb dL_law_936 (lv_at hl 4 rfl) ?_
      refine x_iconst (v := 2) hx hb dL_law_938 (by decide) ?_
      refine x_iadd hx hb dL_law_939 ?_
      refine lx_sld E hX hbl hbA hS dL_law_940 ?_
      refine x_aload_n hx hb dL_law_941 rfl (lv_at hl 0 rfl) ?_
      refine x_iload hx hb dL_law_942 (lv_at hl 4 rfl) ?_
      refine x_iconst (v := 3) hx hb dL_law_944 (by decide) ?_
      refine x_iadd hx hb dL_law_945 ?_
      refine lx_sld E hX hbl hbA hS dL_law_946 ?_
      refine x_aload_n hx hb dL_law_947 rfl (lv_at hl 3 rfl) ?_
      refine kl0_then hst E hZ hU.1 hU.2 hS ⟨Nat.le_of_ble_eq_true rfl, Nat.le_of_ble_eq_true rfl⟩ hl.1 (Nat.le_of_ble_eq_true rfl) dL_law_948 (fun o53 H locs hU1 hS => ?_)
      replace hU := And.intro hU1 hU.2
      refine x_istore (lv' := [(5, .int o53.1), (0, .ref b), (1, .ref a0), (2, .ref (ad2 0)), (3, .ref q0), (4, .int v7)]) hx hb dL_law_951 hl (by decide) rfl (fun ls hl => ?_)
      refine x_aload_n hx hb dL_law_953 rfl (lv_at hl 3 rfl) ?_
      refine x_aload_n hx hb dL_law_954 rfl (lv_at hl 1 rfl) ?_
      refine x_iload hx hb dL_law_955 (lv_at hl 5 rfl) ?_
      refine x_iconst (v := 1) hx hb dL_law_957 (by decide) ?_
      refine x_iadd hx hb dL_law_958 ?_
      refine lx_sld E hX hbl hbA hS dL_law_959 ?_
      refine x_aload_n hx hb dL_law_960 rfl (lv_at hl 1 rfl) ?_
      refine x_iload hx hb dL_law_961 (lv_at hl 5 rfl) ?_
      refine x_iconst (v := 2) hx hb dL_law_963 (by decide) ?_
      refine x_iadd hx hb dL_law_964 ?_
      refine lx_sld E hX hbl hbA hS dL_law_965 ?_
      refine x_aload_n hx hb dL_law_966 rfl (lv_at hl 1 rfl) ?_
      refine x_iload hx hb dL_law_967 (lv_at hl 5 rfl) ?_
      refine x_iconst (v := 3) hx hb dL_law_969 (by decide) ?_
      refine x_iadd hx hb dL_law_970 ?_
      refine lx_sld E hX hbl hbA hS dL_law_971 ?_
      refine kml_then E hZ hU.1 hS ⟨Nat.le_of_ble_eq_true rfl, Nat.le_of_ble_eq_true rfl⟩ hl.1 (Nat.le_of_ble_eq_true rfl) dL_law_972 (fun o54 H locs hU1 hS => ?_)
      replace hU := And.intro hU1 hU.2
      refine x_istore (lv' := [(6, .int o54.1), (5, .int o53.1), (0, .ref b), (1, .ref a0), (2, .ref (ad2 0)), (3, .ref q0), (4, .int v7)]) hx hb dL_law_975 hl (by decide) rfl (fun ls hl => ?_)
      refine x_aload_n hx hb dL_law_977 rfl (lv_at hl 4 rfl) ?_
      refine kml_thrown E hZ hU.1 hS ⟨Nat.le_of_ble_eq_true rfl, Nat.le_of_ble_eq_true rfl⟩ hl.1 (Nat.le_of_ble_eq_true rfl) dL_law_978 (fun o55 H locs hU1 hS => ?_)
      replace hU := And.intro hU1 hU.2
      refine x_iload hx hb dL_law_981 (lv_at hl 1 rfl) ?_
      refine x_icmp_eq (tgt := 988) hx hb dL_law_983 (by decide) (fun hc => ?_) (fun hc => ?_)
      · refine x_iload hx hb dL_law_988 (lv_at hl 1 rfl) ?_
        refine x_if_ne (tgt := 1005) hx hb dL_law_990 (by decide) (fun hc => ?_) (fun hc => ?_)
        · refine x_goto (tgt := 2555) hx hb dL_law_1005 (by decide) ?_
          refine x_iinc (v := (v7 + (6 : Int32))) (lv' := [(4, .int (v7 + (6 : Int32))), (6, .int o54.1), (5, .int o53.1), (0, .ref b), (1, .ref a0), (2, .ref (ad2 0)), (3, .ref q0)]) (k := 6) hx hb dL_law_2555 hl rfl rfl (by decide) rfl (fun ls hl => ?_)
          refine x_goto (tgt := 23) hx hb dL_law_2558 (by decide) ?_
          exact ih8 (o53.2.1, o53.2.2, P3, d4, o54.2, w6, (v7 + (6 : Int32))) _ _ _ ⟨hU, hS, _, rfl, lv_sub hl [3, 4, 5, 6, 0] rfl⟩
        · refine x_aload_n hx hb dL_law_993 rfl (lv_at hl 5 rfl) ?_
          refine x_iconst (v := 0) hx hb dL_law_994 (by decide) ?_
          refine fx_laload E hU.1.1.1.1.2.1 dL_law_995 (fun u56 => ?_)
          refine x_iload hx hb dL_law_996 (lv_at hl 0 rfl) ?_
          refine x_i2l hx hb dL_law_998 rfl ?_
          refine x_lcmp hx hb dL_law_999 ?_
          refine x_if_eq (tgt := 1005) hx hb dL_law_1000 (by decide) (fun hc => ?_) (fun hc => ?_)
          · refine x_goto (tgt := 2555) hx hb dL_law_1005 (by decide) ?_
            refine x_iinc (v := (v7 + (6 : Int32))) (lv' := [(4, .int (v7 + (6 : Int32))), (6, .int o54.1), (5, .int o53.1), (0, .ref b), (1, .ref a0), (2, .ref (ad2 0)), (3, .ref q0)]) (k := 6) hx hb dL_law_2555 hl rfl rfl (by decide) rfl (fun ls hl => ?_)
            refine x_goto (tgt := 23) hx hb dL_law_2558 (by decide) ?_
            exact ih8 (o53.2.1, o53.2.2, P3, d4, o54.2, w6, (v7 + (6 : Int32))) _ _ _ ⟨hU, hS, _, rfl, lv_sub hl [3, 4, 5, 6, 0] rfl⟩
          · refine x_iconst (v := 0) hx hb dL_law_1003 (by decide) ?_
            exact X.none
      · refine x_iconst (v := 0) hx hb dL_law_986 (by decide) ?_
        exact X.none
    refine X.ite (fun hc => ?_) (fun hc14 => ?_)
    · refine x_tabEq (tgt := 1008) hx hb hc dL_law_40 (by decide) (by decide) rfl (by decide) ?_
      refine x_aload_n hx hb dL_law_1008 rfl (lv_at hl 1 rfl) ?_
      refine x_aload_n hx hb dL_law_1009 rfl (lv_at hl 0 rfl) ?_
      refine x_iload hx hb dL_law_1010 (lv_at hl 4 rfl) ?_
      refine x_iconst (v := 1) hx hb dL_law_1012 (by decide) ?_
      refine x_iadd hx hb dL_law_1013 ?_
      refine lx_sld E hX hbl hbA hS dL_law_1014 ?_
      refine x_aload_n hx hb dL_law_1015 rfl (lv_at hl 0 rfl) ?_
      refine x_iload hx hb dL_law_1016 (lv_at hl 4 rfl) ?_
      refine x_iconst (v := 2) hx hb dL_law_1018 (by decide) ?_
      refine x_iadd hx hb dL_law_1019 ?_
      refine lx_sld E hX hbl hbA hS dL_law_1020 ?_
      refine x_aload_n hx hb dL_law_1021 rfl (lv_at hl 3 rfl) ?_
      refine kl0_later hst E hZ hU.1 hU.2 hS ⟨Nat.le_of_ble_eq_true rfl, Nat.le_of_ble_eq_true rfl⟩ hl.1 (Nat.le_of_ble_eq_true rfl) dL_law_1022 (fun o57 H locs hU1 hS => ?_)
      replace hU := And.intro hU1 hU.2
      refine x_istore (lv' := [(5, .int o57.1), (0, .ref b), (1, .ref a0), (2, .ref (ad2 0)), (3, .ref q0), (4, .int v7)]) hx hb dL_law_1025 hl (by decide) rfl (fun ls hl => ?_)
      refine x_aload_n hx hb dL_law_1027 rfl (lv_at hl 3 rfl) ?_
      refine x_aload_n hx hb dL_law_1028 rfl (lv_at hl 1 rfl) ?_
      refine x_iload hx hb dL_law_1029 (lv_at hl 5 rfl) ?_
      refine x_iconst (v := 1) hx hb dL_law_1031 (by decide) ?_
      refine x_iadd hx hb dL_law_1032 ?_
      refine lx_sld E hX hbl hbA hS dL_law_1033 ?_
      refine x_aload_n hx hb dL_law_1034 rfl (lv_at hl 1 rfl) ?_
      refine x_iload hx hb dL_law_1035 (lv_at hl 5 rfl) ?_
      refine x_iconst (v := 2) hx hb dL_law_1037 (by decide) ?_
      refine x_iadd hx hb dL_law_1038 ?_
      refine lx_sld E hX hbl hbA hS dL_law_1039 ?_
      refine kml_later E hZ hU.1 hS ⟨Nat.le_of_ble_eq_true rfl, Nat.le_of_ble_eq_true rfl⟩ hl.1 (Nat.le_of_ble_eq_true rfl) dL_law_1040 (fun o58 H locs hU1 hS => ?_)
      replace hU := And.intro hU1 hU.2
      refine x_istore (lv' := [(6, .int o58.1), (5, .int o57.1), (0, .ref b), (1, .ref a0), (2, .ref (ad2 0)), (3, .ref q0), (4, .int v7)]) hx hb dL_law_1043 hl (by decide) rfl (fun ls hl => ?_)
      refine x_aload_n hx hb dL_law_1045 rfl (lv_at hl 4 rfl) ?_
      refine kml_thrown E hZ hU.1 hS ⟨Nat.le_of_ble_eq_true rfl, Nat.le_of_ble_eq_true rfl⟩ hl.1 (Nat.le_of_ble_eq_true rfl) dL_law_1046 (fun o59 H locs hU1 hS => ?_)
      replace hU := And.intro hU1 hU.2
      refine x_iload hx hb dL_law_1049 (lv_at hl 1 rfl) ?_
      refine x_icmp_eq (tgt := 1056) hx hb dL_law_1051 (by decide) (fun hc => ?_) (fun hc => ?_)
      · refine x_iload hx hb dL_law_1056 (lv_at hl 1 rfl) ?_
        refine x_if_ne (tgt := 1073) hx hb dL_law_1058 (by decide) (fun hc => ?_) (fun hc => ?_)
        · refine x_goto (tgt := 2555) hx hb dL_law_1073 (by decide) ?_
          refine x_iinc (v := (v7 + (6 : Int32))) (lv' := [(4, .int (v7 + (6 : Int32))), (6, .int o58.1), (5, .int o57.1), (0, .ref b), (1, .ref a0), (2, .ref (ad2 0)), (3, .ref q0)]) (k := 6) hx hb dL_law_2555 hl rfl rfl (by decide) rfl (fun ls hl => ?_)
          refine x_goto (tgt := 23) hx hb dL_law_2558 (by decide) ?_
          exact ih8 (o57.2.1, o57.2.2, P3, d4, o58.2, w6, (v7 + (6 : Int32))) _ _ _ ⟨hU, hS, _, rfl, lv_sub hl [3, 4, 5, 6, 0] rfl⟩
        · refine x_aload_n hx hb dL_law_1061 rfl (lv_at hl 5 rfl) ?_
          refine x_iconst (v := 0) hx hb dL_law_1062 (by decide) ?_
          refine fx_laload E hU.1.1.1.1.2.1 dL_law_1063 (fun u60 => ?_)
          refine x_iload hx hb dL_law_1064 (lv_at hl 0 rfl) ?_
          refine x_i2l hx hb dL_law_1066 rfl ?_
          refine x_lcmp hx hb dL_law_1067 ?_
          refine x_if_eq (tgt := 1073) hx hb dL_law_1068 (by decide) (fun hc => ?_) (fun hc => ?_)
          · refine x_goto (tgt := 2555) hx hb dL_law_1073 (by decide) ?_
            refine x_iinc (v := (v7 + (6 : Int32))) (lv' := [(4, .int (v7 + (6 : Int32))), (6, .int o58.1), (5, .int o57.1), (0, .ref b), (1, .ref a0), (2, .ref (ad2 0)), (3, .ref q0)]) (k := 6) hx hb dL_law_2555 hl rfl rfl (by decide) rfl (fun ls hl => ?_)
            refine x_goto (tgt := 23) hx hb dL_law_2558 (by decide) ?_
            exact ih8 (o57.2.1, o57.2.2, P3, d4, o58.2, w6, (v7 + (6 : Int32))) _ _ _ ⟨hU, hS, _, rfl, lv_sub hl [3, 4, 5, 6, 0] rfl⟩
          · refine x_iconst (v := 0) hx hb dL_law_1071 (by decide) ?_
            exact X.none
      · refine x_iconst (v := 0) hx hb dL_law_1054 (by decide) ?_
        exact X.none
    refine X.ite (fun hc => ?_) (fun hc15 => ?_)
    · refine x_tabEq (tgt := 1076) hx hb hc dL_law_40 (by decide) (by decide) rfl (by decide) ?_
      refine x_aload_n hx hb dL_law_1076 rfl (lv_at hl 1 rfl) ?_
      refine x_aload_n hx hb dL_law_1077 rfl (lv_at hl 0 rfl) ?_
      refine x_iload hx hb dL_law_1078 (lv_at hl 4 rfl) ?_
      refine x_iconst (v := 1) hx hb dL_law_1080 (by decide) ?_
      refine x_iadd hx hb dL_law_1081 ?_
      refine lx_sld E hX hbl hbA hS dL_law_1082 ?_
      refine x_aload_n hx hb dL_law_1083 rfl (lv_at hl 3 rfl) ?_
      refine kl0_opens hst E hZ hU.1 hU.2 hS ⟨Nat.le_of_ble_eq_true rfl, Nat.le_of_ble_eq_true rfl⟩ hl.1 (Nat.le_of_ble_eq_true rfl) dL_law_1084 (fun o61 H locs hU1 hS => ?_)
      replace hU := And.intro hU1 hU.2
      refine x_istore (lv' := [(5, .int o61.1), (0, .ref b), (1, .ref a0), (2, .ref (ad2 0)), (3, .ref q0), (4, .int v7)]) hx hb dL_law_1087 hl (by decide) rfl (fun ls hl => ?_)
      refine x_aload_n hx hb dL_law_1089 rfl (lv_at hl 3 rfl) ?_
      refine x_aload_n hx hb dL_law_1090 rfl (lv_at hl 1 rfl) ?_
      refine x_iload hx hb dL_law_1091 (lv_at hl 5 rfl) ?_
      refine x_iconst (v := 1) hx hb dL_law_1093 (by decide) ?_
      refine x_iadd hx hb dL_law_1094 ?_
      refine lx_sld E hX hbl hbA hS dL_law_1095 ?_
      refine kml_opens E hZ hU.1 hS ⟨Nat.le_of_ble_eq_true rfl, Nat.le_of_ble_eq_true rfl⟩ hl.1 (Nat.le_of_ble_eq_true rfl) dL_law_1096 (fun o62 H locs hU1 hS => ?_)
      replace hU := And.intro hU1 hU.2
      refine x_istore (lv' := [(6, .int o62.1), (5, .int o61.1), (0, .ref b), (1, .ref a0), (2, .ref (ad2 0)), (3, .ref q0), (4, .int v7)]) hx hb dL_law_1099 hl (by decide) rfl (fun ls hl => ?_)
      refine x_aload_n hx hb dL_law_1101 rfl (lv_at hl 4 rfl) ?_
      refine kml_thrown E hZ hU.1 hS ⟨Nat.le_of_ble_eq_true rfl, Nat.le_of_ble_eq_true rfl⟩ hl.1 (Nat.le_of_ble_eq_true rfl) dL_law_1102 (fun o63 H locs hU1 hS => ?_)
      replace hU := And.intro hU1 hU.2
      refine x_iload hx hb dL_law_1105 (lv_at hl 1 rfl) ?_
      refine x_icmp_eq (tgt := 1112) hx hb dL_law_1107 (by decide) (fun hc => ?_) (fun hc => ?_)
      · refine x_iload hx hb dL_law_1112 (lv_at hl 1 rfl) ?_
        refine x_if_ne (tgt := 1129) hx hb dL_law_1114 (by decide) (fun hc => ?_) (fun hc => ?_)
        · refine x_goto (tgt := 2555) hx hb dL_law_1129 (by decide) ?_
          refine x_iinc (v := (v7 + (6 : Int32))) (lv' := [(4, .int (v7 + (6 : Int32))), (6, .int o62.1), (5, .int o61.1), (0, .ref b), (1, .ref a0), (2, .ref (ad2 0)), (3, .ref q0)]) (k := 6) hx hb dL_law_2555 hl rfl rfl (by decide) rfl (fun ls hl => ?_)
          refine x_goto (tgt := 23) hx hb dL_law_2558 (by decide) ?_
          exact ih8 (o61.2.1, o61.2.2, P3, d4, o62.2, w6, (v7 + (6 : Int32))) _ _ _ ⟨hU, hS, _, rfl, lv_sub hl [3, 4, 5, 6, 0] rfl⟩
        · refine x_aload_n hx hb dL_law_1117 rfl (lv_at hl 5 rfl) ?_
          refine x_iconst (v := 0) hx hb dL_law_1118 (by decide) ?_
          refine fx_laload E hU.1.1.1.1.2.1 dL_law_1119 (fun u64 => ?_)
          refine x_iload hx hb dL_law_1120 (lv_at hl 0 rfl) ?_
          refine x_i2l hx hb dL_law_1122 rfl ?_
          refine x_lcmp hx hb dL_law_1123 ?_
          refine x_if_eq (tgt := 1129) hx hb dL_law_1124 (by decide) (fun hc => ?_) (fun hc => ?_)
          · refine x_goto (tgt := 2555) hx hb dL_law_1129 (by decide) ?_
            refine x_iinc (v := (v7 + (6 : Int32))) (lv' := [(4, .int (v7 + (6 : Int32))), (6, .int o62.1), (5, .int o61.1), (0, .ref b), (1, .ref a0), (2, .ref (ad2 0)), (3, .ref q0)]) (k := 6) hx hb dL_law_2555 hl rfl rfl (by decide) rfl (fun ls hl => ?_)
            refine x_goto (tgt := 23) hx hb dL_law_2558 (by decide) ?_
            exact ih8 (o61.2.1, o61.2.2, P3, d4, o62.2, w6, (v7 + (6 : Int32))) _ _ _ ⟨hU, hS, _, rfl, lv_sub hl [3, 4, 5, 6, 0] rfl⟩
          · refine x_iconst (v := 0) hx hb dL_law_1127 (by decide) ?_
            exact X.none
      · refine x_iconst (v := 0) hx hb dL_law_1110 (by decide) ?_
        exact X.none
    refine X.ite (fun hc => ?_) (fun hc16 => ?_)
    · refine x_tabEq (tgt := 1132) hx hb hc dL_law_40 (by decide) (by decide) rfl (by decide) ?_
      refine x_aload_n hx hb dL_law_1132 rfl (lv_at hl 1 rfl) ?_
      refine kl1_first hst E hZ hU.1 hU.2 hS ⟨Nat.le_of_ble_eq_true rfl, Nat.le_of_ble_eq_true rfl⟩ hl.1 (Nat.le_of_ble_eq_true rfl) dL_law_1133 (fun o65 H locs hU1 hS => ?_)
      replace hU := And.intro hU1 hU.2
      refine x_aload_n hx hb dL_law_1136 rfl (lv_at hl 2 rfl) ?_
      refine kml_first E hZ hU.1 hS ⟨Nat.le_of_ble_eq_true rfl, Nat.le_of_ble_eq_true rfl⟩ hl.1 (Nat.le_of_ble_eq_true rfl) dL_law_1137 (fun o66 H locs hU1 hS => ?_)
      replace hU := And.intro hU1 hU.2
      refine x_icmp_eq (tgt := 2555) hx hb dL_law_1140 (by decide) (fun hc => ?_) (fun hc => ?_)
      · refine x_iinc (v := (v7 + (6 : Int32))) (lv' := [(4, .int (v7 + (6 : Int32))), (0, .ref b), (1, .ref a0), (2, .ref (ad2 0)), (3, .ref q0)]) (k := 4) hx hb dL_law_2555 hl rfl rfl (by decide) rfl (fun ls hl => ?_)
        refine x_goto (tgt := 23) hx hb dL_law_2558 (by decide) ?_
        exact ih8 (o65.2, G2, P3, d4, o66.2, w6, (v7 + (6 : Int32))) _ _ _ ⟨hU, hS, _, rfl, lv_sub hl [1, 2, 3, 4, 0] rfl⟩
      · refine x_iconst (v := 0) hx hb dL_law_1143 (by decide) ?_
        exact X.none
    refine X.ite (fun hc => ?_) (fun hc17 => ?_)
    · refine x_tabEq (tgt := 1145) hx hb hc dL_law_40 (by decide) (by decide) rfl (by decide) ?_
      refine x_aload_n hx hb dL_law_1145 rfl (lv_at hl 1 rfl) ?_
      refine x_aload_n hx hb dL_law_1146 rfl (lv_at hl 0 rfl) ?_
      refine x_iload hx hb dL_law_1147 (lv_at hl 4 rfl) ?_
      refine x_iconst (v := 1) hx hb dL_law_1149 (by decide) ?_
      refine x_iadd hx hb dL_law_1150 ?_
      refine lx_sld E hX hbl hbA hS dL_law_1151 ?_
      refine x_aload_n hx hb dL_law_1152 rfl (lv_at hl 0 rfl) ?_
      refine x_iload hx hb dL_law_1153 (lv_at hl 4 rfl) ?_
      refine x_iconst (v := 2) hx hb dL_law_1155 (by decide) ?_
      refine x_iadd hx hb dL_law_1156 ?_
      refine lx_sld E hX hbl hbA hS dL_law_1157 ?_
      refine x_aload_n hx hb dL_law_1158 rfl (lv_at hl 0 rfl) ?_
      refine x_iload hx hb dL_law_1159 (lv_at hl 4 rfl) ?_
      refine x_iconst (v := 3) hx hb dL_law_1161 (by decide) ?_
      refine x_iadd hx hb dL_law_1162 ?_
      refine lx_sld E hX hbl hbA hS dL_law_1163 ?_
      refine x_aload_n hx hb dL_law_1164 rfl (lv_at hl 3 rfl) ?_
      refine kl0_where hst E hZ hU.1 hU.2 hS ⟨Nat.le_of_ble_eq_true rfl, Nat.le_of_ble_eq_true rfl⟩ hl.1 (Nat.le_of_ble_eq_true rfl) dL_law_1165 (fun o67 H locs hU1 hS => ?_)
      replace hU := And.intro hU1 hU.2
      refine x_istore (lv' := [(5, .int o67.1), (0, .ref b), (1, .ref a0), (2, .ref (ad2 0)), (3, .ref q0), (4, .int v7)]) hx hb dL_law_1168 hl (by decide) rfl (fun ls hl => ?_)
      refine x_aload_n hx hb dL_law_1170 rfl (lv_at hl 3 rfl) ?_
      refine x_aload_n hx hb dL_law_1171 rfl (lv_at hl 1 rfl) ?_
      refine x_iload hx hb dL_law_1172 (lv_at hl 5 rfl) ?_
      refine x_iconst (v := 1) hx hb dL_law_1174 (by decide) ?_
      refine x_iadd hx hb dL_law_1175 ?_
      refine lx_sld E hX hbl hbA hS dL_law_1176 ?_
      refine x_aload_n hx hb dL_law_1177 rfl (lv_at hl 1 rfl) ?_
      refine x_iload hx hb dL_law_1178 (lv_at hl 5 rfl) ?_
      refine x_iconst (v := 2) hx hb dL_law_1180 (by decide) ?_
      refine x_iadd hx hb dL_law_1181 ?_
      refine lx_sld E hX hbl hbA hS dL_law_1182 ?_
      refine x_aload_n hx hb dL_law_1183 rfl (lv_at hl 1 rfl) ?_
      refine x_iload hx hb dL_law_1184 (lv_at hl 5 rfl) ?_
      refine x_iconst (v := 3) hx hb dL_law_1186 (by decide) ?_
      refine x_iadd hx hb dL_law_1187 ?_
      refine lx_sld E hX hbl hbA hS dL_law_1188 ?_
      refine kml_where E hZ hU.1 hS ⟨Nat.le_of_ble_eq_true rfl, Nat.le_of_ble_eq_true rfl⟩ hl.1 (Nat.le_of_ble_eq_true rfl) dL_law_1189 (fun o68 H locs hU1 hS => ?_)
      replace hU := And.intro hU1 hU.2
      refine x_istore (lv' := [(6, .int o68.1), (5, .int o67.1), (0, .ref b), (1, .ref a0), (2, .ref (ad2 0)), (3, .ref q0), (4, .int v7)]) hx hb dL_law_1192 hl (by decide) rfl (fun ls hl => ?_)
      refine x_aload_n hx hb dL_law_1194 rfl (lv_at hl 4 rfl) ?_
      refine kml_thrown E hZ hU.1 hS ⟨Nat.le_of_ble_eq_true rfl, Nat.le_of_ble_eq_true rfl⟩ hl.1 (Nat.le_of_ble_eq_true rfl) dL_law_1195 (fun o69 H locs hU1 hS => ?_)
      replace hU := And.intro hU1 hU.2
      refine x_iload hx hb dL_law_1198 (lv_at hl 1 rfl) ?_
      refine x_icmp_eq (tgt := 1205) hx hb dL_law_1200 (by decide) (fun hc => ?_) (fun hc => ?_)
      · refine x_iload hx hb dL_law_1205 (lv_at hl 1 rfl) ?_
        refine x_if_ne (tgt := 1222) hx hb dL_law_1207 (by decide) (fun hc => ?_) (fun hc => ?_)
        · refine x_goto (tgt := 2555) hx hb dL_law_1222 (by decide) ?_
          refine x_iinc (v := (v7 + (6 : Int32))) (lv' := [(4, .int (v7 + (6 : Int32))), (6, .int o68.1), (5, .int o67.1), (0, .ref b), (1, .ref a0), (2, .ref (ad2 0)), (3, .ref q0)]) (k := 6) hx hb dL_law_2555 hl rfl rfl (by decide) rfl (fun ls hl => ?_)
          refine x_goto (tgt := 23) hx hb dL_law_2558 (by decide) ?_
          exact ih8 (o67.2.1, o67.2.2, P3, d4, o68.2, w6, (v7 + (6 : Int32))) _ _ _ ⟨hU, hS, _, rfl, lv_sub hl [3, 4, 5, 6, 0] rfl⟩
        · refine x_aload_n hx hb dL_law_1210 rfl (lv_at hl 5 rfl) ?_
          refine x_iconst (v := 0) hx hb dL_law_1211 (by decide) ?_
          refine fx_laload E hU.1.1.1.1.2.1 dL_law_1212 (fun u70 => ?_)
          refine x_iload hx hb dL_law_1213 (lv_at hl 0 rfl) ?_
          refine x_i2l hx hb dL_law_1215 rfl ?_
          refine x_lcmp hx hb dL_law_1216 ?_
          refine x_if_eq (tgt := 1222) hx hb dL_law_1217 (by decide) (fun hc => ?_) (fun hc => ?_)
          · refine x_goto (tgt := 2555) hx hb dL_law_1222 (by decide) ?_
            refine x_iinc (v := (v7 + (6 : Int32))) (lv' := [(4, .int (v7 + (6 : Int32))), (6, .int o68.1), (5, .int o67.1), (0, .ref b), (1, .ref a0), (2, .ref (ad2 0)), (3, .ref q0)]) (k := 6) hx hb dL_law_2555 hl rfl rfl (by decide) rfl (fun ls hl => ?_)
            refine x_goto (tgt := 23) hx hb dL_law_2558 (by decide) ?_
            exact ih8 (o67.2.1, o67.2.2, P3, d4, o68.2, w6, (v7 + (6 : Int32))) _ _ _ ⟨hU, hS, _, rfl, lv_sub hl [3, 4, 5, 6, 0] rfl⟩
          · refine x_iconst (v := 0) hx hb dL_law_1220 (by decide) ?_
            exact X.none
      · refine x_iconst (v := 0) hx hb dL_law_1203 (by decide) ?_
        exact X.none
    refine X.ite (fun hc => ?_) (fun hc18 => ?_)
    · refine x_tabEq (tgt := 1225) hx hb hc dL_law_40 (by decide) (by decide) rfl (by decide) ?_
      refine x_aload_n hx hb dL_law_1225 rfl (lv_at hl 1 rfl) ?_
      refine kl1_spent hst E hZ hU.1 hU.2 hS ⟨Nat.le_of_ble_eq_true rfl, Nat.le_of_ble_eq_true rfl⟩ hl.1 (Nat.le_of_ble_eq_true rfl) dL_law_1226 (fun o71 H locs hU1 hS => ?_)
      replace hU := And.intro hU1 hU.2
      refine x_aload_n hx hb dL_law_1229 rfl (lv_at hl 2 rfl) ?_
      refine kml_spent E hZ hU.1 hS ⟨Nat.le_of_ble_eq_true rfl, Nat.le_of_ble_eq_true rfl⟩ hl.1 (Nat.le_of_ble_eq_true rfl) dL_law_1230 (fun o72 H locs hU1 hS => ?_)
      replace hU := And.intro hU1 hU.2
      refine x_icmp_eq (tgt := 2555) hx hb dL_law_1233 (by decide) (fun hc => ?_) (fun hc => ?_)
      · refine x_iinc (v := (v7 + (6 : Int32))) (lv' := [(4, .int (v7 + (6 : Int32))), (0, .ref b), (1, .ref a0), (2, .ref (ad2 0)), (3, .ref q0)]) (k := 4) hx hb dL_law_2555 hl rfl rfl (by decide) rfl (fun ls hl => ?_)
        refine x_goto (tgt := 23) hx hb dL_law_2558 (by decide) ?_
        exact ih8 (o71.2, G2, P3, d4, o72.2, w6, (v7 + (6 : Int32))) _ _ _ ⟨hU, hS, _, rfl, lv_sub hl [1, 2, 3, 4, 0] rfl⟩
      · refine x_iconst (v := 0) hx hb dL_law_1236 (by decide) ?_
        exact X.none
    refine X.ite (fun hc => ?_) (fun hc19 => ?_)
    · refine x_tabEq (tgt := 1238) hx hb hc dL_law_40 (by decide) (by decide) rfl (by decide) ?_
      refine x_aload_n hx hb dL_law_1238 rfl (lv_at hl 1 rfl) ?_
      refine x_aload_n hx hb dL_law_1239 rfl (lv_at hl 0 rfl) ?_
      refine x_iload hx hb dL_law_1240 (lv_at hl 4 rfl) ?_
      refine x_iconst (v := 1) hx hb dL_law_1242 (by decide) ?_
      refine x_iadd hx hb dL_law_1243 ?_
      refine lx_sld E hX hbl hbA hS dL_law_1244 ?_
      refine x_aload_n hx hb dL_law_1245 rfl (lv_at hl 0 rfl) ?_
      refine x_iload hx hb dL_law_1246 (lv_at hl 4 rfl) ?_
      refine x_iconst (v := 2) hx hb dL_law_1248 (by decide) ?_
      refine x_iadd hx hb dL_law_1249 ?_
      refine lx_sld E hX hbl hbA hS dL_law_1250 ?_
      refine x_aload_n hx hb dL_law_1251 rfl (lv_at hl 3 rfl) ?_
      refine kl0_toHold hst E hZ hU.1 hU.2 hS ⟨Nat.le_of_ble_eq_true rfl, Nat.le_of_ble_eq_true rfl⟩ hl.1 (Nat.le_of_ble_eq_true rfl) dL_law_1252 (fun o73 H locs hU1 hS => ?_)
      replace hU := And.intro hU1 hU.2
      refine x_istore (lv' := [(5, .int o73.1), (0, .ref b), (1, .ref a0), (2, .ref (ad2 0)), (3, .ref q0), (4, .int v7)]) hx hb dL_law_1255 hl (by decide) rfl (fun ls hl => ?_)
      refine x_aload_n hx hb dL_law_1257 rfl (lv_at hl 3 rfl) ?_
      refine x_aload_n hx hb dL_law_1258 rfl (lv_at hl 1 rfl) ?_
      refine x_iload hx hb dL_law_1259 (lv_at hl 5 rfl) ?_
      refine x_iconst (v := 1) hx hb dL_law_1261 (by decide) ?_
      refine x_iadd hx hb dL_law_1262 ?_
      refine lx_sld E hX hbl hbA hS dL_law_1263 ?_
      refine x_aload_n hx hb dL_law_1264 rfl (lv_at hl 1 rfl) ?_
      refine x_iload hx hb dL_law_1265 (lv_at hl 5 rfl) ?_
      refine x_iconst (v := 2) hx hb dL_law_1267 (by decide) ?_
      refine x_iadd hx hb dL_law_1268 ?_
      refine lx_sld E hX hbl hbA hS dL_law_1269 ?_
      refine kml_toHold E hZ hU.1 hS ⟨Nat.le_of_ble_eq_true rfl, Nat.le_of_ble_eq_true rfl⟩ hl.1 (Nat.le_of_ble_eq_true rfl) dL_law_1270 (fun o74 H locs hU1 hS => ?_)
      replace hU := And.intro hU1 hU.2
      refine x_istore (lv' := [(6, .int o74.1), (5, .int o73.1), (0, .ref b), (1, .ref a0), (2, .ref (ad2 0)), (3, .ref q0), (4, .int v7)]) hx hb dL_law_1273 hl (by decide) rfl (fun ls hl => ?_)
      refine x_aload_n hx hb dL_law_1275 rfl (lv_at hl 4 rfl) ?_
      refine kml_thrown E hZ hU.1 hS ⟨Nat.le_of_ble_eq_true rfl, Nat.le_of_ble_eq_true rfl⟩ hl.1 (Nat.le_of_ble_eq_true rfl) dL_law_1276 (fun o75 H locs hU1 hS => ?_)
      replace hU := And.intro hU1 hU.2
      refine x_iload hx hb dL_law_1279 (lv_at hl 1 rfl) ?_
      refine x_icmp_eq (tgt := 1286) hx hb dL_law_1281 (by decide) (fun hc => ?_) (fun hc => ?_)
      · refine x_iload hx hb dL_law_1286 (lv_at hl 1 rfl) ?_
        refine x_if_ne (tgt := 1303) hx hb dL_law_1288 (by decide) (fun hc => ?_) (fun hc => ?_)
        · refine x_goto (tgt := 2555) hx hb dL_law_1303 (by decide) ?_
          refine x_iinc (v := (v7 + (6 : Int32))) (lv' := [(4, .int (v7 + (6 : Int32))), (6, .int o74.1), (5, .int o73.1), (0, .ref b), (1, .ref a0), (2, .ref (ad2 0)), (3, .ref q0)]) (k := 6) hx hb dL_law_2555 hl rfl rfl (by decide) rfl (fun ls hl => ?_)
          refine x_goto (tgt := 23) hx hb dL_law_2558 (by decide) ?_
          exact ih8 (o73.2.1, o73.2.2, P3, d4, o74.2, w6, (v7 + (6 : Int32))) _ _ _ ⟨hU, hS, _, rfl, lv_sub hl [3, 4, 5, 6, 0] rfl⟩
        · refine x_aload_n hx hb dL_law_1291 rfl (lv_at hl 5 rfl) ?_
          refine x_iconst (v := 0) hx hb dL_law_1292 (by decide) ?_
          refine fx_laload E hU.1.1.1.1.2.1 dL_law_1293 (fun u76 => ?_)
          refine x_iload hx hb dL_law_1294 (lv_at hl 0 rfl) ?_
          refine x_i2l hx hb dL_law_1296 rfl ?_
          refine x_lcmp hx hb dL_law_1297 ?_
          refine x_if_eq (tgt := 1303) hx hb dL_law_1298 (by decide) (fun hc => ?_) (fun hc => ?_)
          · refine x_goto (tgt := 2555) hx hb dL_law_1303 (by decide) ?_
            refine x_iinc (v := (v7 + (6 : Int32))) (lv' := [(4, .int (v7 + (6 : Int32))), (6, .int o74.1), (5, .int o73.1), (0, .ref b), (1, .ref a0), (2, .ref (ad2 0)), (3, .ref q0)]) (k := 6) hx hb dL_law_2555 hl rfl rfl (by decide) rfl (fun ls hl => ?_)
            refine x_goto (tgt := 23) hx hb dL_law_2558 (by decide) ?_
            exact ih8 (o73.2.1, o73.2.2, P3, d4, o74.2, w6, (v7 + (6 : Int32))) _ _ _ ⟨hU, hS, _, rfl, lv_sub hl [3, 4, 5, 6, 0] rfl⟩
          · refine x_iconst (v := 0) hx hb dL_law_1301 (by decide) ?_
            exact X.none
      · refine x_iconst (v := 0) hx hb dL_law_1284 (by decide) ?_
        exact X.none
    refine X.ite (fun hc => ?_) (fun hc20 => ?_)
    · refine x_tabEq (tgt := 1306) hx hb hc dL_law_40 (by decide) (by decide) rfl (by decide) ?_
      refine x_aload_n hx hb dL_law_1306 rfl (lv_at hl 1 rfl) ?_
      refine x_aload_n hx hb dL_law_1307 rfl (lv_at hl 0 rfl) ?_
      refine x_iload hx hb dL_law_1308 (lv_at hl 4 rfl) ?_
      refine x_iconst (v := 1) hx hb dL_law_1310 (by decide) ?_
      refine x_iadd hx hb dL_law_1311 ?_
      refine lx_sld E hX hbl hbA hS dL_law_1312 ?_
      refine x_aload_n hx hb dL_law_1313 rfl (lv_at hl 0 rfl) ?_
      refine x_iload hx hb dL_law_1314 (lv_at hl 4 rfl) ?_
      refine x_iconst (v := 2) hx hb dL_law_1316 (by decide) ?_
      refine x_iadd hx hb dL_law_1317 ?_
      refine lx_sld E hX hbl hbA hS dL_law_1318 ?_
      refine x_aload_n hx hb dL_law_1319 rfl (lv_at hl 0 rfl) ?_
      refine x_iload hx hb dL_law_1320 (lv_at hl 4 rfl) ?_
      refine x_iconst (v := 3) hx hb dL_law_1322 (by decide) ?_
      refine x_iadd hx hb dL_law_1323 ?_
      refine lx_sld E hX hbl hbA hS dL_law_1324 ?_
      refine x_aload_n hx hb dL_law_1325 rfl (lv_at hl 3 rfl) ?_
      refine kl0_toSend hst E hZ hU.1 hU.2 hS ⟨Nat.le_of_ble_eq_true rfl, Nat.le_of_ble_eq_true rfl⟩ hl.1 (Nat.le_of_ble_eq_true rfl) dL_law_1326 (fun o77 H locs hU1 hS => ?_)
      replace hU := And.intro hU1 hU.2
      refine x_istore (lv' := [(5, .int o77.1), (0, .ref b), (1, .ref a0), (2, .ref (ad2 0)), (3, .ref q0), (4, .int v7)]) hx hb dL_law_1329 hl (by decide) rfl (fun ls hl => ?_)
      refine x_aload_n hx hb dL_law_1331 rfl (lv_at hl 3 rfl) ?_
      refine x_aload_n hx hb dL_law_1332 rfl (lv_at hl 1 rfl) ?_
      refine x_iload hx hb dL_law_1333 (lv_at hl 5 rfl) ?_
      refine x_iconst (v := 1) hx hb dL_law_1335 (by decide) ?_
      refine x_iadd hx hb dL_law_1336 ?_
      refine lx_sld E hX hbl hbA hS dL_law_1337 ?_
      refine x_aload_n hx hb dL_law_1338 rfl (lv_at hl 1 rfl) ?_
      refine x_iload hx hb dL_law_1339 (lv_at hl 5 rfl) ?_
      refine x_iconst (v := 2) hx hb dL_law_1341 (by decide) ?_
      refine x_iadd hx hb dL_law_1342 ?_
      refine lx_sld E hX hbl hbA hS dL_law_1343 ?_
      refine x_aload_n hx hb dL_law_1344 rfl (lv_at hl 1 rfl) ?_
      refine x_iload hx hb dL_law_1345 (lv_at hl 5 rfl) ?_
      refine x_iconst (v := 3) hx hb dL_law_1347 (by decide) ?_
      refine x_iadd hx hb dL_law_1348 ?_
      refine lx_sld E hX hbl hbA hS dL_law_1349 ?_
      refine kml_toSend E hZ hU.1 hS ⟨Nat.le_of_ble_eq_true rfl, Nat.le_of_ble_eq_true rfl⟩ hl.1 (Nat.le_of_ble_eq_true rfl) dL_law_1350 (fun o78 H locs hU1 hS => ?_)
      replace hU := And.intro hU1 hU.2
      refine x_istore (lv' := [(6, .int o78.1), (5, .int o77.1), (0, .ref b), (1, .ref a0), (2, .ref (ad2 0)), (3, .ref q0), (4, .int v7)]) hx hb dL_law_1353 hl (by decide) rfl (fun ls hl => ?_)
      refine x_aload_n hx hb dL_law_1355 rfl (lv_at hl 4 rfl) ?_
      refine kml_thrown E hZ hU.1 hS ⟨Nat.le_of_ble_eq_true rfl, Nat.le_of_ble_eq_true rfl⟩ hl.1 (Nat.le_of_ble_eq_true rfl) dL_law_1356 (fun o79 H locs hU1 hS => ?_)
      replace hU := And.intro hU1 hU.2
      refine x_iload hx hb dL_law_1359 (lv_at hl 1 rfl) ?_
      refine x_icmp_eq (tgt := 1366) hx hb dL_law_1361 (by decide) (fun hc => ?_) (fun hc => ?_)
      · refine x_iload hx hb dL_law_1366 (lv_at hl 1 rfl) ?_
        refine x_if_ne (tgt := 1383) hx hb dL_law_1368 (by decide) (fun hc => ?_) (fun hc => ?_)
        · refine x_goto (tgt := 2555) hx hb dL_law_1383 (by decide) ?_
          refine x_iinc (v := (v7 + (6 : Int32))) (lv' := [(4, .int (v7 + (6 : Int32))), (6, .int o78.1), (5, .int o77.1), (0, .ref b), (1, .ref a0), (2, .ref (ad2 0)), (3, .ref q0)]) (k := 6) hx hb dL_law_2555 hl rfl rfl (by decide) rfl (fun ls hl => ?_)
          refine x_goto (tgt := 23) hx hb dL_law_2558 (by decide) ?_
          exact ih8 (o77.2.1, o77.2.2, P3, d4, o78.2, w6, (v7 + (6 : Int32))) _ _ _ ⟨hU, hS, _, rfl, lv_sub hl [3, 4, 5, 6, 0] rfl⟩
        · refine x_aload_n hx hb dL_law_1371 rfl (lv_at hl 5 rfl) ?_
          refine x_iconst (v := 0) hx hb dL_law_1372 (by decide) ?_
          refine fx_laload E hU.1.1.1.1.2.1 dL_law_1373 (fun u80 => ?_)
          refine x_iload hx hb dL_law_1374 (lv_at hl 0 rfl) ?_
          refine x_i2l hx hb dL_law_1376 rfl ?_
          refine x_lcmp hx hb dL_law_1377 ?_
          refine x_if_eq (tgt := 1383) hx hb dL_law_1378 (by decide) (fun hc => ?_) (fun hc => ?_)
          · refine x_goto (tgt := 2555) hx hb dL_law_1383 (by decide) ?_
            refine x_iinc (v := (v7 + (6 : Int32))) (lv' := [(4, .int (v7 + (6 : Int32))), (6, .int o78.1), (5, .int o77.1), (0, .ref b), (1, .ref a0), (2, .ref (ad2 0)), (3, .ref q0)]) (k := 6) hx hb dL_law_2555 hl rfl rfl (by decide) rfl (fun ls hl => ?_)
            refine x_goto (tgt := 23) hx hb dL_law_2558 (by decide) ?_
            exact ih8 (o77.2.1, o77.2.2, P3, d4, o78.2, w6, (v7 + (6 : Int32))) _ _ _ ⟨hU, hS, _, rfl, lv_sub hl [3, 4, 5, 6, 0] rfl⟩
          · refine x_iconst (v := 0) hx hb dL_law_1381 (by decide) ?_
            exact X.none
      · refine x_iconst (v := 0) hx hb dL_law_1364 (by decide) ?_
        exact X.none
    refine X.ite (fun hc => ?_) (fun hc21 => ?_)
    · refine x_tabEq (tgt := 1386) hx hb hc dL_law_40 (by decide) (by decide) rfl (by decide) ?_
      refine x_aload_n hx hb dL_law_1386 rfl (lv_at hl 1 rfl) ?_
      refine x_aload_n hx hb dL_law_1387 rfl (lv_at hl 0 rfl) ?_
      refine x_iload hx hb dL_law_1388 (lv_at hl 4 rfl) ?_
      refine x_iconst (v := 1) hx hb dL_law_1390 (by decide) ?_
      refine x_iadd hx hb dL_law_1391 ?_
      refine lx_sld E hX hbl hbA hS dL_law_1392 ?_
      refine x_aload_n hx hb dL_law_1393 rfl (lv_at hl 0 rfl) ?_
      refine x_iload hx hb dL_law_1394 (lv_at hl 4 rfl) ?_
      refine x_iconst (v := 2) hx hb dL_law_1396 (by decide) ?_
      refine x_iadd hx hb dL_law_1397 ?_
      refine lx_sld E hX hbl hbA hS dL_law_1398 ?_
      refine x_aload_n hx hb dL_law_1399 rfl (lv_at hl 3 rfl) ?_
      refine kl0_bestStitch hst E hZ hU.1 hU.2 hS ⟨Nat.le_of_ble_eq_true rfl, Nat.le_of_ble_eq_true rfl⟩ hl.1 (Nat.le_of_ble_eq_true rfl) dL_law_1400 (fun o81 H locs hU1 hS => ?_)
      replace hU := And.intro hU1 hU.2
      refine x_istore (lv' := [(5, .int o81.1), (0, .ref b), (1, .ref a0), (2, .ref (ad2 0)), (3, .ref q0), (4, .int v7)]) hx hb dL_law_1403 hl (by decide) rfl (fun ls hl => ?_)
      refine x_aload_n hx hb dL_law_1405 rfl (lv_at hl 3 rfl) ?_
      refine x_aload_n hx hb dL_law_1406 rfl (lv_at hl 1 rfl) ?_
      refine x_iload hx hb dL_law_1407 (lv_at hl 5 rfl) ?_
      refine x_iconst (v := 1) hx hb dL_law_1409 (by decide) ?_
      refine x_iadd hx hb dL_law_1410 ?_
      refine lx_sld E hX hbl hbA hS dL_law_1411 ?_
      refine x_aload_n hx hb dL_law_1412 rfl (lv_at hl 1 rfl) ?_
      refine x_iload hx hb dL_law_1413 (lv_at hl 5 rfl) ?_
      refine x_iconst (v := 2) hx hb dL_law_1415 (by decide) ?_
      refine x_iadd hx hb dL_law_1416 ?_
      refine lx_sld E hX hbl hbA hS dL_law_1417 ?_
      refine kml_bestStitch E hZ hU.1 hS ⟨Nat.le_of_ble_eq_true rfl, Nat.le_of_ble_eq_true rfl⟩ hl.1 (Nat.le_of_ble_eq_true rfl) dL_law_1418 (fun o82 H locs hU1 hS => ?_)
      replace hU := And.intro hU1 hU.2
      refine x_istore (lv' := [(6, .int o82.1), (5, .int o81.1), (0, .ref b), (1, .ref a0), (2, .ref (ad2 0)), (3, .ref q0), (4, .int v7)]) hx hb dL_law_1421 hl (by decide) rfl (fun ls hl => ?_)
      refine x_aload_n hx hb dL_law_1423 rfl (lv_at hl 4 rfl) ?_
      refine kml_thrown E hZ hU.1 hS ⟨Nat.le_of_ble_eq_true rfl, Nat.le_of_ble_eq_true rfl⟩ hl.1 (Nat.le_of_ble_eq_true rfl) dL_law_1424 (fun o83 H locs hU1 hS => ?_)
      replace hU := And.intro hU1 hU.2
      refine x_iload hx hb dL_law_1427 (lv_at hl 1 rfl) ?_
      refine x_icmp_eq (tgt := 1434) hx hb dL_law_1429 (by decide) (fun hc => ?_) (fun hc => ?_)
      · refine x_iload hx hb dL_law_1434 (lv_at hl 1 rfl) ?_
        refine x_if_ne (tgt := 1451) hx hb dL_law_1436 (by decide) (fun hc => ?_) (fun hc => ?_)
        · refine x_goto (tgt := 2555) hx hb dL_law_1451 (by decide) ?_
          refine x_iinc (v := (v7 + (6 : Int32))) (lv' := [(4, .int (v7 + (6 : Int32))), (6, .int o82.1), (5, .int o81.1), (0, .ref b), (1, .ref a0), (2, .ref (ad2 0)), (3, .ref q0)]) (k := 6) hx hb dL_law_2555 hl rfl rfl (by decide) rfl (fun ls hl => ?_)
          refine x_goto (tgt := 23) hx hb dL_law_2558 (by decide) ?_
          exact ih8 (o81.2.1, o81.2.2, P3, d4, o82.2, w6, (v7 + (6 : Int32))) _ _ _ ⟨hU, hS, _, rfl, lv_sub hl [3, 4, 5, 6, 0] rfl⟩
        · refine x_aload_n hx hb dL_law_1439 rfl (lv_at hl 5 rfl) ?_
          refine x_iconst (v := 0) hx hb dL_law_1440 (by decide) ?_
          refine fx_laload E hU.1.1.1.1.2.1 dL_law_1441 (fun u84 => ?_)
          refine x_iload hx hb dL_law_1442 (lv_at hl 0 rfl) ?_
          refine x_i2l hx hb dL_law_1444 rfl ?_
          refine x_lcmp hx hb dL_law_1445 ?_
          refine x_if_eq (tgt := 1451) hx hb dL_law_1446 (by decide) (fun hc => ?_) (fun hc => ?_)
          · refine x_goto (tgt := 2555) hx hb dL_law_1451 (by decide) ?_
            refine x_iinc (v := (v7 + (6 : Int32))) (lv' := [(4, .int (v7 + (6 : Int32))), (6, .int o82.1), (5, .int o81.1), (0, .ref b), (1, .ref a0), (2, .ref (ad2 0)), (3, .ref q0)]) (k := 6) hx hb dL_law_2555 hl rfl rfl (by decide) rfl (fun ls hl => ?_)
            refine x_goto (tgt := 23) hx hb dL_law_2558 (by decide) ?_
            exact ih8 (o81.2.1, o81.2.2, P3, d4, o82.2, w6, (v7 + (6 : Int32))) _ _ _ ⟨hU, hS, _, rfl, lv_sub hl [3, 4, 5, 6, 0] rfl⟩
          · refine x_iconst (v := 0) hx hb dL_law_1449 (by decide) ?_
            exact X.none
      · refine x_iconst (v := 0) hx hb dL_law_1432 (by decide) ?_
        exact X.none
    refine X.ite (fun hc => ?_) (fun hc22 => ?_)
    · refine x_tabEq (tgt := 1454) hx hb hc dL_law_40 (by decide) (by decide) rfl (by decide) ?_
      refine x_aload_n hx hb dL_law_1454 rfl (lv_at hl 1 rfl) ?_
      refine x_aload_n hx hb dL_law_1455 rfl (lv_at hl 0 rfl) ?_
      refine x_iload hx hb dL_law_1456 (lv_at hl 4 rfl) ?_
      refine x_iconst (v := 1) hx hb dL_law_1458 (by decide) ?_
      refine x_iadd hx hb dL_law_1459 ?_
      refine lx_sld E hX hbl hbA hS dL_law_1460 ?_
      refine x_aload_n hx hb dL_law_1461 rfl (lv_at hl 0 rfl) ?_
      refine x_iload hx hb dL_law_1462 (lv_at hl 4 rfl) ?_
      refine x_iconst (v := 2) hx hb dL_law_1464 (by decide) ?_
      refine x_iadd hx hb dL_law_1465 ?_
      refine lx_sld E hX hbl hbA hS dL_law_1466 ?_
      refine x_aload_n hx hb dL_law_1467 rfl (lv_at hl 3 rfl) ?_
      refine kl0_sent hst E hZ hU.1 hU.2 hS ⟨Nat.le_of_ble_eq_true rfl, Nat.le_of_ble_eq_true rfl⟩ hl.1 (Nat.le_of_ble_eq_true rfl) dL_law_1468 (fun o85 H locs hU1 hS => ?_)
      replace hU := And.intro hU1 hU.2
      refine x_istore (lv' := [(5, .int o85.1), (0, .ref b), (1, .ref a0), (2, .ref (ad2 0)), (3, .ref q0), (4, .int v7)]) hx hb dL_law_1471 hl (by decide) rfl (fun ls hl => ?_)
      refine x_aload_n hx hb dL_law_1473 rfl (lv_at hl 3 rfl) ?_
      refine x_aload_n hx hb dL_law_1474 rfl (lv_at hl 1 rfl) ?_
      refine x_iload hx hb dL_law_1475 (lv_at hl 5 rfl) ?_
      refine x_iconst (v := 1) hx hb dL_law_1477 (by decide) ?_
      refine x_iadd hx hb dL_law_1478 ?_
      refine lx_sld E hX hbl hbA hS dL_law_1479 ?_
      refine x_aload_n hx hb dL_law_1480 rfl (lv_at hl 1 rfl) ?_
      refine x_iload hx hb dL_law_1481 (lv_at hl 5 rfl) ?_
      refine x_iconst (v := 2) hx hb dL_law_1483 (by decide) ?_
      refine x_iadd hx hb dL_law_1484 ?_
      refine lx_sld E hX hbl hbA hS dL_law_1485 ?_
      refine kml_sent E hZ hU.1 hS ⟨Nat.le_of_ble_eq_true rfl, Nat.le_of_ble_eq_true rfl⟩ hl.1 (Nat.le_of_ble_eq_true rfl) dL_law_1486 (fun o86 H locs hU1 hS => ?_)
      replace hU := And.intro hU1 hU.2
      refine x_istore (lv' := [(6, .int o86.1), (5, .int o85.1), (0, .ref b), (1, .ref a0), (2, .ref (ad2 0)), (3, .ref q0), (4, .int v7)]) hx hb dL_law_1489 hl (by decide) rfl (fun ls hl => ?_)
      refine x_aload_n hx hb dL_law_1491 rfl (lv_at hl 4 rfl) ?_
      refine kml_thrown E hZ hU.1 hS ⟨Nat.le_of_ble_eq_true rfl, Nat.le_of_ble_eq_true rfl⟩ hl.1 (Nat.le_of_ble_eq_true rfl) dL_law_1492 (fun o87 H locs hU1 hS => ?_)
      replace hU := And.intro hU1 hU.2
      refine x_iload hx hb dL_law_1495 (lv_at hl 1 rfl) ?_
      refine x_icmp_eq (tgt := 1502) hx hb dL_law_1497 (by decide) (fun hc => ?_) (fun hc => ?_)
      · refine x_iload hx hb dL_law_1502 (lv_at hl 1 rfl) ?_
        refine x_if_ne (tgt := 1519) hx hb dL_law_1504 (by decide) (fun hc => ?_) (fun hc => ?_)
        · refine x_goto (tgt := 2555) hx hb dL_law_1519 (by decide) ?_
          refine x_iinc (v := (v7 + (6 : Int32))) (lv' := [(4, .int (v7 + (6 : Int32))), (6, .int o86.1), (5, .int o85.1), (0, .ref b), (1, .ref a0), (2, .ref (ad2 0)), (3, .ref q0)]) (k := 6) hx hb dL_law_2555 hl rfl rfl (by decide) rfl (fun ls hl => ?_)
          refine x_goto (tgt := 23) hx hb dL_law_2558 (by decide) ?_
          exact ih8 (S1, o85.2, P3, d4, o86.2, w6, (v7 + (6 : Int32))) _ _ _ ⟨hU, hS, _, rfl, lv_sub hl [3, 4, 5, 6, 0] rfl⟩
        · refine x_aload_n hx hb dL_law_1507 rfl (lv_at hl 5 rfl) ?_
          refine x_iconst (v := 0) hx hb dL_law_1508 (by decide) ?_
          refine fx_laload E hU.1.1.1.1.2.1 dL_law_1509 (fun u88 => ?_)
          refine x_iload hx hb dL_law_1510 (lv_at hl 0 rfl) ?_
          refine x_i2l hx hb dL_law_1512 rfl ?_
          refine x_lcmp hx hb dL_law_1513 ?_
          refine x_if_eq (tgt := 1519) hx hb dL_law_1514 (by decide) (fun hc => ?_) (fun hc => ?_)
          · refine x_goto (tgt := 2555) hx hb dL_law_1519 (by decide) ?_
            refine x_iinc (v := (v7 + (6 : Int32))) (lv' := [(4, .int (v7 + (6 : Int32))), (6, .int o86.1), (5, .int o85.1), (0, .ref b), (1, .ref a0), (2, .ref (ad2 0)), (3, .ref q0)]) (k := 6) hx hb dL_law_2555 hl rfl rfl (by decide) rfl (fun ls hl => ?_)
            refine x_goto (tgt := 23) hx hb dL_law_2558 (by decide) ?_
            exact ih8 (S1, o85.2, P3, d4, o86.2, w6, (v7 + (6 : Int32))) _ _ _ ⟨hU, hS, _, rfl, lv_sub hl [3, 4, 5, 6, 0] rfl⟩
          · refine x_iconst (v := 0) hx hb dL_law_1517 (by decide) ?_
            exact X.none
      · refine x_iconst (v := 0) hx hb dL_law_1500 (by decide) ?_
        exact X.none
    refine X.ite (fun hc => ?_) (fun hc23 => ?_)
    · refine x_tabEq (tgt := 1522) hx hb hc dL_law_40 (by decide) (by decide) rfl (by decide) ?_
      refine x_aload_n hx hb dL_law_1522 rfl (lv_at hl 1 rfl) ?_
      refine x_aload_n hx hb dL_law_1523 rfl (lv_at hl 0 rfl) ?_
      refine x_iload hx hb dL_law_1524 (lv_at hl 4 rfl) ?_
      refine x_iconst (v := 1) hx hb dL_law_1526 (by decide) ?_
      refine x_iadd hx hb dL_law_1527 ?_
      refine lx_sld E hX hbl hbA hS dL_law_1528 ?_
      refine x_aload_n hx hb dL_law_1529 rfl (lv_at hl 3 rfl) ?_
      refine kl0_closed hst E hZ hU.1 hU.2 hS ⟨Nat.le_of_ble_eq_true rfl, Nat.le_of_ble_eq_true rfl⟩ hl.1 (Nat.le_of_ble_eq_true rfl) dL_law_1530 (fun o89 H locs hU1 hS => ?_)
      replace hU := And.intro hU1 hU.2
      refine x_istore (lv' := [(5, .int o89.1), (0, .ref b), (1, .ref a0), (2, .ref (ad2 0)), (3, .ref q0), (4, .int v7)]) hx hb dL_law_1533 hl (by decide) rfl (fun ls hl => ?_)
      refine x_aload_n hx hb dL_law_1535 rfl (lv_at hl 3 rfl) ?_
      refine x_aload_n hx hb dL_law_1536 rfl (lv_at hl 1 rfl) ?_
      refine x_iload hx hb dL_law_1537 (lv_at hl 5 rfl) ?_
      refine x_iconst (v := 1) hx hb dL_law_1539 (by decide) ?_
      refine x_iadd hx hb dL_law_1540 ?_
      refine lx_sld E hX hbl hbA hS dL_law_1541 ?_
      refine kml_closed E hZ hU.1 hS ⟨Nat.le_of_ble_eq_true rfl, Nat.le_of_ble_eq_true rfl⟩ hl.1 (Nat.le_of_ble_eq_true rfl) dL_law_1542 (fun o90 H locs hU1 hS => ?_)
      replace hU := And.intro hU1 hU.2
      refine x_istore (lv' := [(6, .int o90.1), (5, .int o89.1), (0, .ref b), (1, .ref a0), (2, .ref (ad2 0)), (3, .ref q0), (4, .int v7)]) hx hb dL_law_1545 hl (by decide) rfl (fun ls hl => ?_)
      refine x_aload_n hx hb dL_law_1547 rfl (lv_at hl 4 rfl) ?_
      refine kml_thrown E hZ hU.1 hS ⟨Nat.le_of_ble_eq_true rfl, Nat.le_of_ble_eq_true rfl⟩ hl.1 (Nat.le_of_ble_eq_true rfl) dL_law_1548 (fun o91 H locs hU1 hS => ?_)
      replace hU := And.intro hU1 hU.2
      refine x_iload hx hb dL_law_1551 (lv_at hl 1 rfl) ?_
      refine x_icmp_eq (tgt := 1558) hx hb dL_law_1553 (by decide) (fun hc => ?_) (fun hc => ?_)
      · refine x_iload hx hb dL_law_1558 (lv_at hl 1 rfl) ?_
        refine x_if_ne (tgt := 1575) hx hb dL_law_1560 (by decide) (fun hc => ?_) (fun hc => ?_)
        · refine x_goto (tgt := 2555) hx hb dL_law_1575 (by decide) ?_
          refine x_iinc (v := (v7 + (6 : Int32))) (lv' := [(4, .int (v7 + (6 : Int32))), (6, .int o90.1), (5, .int o89.1), (0, .ref b), (1, .ref a0), (2, .ref (ad2 0)), (3, .ref q0)]) (k := 6) hx hb dL_law_2555 hl rfl rfl (by decide) rfl (fun ls hl => ?_)
          refine x_goto (tgt := 23) hx hb dL_law_2558 (by decide) ?_
          exact ih8 (S1, o89.2, P3, d4, o90.2, w6, (v7 + (6 : Int32))) _ _ _ ⟨hU, hS, _, rfl, lv_sub hl [3, 4, 5, 6, 0] rfl⟩
        · refine x_aload_n hx hb dL_law_1563 rfl (lv_at hl 5 rfl) ?_
          refine x_iconst (v := 0) hx hb dL_law_1564 (by decide) ?_
          refine fx_laload E hU.1.1.1.1.2.1 dL_law_1565 (fun u92 => ?_)
          refine x_iload hx hb dL_law_1566 (lv_at hl 0 rfl) ?_
          refine x_i2l hx hb dL_law_1568 rfl ?_
          refine x_lcmp hx hb dL_law_1569 ?_
          refine x_if_eq (tgt := 1575) hx hb dL_law_1570 (by decide) (fun hc => ?_) (fun hc => ?_)
          · refine x_goto (tgt := 2555) hx hb dL_law_1575 (by decide) ?_
            refine x_iinc (v := (v7 + (6 : Int32))) (lv' := [(4, .int (v7 + (6 : Int32))), (6, .int o90.1), (5, .int o89.1), (0, .ref b), (1, .ref a0), (2, .ref (ad2 0)), (3, .ref q0)]) (k := 6) hx hb dL_law_2555 hl rfl rfl (by decide) rfl (fun ls hl => ?_)
            refine x_goto (tgt := 23) hx hb dL_law_2558 (by decide) ?_
            exact ih8 (S1, o89.2, P3, d4, o90.2, w6, (v7 + (6 : Int32))) _ _ _ ⟨hU, hS, _, rfl, lv_sub hl [3, 4, 5, 6, 0] rfl⟩
          · refine x_iconst (v := 0) hx hb dL_law_1573 (by decide) ?_
            exact X.none
      · refine x_iconst (v := 0) hx hb dL_law_1556 (by decide) ?_
        exact X.none
    refine X.ite (fun hc => ?_) (fun hc24 => ?_)
    · refine x_tabEq (tgt := 1578) hx hb hc dL_law_40 (by decide) (by decide) rfl (by decide) ?_
      refine x_aload_n hx hb dL_law_1578 rfl (lv_at hl 1 rfl) ?_
      refine x_aload_n hx hb dL_law_1579 rfl (lv_at hl 0 rfl) ?_
      refine x_iload hx hb dL_law_1580 (lv_at hl 4 rfl) ?_
      refine x_iconst (v := 1) hx hb dL_law_1582 (by decide) ?_
      refine x_iadd hx hb dL_law_1583 ?_
      refine lx_sld E hX hbl hbA hS dL_law_1584 ?_
      refine x_aload_n hx hb dL_law_1585 rfl (lv_at hl 0 rfl) ?_
      refine x_iload hx hb dL_law_1586 (lv_at hl 4 rfl) ?_
      refine x_iconst (v := 2) hx hb dL_law_1588 (by decide) ?_
      refine x_iadd hx hb dL_law_1589 ?_
      refine lx_sld E hX hbl hbA hS dL_law_1590 ?_
      refine x_aload_n hx hb dL_law_1591 rfl (lv_at hl 3 rfl) ?_
      refine kl0_tight hst E hZ hU.1 hU.2 hS ⟨Nat.le_of_ble_eq_true rfl, Nat.le_of_ble_eq_true rfl⟩ hl.1 (Nat.le_of_ble_eq_true rfl) dL_law_1592 (fun o93 H locs hU1 hS => ?_)
      replace hU := And.intro hU1 hU.2
      refine x_istore (lv' := [(5, .int o93.1), (0, .ref b), (1, .ref a0), (2, .ref (ad2 0)), (3, .ref q0), (4, .int v7)]) hx hb dL_law_1595 hl (by decide) rfl (fun ls hl => ?_)
      refine x_aload_n hx hb dL_law_1597 rfl (lv_at hl 3 rfl) ?_
      refine x_aload_n hx hb dL_law_1598 rfl (lv_at hl 1 rfl) ?_
      refine x_iload hx hb dL_law_1599 (lv_at hl 5 rfl) ?_
      refine x_iconst (v := 1) hx hb dL_law_1601 (by decide) ?_
      refine x_iadd hx hb dL_law_1602 ?_
      refine lx_sld E hX hbl hbA hS dL_law_1603 ?_
      refine x_aload_n hx hb dL_law_1604 rfl (lv_at hl 1 rfl) ?_
      refine x_iload hx hb dL_law_1605 (lv_at hl 5 rfl) ?_
      refine x_iconst (v := 2) hx hb dL_law_1607 (by decide) ?_
      refine x_iadd hx hb dL_law_1608 ?_
      refine lx_sld E hX hbl hbA hS dL_law_1609 ?_
      refine kml_tight E hZ hU.1 hS ⟨Nat.le_of_ble_eq_true rfl, Nat.le_of_ble_eq_true rfl⟩ hl.1 (Nat.le_of_ble_eq_true rfl) dL_law_1610 (fun o94 H locs hU1 hS => ?_)
      replace hU := And.intro hU1 hU.2
      refine x_istore (lv' := [(6, .int o94.1), (5, .int o93.1), (0, .ref b), (1, .ref a0), (2, .ref (ad2 0)), (3, .ref q0), (4, .int v7)]) hx hb dL_law_1613 hl (by decide) rfl (fun ls hl => ?_)
      refine x_aload_n hx hb dL_law_1615 rfl (lv_at hl 4 rfl) ?_
      refine kml_thrown E hZ hU.1 hS ⟨Nat.le_of_ble_eq_true rfl, Nat.le_of_ble_eq_true rfl⟩ hl.1 (Nat.le_of_ble_eq_true rfl) dL_law_1616 (fun o95 H locs hU1 hS => ?_)
      replace hU := And.intro hU1 hU.2
      refine x_iload hx hb dL_law_1619 (lv_at hl 1 rfl) ?_
      refine x_icmp_eq (tgt := 1626) hx hb dL_law_1621 (by decide) (fun hc => ?_) (fun hc => ?_)
      · refine x_iload hx hb dL_law_1626 (lv_at hl 1 rfl) ?_
        refine x_if_ne (tgt := 1643) hx hb dL_law_1628 (by decide) (fun hc => ?_) (fun hc => ?_)
        · refine x_goto (tgt := 2555) hx hb dL_law_1643 (by decide) ?_
          refine x_iinc (v := (v7 + (6 : Int32))) (lv' := [(4, .int (v7 + (6 : Int32))), (6, .int o94.1), (5, .int o93.1), (0, .ref b), (1, .ref a0), (2, .ref (ad2 0)), (3, .ref q0)]) (k := 6) hx hb dL_law_2555 hl rfl rfl (by decide) rfl (fun ls hl => ?_)
          refine x_goto (tgt := 23) hx hb dL_law_2558 (by decide) ?_
          exact ih8 (S1, o93.2, P3, d4, o94.2, w6, (v7 + (6 : Int32))) _ _ _ ⟨hU, hS, _, rfl, lv_sub hl [3, 4, 5, 6, 0] rfl⟩
        · refine x_aload_n hx hb dL_law_1631 rfl (lv_at hl 5 rfl) ?_
          refine x_iconst (v := 0) hx hb dL_law_1632 (by decide) ?_
          refine fx_laload E hU.1.1.1.1.2.1 dL_law_1633 (fun u96 => ?_)
          refine x_iload hx hb dL_law_1634 (lv_at hl 0 rfl) ?_
          refine x_i2l hx hb dL_law_1636 rfl ?_
          refine x_lcmp hx hb dL_law_1637 ?_
          refine x_if_eq (tgt := 1643) hx hb dL_law_1638 (by decide) (fun hc => ?_) (fun hc => ?_)
          · refine x_goto (tgt := 2555) hx hb dL_law_1643 (by decide) ?_
            refine x_iinc (v := (v7 + (6 : Int32))) (lv' := [(4, .int (v7 + (6 : Int32))), (6, .int o94.1), (5, .int o93.1), (0, .ref b), (1, .ref a0), (2, .ref (ad2 0)), (3, .ref q0)]) (k := 6) hx hb dL_law_2555 hl rfl rfl (by decide) rfl (fun ls hl => ?_)
            refine x_goto (tgt := 23) hx hb dL_law_2558 (by decide) ?_
            exact ih8 (S1, o93.2, P3, d4, o94.2, w6, (v7 + (6 : Int32))) _ _ _ ⟨hU, hS, _, rfl, lv_sub hl [3, 4, 5, 6, 0] rfl⟩
          · refine x_iconst (v := 0) hx hb dL_law_1641 (by decide) ?_
            exact X.none
      · refine x_iconst (v := 0) hx hb dL_law_1624 (by decide) ?_
        exact X.none
    refine X.ite (fun hc => ?_) (fun hc25 => ?_)
    · refine x_tabEq (tgt := 1646) hx hb hc dL_law_40 (by decide) (by decide) rfl (by decide) ?_
      refine x_aload_n hx hb dL_law_1646 rfl (lv_at hl 1 rfl) ?_
      refine x_aload_n hx hb dL_law_1647 rfl (lv_at hl 0 rfl) ?_
      refine x_iload hx hb dL_law_1648 (lv_at hl 4 rfl) ?_
      refine x_iconst (v := 1) hx hb dL_law_1650 (by decide) ?_
      refine x_iadd hx hb dL_law_1651 ?_
      refine lx_sld E hX hbl hbA hS dL_law_1652 ?_
      refine x_aload_n hx hb dL_law_1653 rfl (lv_at hl 0 rfl) ?_
      refine x_iload hx hb dL_law_1654 (lv_at hl 4 rfl) ?_
      refine x_iconst (v := 2) hx hb dL_law_1656 (by decide) ?_
      refine x_iadd hx hb dL_law_1657 ?_
      refine lx_sld E hX hbl hbA hS dL_law_1658 ?_
      refine x_aload_n hx hb dL_law_1659 rfl (lv_at hl 3 rfl) ?_
      refine kl0_readings hst E hZ hU.1 hU.2 hS ⟨Nat.le_of_ble_eq_true rfl, Nat.le_of_ble_eq_true rfl⟩ hl.1 (Nat.le_of_ble_eq_true rfl) dL_law_1660 (fun o97 H locs hU1 hS => ?_)
      replace hU := And.intro hU1 hU.2
      refine x_istore (lv' := [(5, .int o97.1), (0, .ref b), (1, .ref a0), (2, .ref (ad2 0)), (3, .ref q0), (4, .int v7)]) hx hb dL_law_1663 hl (by decide) rfl (fun ls hl => ?_)
      refine x_aload_n hx hb dL_law_1665 rfl (lv_at hl 3 rfl) ?_
      refine x_aload_n hx hb dL_law_1666 rfl (lv_at hl 1 rfl) ?_
      refine x_iload hx hb dL_law_1667 (lv_at hl 5 rfl) ?_
      refine x_iconst (v := 1) hx hb dL_law_1669 (by decide) ?_
      refine x_iadd hx hb dL_law_1670 ?_
      refine lx_sld E hX hbl hbA hS dL_law_1671 ?_
      refine x_aload_n hx hb dL_law_1672 rfl (lv_at hl 1 rfl) ?_
      refine x_iload hx hb dL_law_1673 (lv_at hl 5 rfl) ?_
      refine x_iconst (v := 2) hx hb dL_law_1675 (by decide) ?_
      refine x_iadd hx hb dL_law_1676 ?_
      refine lx_sld E hX hbl hbA hS dL_law_1677 ?_
      refine kml_readings E hZ hU.1 hS ⟨Nat.le_of_ble_eq_true rfl, Nat.le_of_ble_eq_true rfl⟩ hl.1 (Nat.le_of_ble_eq_true rfl) dL_law_1678 (fun o98 H locs hU1 hS => ?_)
      replace hU := And.intro hU1 hU.2
      refine x_istore (lv' := [(6, .int o98.1), (5, .int o97.1), (0, .ref b), (1, .ref a0), (2, .ref (ad2 0)), (3, .ref q0), (4, .int v7)]) hx hb dL_law_1681 hl (by decide) rfl (fun ls hl => ?_)
      refine x_aload_n hx hb dL_law_1683 rfl (lv_at hl 4 rfl) ?_
      refine kml_thrown E hZ hU.1 hS ⟨Nat.le_of_ble_eq_true rfl, Nat.le_of_ble_eq_true rfl⟩ hl.1 (Nat.le_of_ble_eq_true rfl) dL_law_1684 (fun o99 H locs hU1 hS => ?_)
      replace hU := And.intro hU1 hU.2
      refine x_iload hx hb dL_law_1687 (lv_at hl 1 rfl) ?_
      refine x_icmp_eq (tgt := 1694) hx hb dL_law_1689 (by decide) (fun hc => ?_) (fun hc => ?_)
      · refine x_iload hx hb dL_law_1694 (lv_at hl 1 rfl) ?_
        refine x_if_ne (tgt := 1711) hx hb dL_law_1696 (by decide) (fun hc => ?_) (fun hc => ?_)
        · refine x_goto (tgt := 2555) hx hb dL_law_1711 (by decide) ?_
          refine x_iinc (v := (v7 + (6 : Int32))) (lv' := [(4, .int (v7 + (6 : Int32))), (6, .int o98.1), (5, .int o97.1), (0, .ref b), (1, .ref a0), (2, .ref (ad2 0)), (3, .ref q0)]) (k := 6) hx hb dL_law_2555 hl rfl rfl (by decide) rfl (fun ls hl => ?_)
          refine x_goto (tgt := 23) hx hb dL_law_2558 (by decide) ?_
          exact ih8 (S1, o97.2, P3, d4, o98.2, w6, (v7 + (6 : Int32))) _ _ _ ⟨hU, hS, _, rfl, lv_sub hl [3, 4, 5, 6, 0] rfl⟩
        · refine x_aload_n hx hb dL_law_1699 rfl (lv_at hl 5 rfl) ?_
          refine x_iconst (v := 0) hx hb dL_law_1700 (by decide) ?_
          refine fx_laload E hU.1.1.1.1.2.1 dL_law_1701 (fun u100 => ?_)
          refine x_iload hx hb dL_law_1702 (lv_at hl 0 rfl) ?_
          refine x_i2l hx hb dL_law_1704 rfl ?_
          refine x_lcmp hx hb dL_law_1705 ?_
          refine x_if_eq (tgt := 1711) hx hb dL_law_1706 (by decide) (fun hc => ?_) (fun hc => ?_)
          · refine x_goto (tgt := 2555) hx hb dL_law_1711 (by decide) ?_
            refine x_iinc (v := (v7 + (6 : Int32))) (lv' := [(4, .int (v7 + (6 : Int32))), (6, .int o98.1), (5, .int o97.1), (0, .ref b), (1, .ref a0), (2, .ref (ad2 0)), (3, .ref q0)]) (k := 6) hx hb dL_law_2555 hl rfl rfl (by decide) rfl (fun ls hl => ?_)
            refine x_goto (tgt := 23) hx hb dL_law_2558 (by decide) ?_
            exact ih8 (S1, o97.2, P3, d4, o98.2, w6, (v7 + (6 : Int32))) _ _ _ ⟨hU, hS, _, rfl, lv_sub hl [3, 4, 5, 6, 0] rfl⟩
          · refine x_iconst (v := 0) hx hb dL_law_1709 (by decide) ?_
            exact X.none
      · refine x_iconst (v := 0) hx hb dL_law_1692 (by decide) ?_
        exact X.none
    refine X.ite (fun hc => ?_) (fun hc26 => ?_)
    · refine x_tabEq (tgt := 1714) hx hb hc dL_law_40 (by decide) (by decide) rfl (by decide) ?_
      refine x_aload_n hx hb dL_law_1714 rfl (lv_at hl 1 rfl) ?_
      refine x_aload_n hx hb dL_law_1715 rfl (lv_at hl 0 rfl) ?_
      refine x_iload hx hb dL_law_1716 (lv_at hl 4 rfl) ?_
      refine x_iconst (v := 1) hx hb dL_law_1718 (by decide) ?_
      refine x_iadd hx hb dL_law_1719 ?_
      refine lx_sld E hX hbl hbA hS dL_law_1720 ?_
      refine x_aload_n hx hb dL_law_1721 rfl (lv_at hl 0 rfl) ?_
      refine x_iload hx hb dL_law_1722 (lv_at hl 4 rfl) ?_
      refine x_iconst (v := 2) hx hb dL_law_1724 (by decide) ?_
      refine x_iadd hx hb dL_law_1725 ?_
      refine lx_sld E hX hbl hbA hS dL_law_1726 ?_
      refine x_aload_n hx hb dL_law_1727 rfl (lv_at hl 0 rfl) ?_
      refine x_iload hx hb dL_law_1728 (lv_at hl 4 rfl) ?_
      refine x_iconst (v := 3) hx hb dL_law_1730 (by decide) ?_
      refine x_iadd hx hb dL_law_1731 ?_
      refine lx_sld E hX hbl hbA hS dL_law_1732 ?_
      refine x_aload_n hx hb dL_law_1733 rfl (lv_at hl 3 rfl) ?_
      refine kl0_see hst E hZ hU.1 hU.2 hS ⟨Nat.le_of_ble_eq_true rfl, Nat.le_of_ble_eq_true rfl⟩ hl.1 (Nat.le_of_ble_eq_true rfl) dL_law_1734 (fun o101 H locs hU1 hS => ?_)
      replace hU := And.intro hU1 hU.2
      refine x_istore (lv' := [(5, .int o101.1), (0, .ref b), (1, .ref a0), (2, .ref (ad2 0)), (3, .ref q0), (4, .int v7)]) hx hb dL_law_1737 hl (by decide) rfl (fun ls hl => ?_)
      refine x_aload_n hx hb dL_law_1739 rfl (lv_at hl 3 rfl) ?_
      refine x_aload_n hx hb dL_law_1740 rfl (lv_at hl 1 rfl) ?_
      refine x_iload hx hb dL_law_1741 (lv_at hl 5 rfl) ?_
      refine x_iconst (v := 1) hx hb dL_law_1743 (by decide) ?_
      refine x_iadd hx hb dL_law_1744 ?_
      refine lx_sld E hX hbl hbA hS dL_law_1745 ?_
      refine x_aload_n hx hb dL_law_1746 rfl (lv_at hl 1 rfl) ?_
      refine x_iload hx hb dL_law_1747 (lv_at hl 5 rfl) ?_
      refine x_iconst (v := 2) hx hb dL_law_1749 (by decide) ?_
      refine x_iadd hx hb dL_law_1750 ?_
      refine lx_sld E hX hbl hbA hS dL_law_1751 ?_
      refine x_aload_n hx hb dL_law_1752 rfl (lv_at hl 1 rfl) ?_
      refine x_iload hx hb dL_law_1753 (lv_at hl 5 rfl) ?_
      refine x_iconst (v := 3) hx hb dL_law_1755 (by decide) ?_
      refine x_iadd hx hb dL_law_1756 ?_
      refine lx_sld E hX hbl hbA hS dL_law_1757 ?_
      refine kml_see E hZ hU.1 hS ⟨Nat.le_of_ble_eq_true rfl, Nat.le_of_ble_eq_true rfl⟩ hl.1 (Nat.le_of_ble_eq_true rfl) dL_law_1758 (fun o102 H locs hU1 hS => ?_)
      replace hU := And.intro hU1 hU.2
      refine x_istore (lv' := [(6, .int o102.1), (5, .int o101.1), (0, .ref b), (1, .ref a0), (2, .ref (ad2 0)), (3, .ref q0), (4, .int v7)]) hx hb dL_law_1761 hl (by decide) rfl (fun ls hl => ?_)
      refine x_aload_n hx hb dL_law_1763 rfl (lv_at hl 4 rfl) ?_
      refine kml_thrown E hZ hU.1 hS ⟨Nat.le_of_ble_eq_true rfl, Nat.le_of_ble_eq_true rfl⟩ hl.1 (Nat.le_of_ble_eq_true rfl) dL_law_1764 (fun o103 H locs hU1 hS => ?_)
      replace hU := And.intro hU1 hU.2
      refine x_iload hx hb dL_law_1767 (lv_at hl 1 rfl) ?_
      refine x_icmp_eq (tgt := 1774) hx hb dL_law_1769 (by decide) (fun hc => ?_) (fun hc => ?_)
      · refine x_iload hx hb dL_law_1774 (lv_at hl 1 rfl) ?_
        refine x_if_ne (tgt := 1791) hx hb dL_law_1776 (by decide) (fun hc => ?_) (fun hc => ?_)
        · refine x_goto (tgt := 2555) hx hb dL_law_1791 (by decide) ?_
          refine x_iinc (v := (v7 + (6 : Int32))) (lv' := [(4, .int (v7 + (6 : Int32))), (6, .int o102.1), (5, .int o101.1), (0, .ref b), (1, .ref a0), (2, .ref (ad2 0)), (3, .ref q0)]) (k := 6) hx hb dL_law_2555 hl rfl rfl (by decide) rfl (fun ls hl => ?_)
          refine x_goto (tgt := 23) hx hb dL_law_2558 (by decide) ?_
          exact ih8 (o101.2.1, o101.2.2, P3, d4, o102.2, w6, (v7 + (6 : Int32))) _ _ _ ⟨hU, hS, _, rfl, lv_sub hl [3, 4, 5, 6, 0] rfl⟩
        · refine x_aload_n hx hb dL_law_1779 rfl (lv_at hl 5 rfl) ?_
          refine x_iconst (v := 0) hx hb dL_law_1780 (by decide) ?_
          refine fx_laload E hU.1.1.1.1.2.1 dL_law_1781 (fun u104 => ?_)
          refine x_iload hx hb dL_law_1782 (lv_at hl 0 rfl) ?_
          refine x_i2l hx hb dL_law_1784 rfl ?_
          refine x_lcmp hx hb dL_law_1785 ?_
          refine x_if_eq (tgt := 1791) hx hb dL_law_1786 (by decide) (fun hc => ?_) (fun hc => ?_)
          · refine x_goto (tgt := 2555) hx hb dL_law_1791 (by decide) ?_
            refine x_iinc (v := (v7 + (6 : Int32))) (lv' := [(4, .int (v7 + (6 : Int32))), (6, .int o102.1), (5, .int o101.1), (0, .ref b), (1, .ref a0), (2, .ref (ad2 0)), (3, .ref q0)]) (k := 6) hx hb dL_law_2555 hl rfl rfl (by decide) rfl (fun ls hl => ?_)
            refine x_goto (tgt := 23) hx hb dL_law_2558 (by decide) ?_
            exact ih8 (o101.2.1, o101.2.2, P3, d4, o102.2, w6, (v7 + (6 : Int32))) _ _ _ ⟨hU, hS, _, rfl, lv_sub hl [3, 4, 5, 6, 0] rfl⟩
          · refine x_iconst (v := 0) hx hb dL_law_1789 (by decide) ?_
            exact X.none
      · refine x_iconst (v := 0) hx hb dL_law_1772 (by decide) ?_
        exact X.none
    refine X.ite (fun hc => ?_) (fun hc27 => ?_)
    · refine x_tabEq (tgt := 1794) hx hb hc dL_law_40 (by decide) (by decide) rfl (by decide) ?_
      refine x_aload_n hx hb dL_law_1794 rfl (lv_at hl 1 rfl) ?_
      refine kl1_forget hst E hZ hU.1 hU.2 hS ⟨Nat.le_of_ble_eq_true rfl, Nat.le_of_ble_eq_true rfl⟩ hl.1 (Nat.le_of_ble_eq_true rfl) dL_law_1795 (fun o105 H locs hU1 hS => ?_)
      replace hU := And.intro hU1 hU.2
      refine x_aload_n hx hb dL_law_1798 rfl (lv_at hl 2 rfl) ?_
      refine kml_forget E hZ hU.1 hS ⟨Nat.le_of_ble_eq_true rfl, Nat.le_of_ble_eq_true rfl⟩ hl.1 (Nat.le_of_ble_eq_true rfl) dL_law_1799 (fun o106 H locs hU1 hS => ?_)
      replace hU := And.intro hU1 hU.2
      refine x_goto (tgt := 2555) hx hb dL_law_1802 (by decide) ?_
      refine x_iinc (v := (v7 + (6 : Int32))) (lv' := [(4, .int (v7 + (6 : Int32))), (0, .ref b), (1, .ref a0), (2, .ref (ad2 0)), (3, .ref q0)]) (k := 4) hx hb dL_law_2555 hl rfl rfl (by decide) rfl (fun ls hl => ?_)
      refine x_goto (tgt := 23) hx hb dL_law_2558 (by decide) ?_
      exact ih8 (S1, o105.1, o105.2, d4, o106, w6, (v7 + (6 : Int32))) _ _ _ ⟨hU, hS, _, rfl, lv_sub hl [1, 2, 3, 4, 0] rfl⟩
    refine X.ite (fun hc => ?_) (fun hc28 => ?_)
    · refine x_tabEq (tgt := 1805) hx hb hc dL_law_40 (by decide) (by decide) rfl (by decide) ?_
      refine x_aload_n hx hb dL_law_1805 rfl (lv_at hl 1 rfl) ?_
      refine x_aload_n hx hb dL_law_1806 rfl (lv_at hl 0 rfl) ?_
      refine x_iload hx hb dL_law_1807 (lv_at hl 4 rfl) ?_
      refine x_iconst (v := 1) hx hb dL_law_1809 (by decide) ?_
      refine x_iadd hx hb dL_law_1810 ?_
      refine lx_sld E hX hbl hbA hS dL_law_1811 ?_
      refine x_aload_n hx hb dL_law_1812 rfl (lv_at hl 3 rfl) ?_
      refine kl0_torn hst E hZ hU.1 hU.2 hS ⟨Nat.le_of_ble_eq_true rfl, Nat.le_of_ble_eq_true rfl⟩ hl.1 (Nat.le_of_ble_eq_true rfl) dL_law_1813 (fun o107 H locs hU1 hS => ?_)
      replace hU := And.intro hU1 hU.2
      refine x_istore (lv' := [(5, .int o107.1), (0, .ref b), (1, .ref a0), (2, .ref (ad2 0)), (3, .ref q0), (4, .int v7)]) hx hb dL_law_1816 hl (by decide) rfl (fun ls hl => ?_)
      refine x_aload_n hx hb dL_law_1818 rfl (lv_at hl 3 rfl) ?_
      refine x_aload_n hx hb dL_law_1819 rfl (lv_at hl 1 rfl) ?_
      refine x_iload hx hb dL_law_1820 (lv_at hl 5 rfl) ?_
      refine x_iconst (v := 1) hx hb dL_law_1822 (by decide) ?_
      refine x_iadd hx hb dL_law_1823 ?_
      refine lx_sld E hX hbl hbA hS dL_law_1824 ?_
      refine kml_torn E hZ hU.1 hS ⟨Nat.le_of_ble_eq_true rfl, Nat.le_of_ble_eq_true rfl⟩ hl.1 (Nat.le_of_ble_eq_true rfl) dL_law_1825 (fun o108 H locs hU1 hS => ?_)
      replace hU := And.intro hU1 hU.2
      refine x_istore (lv' := [(6, .int o108.1), (5, .int o107.1), (0, .ref b), (1, .ref a0), (2, .ref (ad2 0)), (3, .ref q0), (4, .int v7)]) hx hb dL_law_1828 hl (by decide) rfl (fun ls hl => ?_)
      refine x_aload_n hx hb dL_law_1830 rfl (lv_at hl 4 rfl) ?_
      refine kml_thrown E hZ hU.1 hS ⟨Nat.le_of_ble_eq_true rfl, Nat.le_of_ble_eq_true rfl⟩ hl.1 (Nat.le_of_ble_eq_true rfl) dL_law_1831 (fun o109 H locs hU1 hS => ?_)
      replace hU := And.intro hU1 hU.2
      refine x_iload hx hb dL_law_1834 (lv_at hl 1 rfl) ?_
      refine x_icmp_eq (tgt := 1841) hx hb dL_law_1836 (by decide) (fun hc => ?_) (fun hc => ?_)
      · refine x_iload hx hb dL_law_1841 (lv_at hl 1 rfl) ?_
        refine x_if_ne (tgt := 1858) hx hb dL_law_1843 (by decide) (fun hc => ?_) (fun hc => ?_)
        · refine x_goto (tgt := 2555) hx hb dL_law_1858 (by decide) ?_
          refine x_iinc (v := (v7 + (6 : Int32))) (lv' := [(4, .int (v7 + (6 : Int32))), (6, .int o108.1), (5, .int o107.1), (0, .ref b), (1, .ref a0), (2, .ref (ad2 0)), (3, .ref q0)]) (k := 6) hx hb dL_law_2555 hl rfl rfl (by decide) rfl (fun ls hl => ?_)
          refine x_goto (tgt := 23) hx hb dL_law_2558 (by decide) ?_
          exact ih8 (o107.2.1, o107.2.2, P3, d4, o108.2, w6, (v7 + (6 : Int32))) _ _ _ ⟨hU, hS, _, rfl, lv_sub hl [3, 4, 5, 6, 0] rfl⟩
        · refine x_aload_n hx hb dL_law_1846 rfl (lv_at hl 5 rfl) ?_
          refine x_iconst (v := 0) hx hb dL_law_1847 (by decide) ?_
          refine fx_laload E hU.1.1.1.1.2.1 dL_law_1848 (fun u110 => ?_)
          refine x_iload hx hb dL_law_1849 (lv_at hl 0 rfl) ?_
          refine x_i2l hx hb dL_law_1851 rfl ?_
          refine x_lcmp hx hb dL_law_1852 ?_
          refine x_if_eq (tgt := 1858) hx hb dL_law_1853 (by decide) (fun hc => ?_) (fun hc => ?_)
          · refine x_goto (tgt := 2555) hx hb dL_law_1858 (by decide) ?_
            refine x_iinc (v := (v7 + (6 : Int32))) (lv' := [(4, .int (v7 + (6 : Int32))), (6, .int o108.1), (5, .int o107.1), (0, .ref b), (1, .ref a0), (2, .ref (ad2 0)), (3, .ref q0)]) (k := 6) hx hb dL_law_2555 hl rfl rfl (by decide) rfl (fun ls hl => ?_)
            refine x_goto (tgt := 23) hx hb dL_law_2558 (by decide) ?_
            exact ih8 (o107.2.1, o107.2.2, P3, d4, o108.2, w6, (v7 + (6 : Int32))) _ _ _ ⟨hU, hS, _, rfl, lv_sub hl [3, 4, 5, 6, 0] rfl⟩
          · refine x_iconst (v := 0) hx hb dL_law_1856 (by decide) ?_
            exact X.none
      · refine x_iconst (v := 0) hx hb dL_law_1839 (by decide) ?_
        exact X.none
    refine X.ite (fun hc => ?_) (fun hc29 => ?_)
    · refine x_tabEq (tgt := 1861) hx hb hc dL_law_40 (by decide) (by decide) rfl (by decide) ?_
      refine x_aload_n hx hb dL_law_1861 rfl (lv_at hl 1 rfl) ?_
      refine x_aload_n hx hb dL_law_1862 rfl (lv_at hl 0 rfl) ?_
      refine x_iload hx hb dL_law_1863 (lv_at hl 4 rfl) ?_
      refine x_iconst (v := 1) hx hb dL_law_1865 (by decide) ?_
      refine x_iadd hx hb dL_law_1866 ?_
      refine lx_sld E hX hbl hbA hS dL_law_1867 ?_
      refine x_aload_n hx hb dL_law_1868 rfl (lv_at hl 3 rfl) ?_
      refine kl0_look hst E hZ hU.1 hU.2 hS ⟨Nat.le_of_ble_eq_true rfl, Nat.le_of_ble_eq_true rfl⟩ hl.1 (Nat.le_of_ble_eq_true rfl) dL_law_1869 (fun o111 H locs hU1 hS => ?_)
      replace hU := And.intro hU1 hU.2
      refine x_istore (lv' := [(5, .int o111.1), (0, .ref b), (1, .ref a0), (2, .ref (ad2 0)), (3, .ref q0), (4, .int v7)]) hx hb dL_law_1872 hl (by decide) rfl (fun ls hl => ?_)
      refine x_aload_n hx hb dL_law_1874 rfl (lv_at hl 3 rfl) ?_
      refine x_aload_n hx hb dL_law_1875 rfl (lv_at hl 1 rfl) ?_
      refine x_iload hx hb dL_law_1876 (lv_at hl 5 rfl) ?_
      refine x_iconst (v := 1) hx hb dL_law_1878 (by decide) ?_
      refine x_iadd hx hb dL_law_1879 ?_
      refine lx_sld E hX hbl hbA hS dL_law_1880 ?_
      refine kml_look E hZ hU.1 hS ⟨Nat.le_of_ble_eq_true rfl, Nat.le_of_ble_eq_true rfl⟩ hl.1 (Nat.le_of_ble_eq_true rfl) dL_law_1881 (fun o112 H locs hU1 hS => ?_)
      replace hU := And.intro hU1 hU.2
      refine x_istore (lv' := [(6, .int o112.1), (5, .int o111.1), (0, .ref b), (1, .ref a0), (2, .ref (ad2 0)), (3, .ref q0), (4, .int v7)]) hx hb dL_law_1884 hl (by decide) rfl (fun ls hl => ?_)
      refine x_aload_n hx hb dL_law_1886 rfl (lv_at hl 4 rfl) ?_
      refine kml_thrown E hZ hU.1 hS ⟨Nat.le_of_ble_eq_true rfl, Nat.le_of_ble_eq_true rfl⟩ hl.1 (Nat.le_of_ble_eq_true rfl) dL_law_1887 (fun o113 H locs hU1 hS => ?_)
      replace hU := And.intro hU1 hU.2
      refine x_iload hx hb dL_law_1890 (lv_at hl 1 rfl) ?_
      refine x_icmp_eq (tgt := 1897) hx hb dL_law_1892 (by decide) (fun hc => ?_) (fun hc => ?_)
      · refine x_iload hx hb dL_law_1897 (lv_at hl 1 rfl) ?_
        refine x_if_ne (tgt := 1914) hx hb dL_law_1899 (by decide) (fun hc => ?_) (fun hc => ?_)
        · refine x_goto (tgt := 2555) hx hb dL_law_1914 (by decide) ?_
          refine x_iinc (v := (v7 + (6 : Int32))) (lv' := [(4, .int (v7 + (6 : Int32))), (6, .int o112.1), (5, .int o111.1), (0, .ref b), (1, .ref a0), (2, .ref (ad2 0)), (3, .ref q0)]) (k := 6) hx hb dL_law_2555 hl rfl rfl (by decide) rfl (fun ls hl => ?_)
          refine x_goto (tgt := 23) hx hb dL_law_2558 (by decide) ?_
          exact ih8 (o111.2.1, o111.2.2, P3, d4, o112.2, w6, (v7 + (6 : Int32))) _ _ _ ⟨hU, hS, _, rfl, lv_sub hl [3, 4, 5, 6, 0] rfl⟩
        · refine x_aload_n hx hb dL_law_1902 rfl (lv_at hl 5 rfl) ?_
          refine x_iconst (v := 0) hx hb dL_law_1903 (by decide) ?_
          refine fx_laload E hU.1.1.1.1.2.1 dL_law_1904 (fun u114 => ?_)
          refine x_iload hx hb dL_law_1905 (lv_at hl 0 rfl) ?_
          refine x_i2l hx hb dL_law_1907 rfl ?_
          refine x_lcmp hx hb dL_law_1908 ?_
          refine x_if_eq (tgt := 1914) hx hb dL_law_1909 (by decide) (fun hc => ?_) (fun hc => ?_)
          · refine x_goto (tgt := 2555) hx hb dL_law_1914 (by decide) ?_
            refine x_iinc (v := (v7 + (6 : Int32))) (lv' := [(4, .int (v7 + (6 : Int32))), (6, .int o112.1), (5, .int o111.1), (0, .ref b), (1, .ref a0), (2, .ref (ad2 0)), (3, .ref q0)]) (k := 6) hx hb dL_law_2555 hl rfl rfl (by decide) rfl (fun ls hl => ?_)
            refine x_goto (tgt := 23) hx hb dL_law_2558 (by decide) ?_
            exact ih8 (o111.2.1, o111.2.2, P3, d4, o112.2, w6, (v7 + (6 : Int32))) _ _ _ ⟨hU, hS, _, rfl, lv_sub hl [3, 4, 5, 6, 0] rfl⟩
          · refine x_iconst (v := 0) hx hb dL_law_1912 (by decide) ?_
            exact X.none
      · refine x_iconst (v := 0) hx hb dL_law_1895 (by decide) ?_
        exact X.none
    refine X.ite (fun hc => ?_) (fun hc30 => ?_)
    · refine x_tabEq (tgt := 1917) hx hb hc dL_law_40 (by decide) (by decide) rfl (by decide) ?_
      refine x_aload_n hx hb dL_law_1917 rfl (lv_at hl 1 rfl) ?_
      refine x_aload_n hx hb dL_law_1918 rfl (lv_at hl 0 rfl) ?_
      refine x_iload hx hb dL_law_1919 (lv_at hl 4 rfl) ?_
      refine x_iconst (v := 1) hx hb dL_law_1921 (by decide) ?_
      refine x_iadd hx hb dL_law_1922 ?_
      refine lx_sld E hX hbl hbA hS dL_law_1923 ?_
      refine x_aload_n hx hb dL_law_1924 rfl (lv_at hl 0 rfl) ?_
      refine x_iload hx hb dL_law_1925 (lv_at hl 4 rfl) ?_
      refine x_iconst (v := 2) hx hb dL_law_1927 (by decide) ?_
      refine x_iadd hx hb dL_law_1928 ?_
      refine lx_sld E hX hbl hbA hS dL_law_1929 ?_
      refine x_aload_n hx hb dL_law_1930 rfl (lv_at hl 3 rfl) ?_
      refine kl0_gales hst E hZ hU.1 hU.2 hS ⟨Nat.le_of_ble_eq_true rfl, Nat.le_of_ble_eq_true rfl⟩ hl.1 (Nat.le_of_ble_eq_true rfl) dL_law_1931 (fun o115 H locs hU1 hS => ?_)
      replace hU := And.intro hU1 hU.2
      refine x_istore (lv' := [(5, .int o115.1), (0, .ref b), (1, .ref a0), (2, .ref (ad2 0)), (3, .ref q0), (4, .int v7)]) hx hb dL_law_1934 hl (by decide) rfl (fun ls hl => ?_)
      refine x_aload_n hx hb dL_law_1936 rfl (lv_at hl 3 rfl) ?_
      refine x_aload_n hx hb dL_law_1937 rfl (lv_at hl 1 rfl) ?_
      refine x_iload hx hb dL_law_1938 (lv_at hl 5 rfl) ?_
      refine x_iconst (v := 1) hx hb dL_law_1940 (by decide) ?_
      refine x_iadd hx hb dL_law_1941 ?_
      refine lx_sld E hX hbl hbA hS dL_law_1942 ?_
      refine x_aload_n hx hb dL_law_1943 rfl (lv_at hl 1 rfl) ?_
      refine x_iload hx hb dL_law_1944 (lv_at hl 5 rfl) ?_
      refine x_iconst (v := 2) hx hb dL_law_1946 (by decide) ?_
      refine x_iadd hx hb dL_law_1947 ?_
      refine lx_sld E hX hbl hbA hS dL_law_1948 ?_
      refine kml_gales E hZ hU.1 hS ⟨Nat.le_of_ble_eq_true rfl, Nat.le_of_ble_eq_true rfl⟩ hl.1 (Nat.le_of_ble_eq_true rfl) dL_law_1949 (fun o116 H locs hU1 hS => ?_)
      replace hU := And.intro hU1 hU.2
      refine x_istore (lv' := [(6, .int o116.1), (5, .int o115.1), (0, .ref b), (1, .ref a0), (2, .ref (ad2 0)), (3, .ref q0), (4, .int v7)]) hx hb dL_law_1952 hl (by decide) rfl (fun ls hl => ?_)
      refine x_aload_n hx hb dL_law_1954 rfl (lv_at hl 4 rfl) ?_
      refine kml_thrown E hZ hU.1 hS ⟨Nat.le_of_ble_eq_true rfl, Nat.le_of_ble_eq_true rfl⟩ hl.1 (Nat.le_of_ble_eq_true rfl) dL_law_1955 (fun o117 H locs hU1 hS => ?_)
      replace hU := And.intro hU1 hU.2
      refine x_iload hx hb dL_law_1958 (lv_at hl 1 rfl) ?_
      refine x_icmp_eq (tgt := 1965) hx hb dL_law_1960 (by decide) (fun hc => ?_) (fun hc => ?_)
      · refine x_iload hx hb dL_law_1965 (lv_at hl 1 rfl) ?_
        refine x_if_ne (tgt := 1982) hx hb dL_law_1967 (by decide) (fun hc => ?_) (fun hc => ?_)
        · refine x_goto (tgt := 2555) hx hb dL_law_1982 (by decide) ?_
          refine x_iinc (v := (v7 + (6 : Int32))) (lv' := [(4, .int (v7 + (6 : Int32))), (6, .int o116.1), (5, .int o115.1), (0, .ref b), (1, .ref a0), (2, .ref (ad2 0)), (3, .ref q0)]) (k := 6) hx hb dL_law_2555 hl rfl rfl (by decide) rfl (fun ls hl => ?_)
          refine x_goto (tgt := 23) hx hb dL_law_2558 (by decide) ?_
          exact ih8 (o115.2.1, o115.2.2, P3, d4, o116.2, w6, (v7 + (6 : Int32))) _ _ _ ⟨hU, hS, _, rfl, lv_sub hl [3, 4, 5, 6, 0] rfl⟩
        · refine x_aload_n hx hb dL_law_1970 rfl (lv_at hl 5 rfl) ?_
          refine x_iconst (v := 0) hx hb dL_law_1971 (by decide) ?_
          refine fx_laload E hU.1.1.1.1.2.1 dL_law_1972 (fun u118 => ?_)
          refine x_iload hx hb dL_law_1973 (lv_at hl 0 rfl) ?_
          refine x_i2l hx hb dL_law_1975 rfl ?_
          refine x_lcmp hx hb dL_law_1976 ?_
          refine x_if_eq (tgt := 1982) hx hb dL_law_1977 (by decide) (fun hc => ?_) (fun hc => ?_)
          · refine x_goto (tgt := 2555) hx hb dL_law_1982 (by decide) ?_
            refine x_iinc (v := (v7 + (6 : Int32))) (lv' := [(4, .int (v7 + (6 : Int32))), (6, .int o116.1), (5, .int o115.1), (0, .ref b), (1, .ref a0), (2, .ref (ad2 0)), (3, .ref q0)]) (k := 6) hx hb dL_law_2555 hl rfl rfl (by decide) rfl (fun ls hl => ?_)
            refine x_goto (tgt := 23) hx hb dL_law_2558 (by decide) ?_
            exact ih8 (o115.2.1, o115.2.2, P3, d4, o116.2, w6, (v7 + (6 : Int32))) _ _ _ ⟨hU, hS, _, rfl, lv_sub hl [3, 4, 5, 6, 0] rfl⟩
          · refine x_iconst (v := 0) hx hb dL_law_1980 (by decide) ?_
            exact X.none
      · refine x_iconst (v := 0) hx hb dL_law_1963 (by decide) ?_
        exact X.none
    refine X.ite (fun hc => ?_) (fun hc31 => ?_)
    · refine x_tabEq (tgt := 1985) hx hb hc dL_law_40 (by decide) (by decide) rfl (by decide) ?_
      refine x_aload_n hx hb dL_law_1985 rfl (lv_at hl 1 rfl) ?_
      refine x_aload_n hx hb dL_law_1986 rfl (lv_at hl 0 rfl) ?_
      refine x_iload hx hb dL_law_1987 (lv_at hl 4 rfl) ?_
      refine x_iconst (v := 1) hx hb dL_law_1989 (by decide) ?_
      refine x_iadd hx hb dL_law_1990 ?_
      refine lx_sld E hX hbl hbA hS dL_law_1991 ?_
      refine x_aload_n hx hb dL_law_1992 rfl (lv_at hl 0 rfl) ?_
      refine x_iload hx hb dL_law_1993 (lv_at hl 4 rfl) ?_
      refine x_iconst (v := 2) hx hb dL_law_1995 (by decide) ?_
      refine x_iadd hx hb dL_law_1996 ?_
      refine lx_sld E hX hbl hbA hS dL_law_1997 ?_
      refine x_aload_n hx hb dL_law_1998 rfl (lv_at hl 0 rfl) ?_
      refine x_iload hx hb dL_law_1999 (lv_at hl 4 rfl) ?_
      refine x_iconst (v := 3) hx hb dL_law_2001 (by decide) ?_
      refine x_iadd hx hb dL_law_2002 ?_
      refine lx_sld E hX hbl hbA hS dL_law_2003 ?_
      refine x_aload_n hx hb dL_law_2004 rfl (lv_at hl 3 rfl) ?_
      refine kl0_game hst E hZ hU.1 hU.2 hS ⟨Nat.le_of_ble_eq_true rfl, Nat.le_of_ble_eq_true rfl⟩ hl.1 (Nat.le_of_ble_eq_true rfl) dL_law_2005 (fun o119 H locs hU1 hS => ?_)
      replace hU := And.intro hU1 hU.2
      refine x_istore (lv' := [(5, .int o119.1), (0, .ref b), (1, .ref a0), (2, .ref (ad2 0)), (3, .ref q0), (4, .int v7)]) hx hb dL_law_2008 hl (by decide) rfl (fun ls hl => ?_)
      refine x_aload_n hx hb dL_law_2010 rfl (lv_at hl 3 rfl) ?_
      refine x_aload_n hx hb dL_law_2011 rfl (lv_at hl 1 rfl) ?_
      refine x_iload hx hb dL_law_2012 (lv_at hl 5 rfl) ?_
      refine x_iconst (v := 1) hx hb dL_law_2014 (by decide) ?_
      refine x_iadd hx hb dL_law_2015 ?_
      refine lx_sld E hX hbl hbA hS dL_law_2016 ?_
      refine x_aload_n hx hb dL_law_2017 rfl (lv_at hl 1 rfl) ?_
      refine x_iload hx hb dL_law_2018 (lv_at hl 5 rfl) ?_
      refine x_iconst (v := 2) hx hb dL_law_2020 (by decide) ?_
      refine x_iadd hx hb dL_law_2021 ?_
      refine lx_sld E hX hbl hbA hS dL_law_2022 ?_
      refine x_aload_n hx hb dL_law_2023 rfl (lv_at hl 1 rfl) ?_
      refine x_iload hx hb dL_law_2024 (lv_at hl 5 rfl) ?_
      refine x_iconst (v := 3) hx hb dL_law_2026 (by decide) ?_
      refine x_iadd hx hb dL_law_2027 ?_
      refine lx_sld E hX hbl hbA hS dL_law_2028 ?_
      refine kml_game E hZ hU.1 hS ⟨Nat.le_of_ble_eq_true rfl, Nat.le_of_ble_eq_true rfl⟩ hl.1 (Nat.le_of_ble_eq_true rfl) dL_law_2029 (fun o120 H locs hU1 hS => ?_)
      replace hU := And.intro hU1 hU.2
      refine x_istore (lv' := [(6, .int o120.1), (5, .int o119.1), (0, .ref b), (1, .ref a0), (2, .ref (ad2 0)), (3, .ref q0), (4, .int v7)]) hx hb dL_law_2032 hl (by decide) rfl (fun ls hl => ?_)
      refine x_aload_n hx hb dL_law_2034 rfl (lv_at hl 4 rfl) ?_
      refine kml_thrown E hZ hU.1 hS ⟨Nat.le_of_ble_eq_true rfl, Nat.le_of_ble_eq_true rfl⟩ hl.1 (Nat.le_of_ble_eq_true rfl) dL_law_2035 (fun o121 H locs hU1 hS => ?_)
      replace hU := And.intro hU1 hU.2
      refine x_iload hx hb dL_law_2038 (lv_at hl 1 rfl) ?_
      refine x_icmp_eq (tgt := 2045) hx hb dL_law_2040 (by decide) (fun hc => ?_) (fun hc => ?_)
      · refine x_iload hx hb dL_law_2045 (lv_at hl 1 rfl) ?_
        refine x_if_ne (tgt := 2062) hx hb dL_law_2047 (by decide) (fun hc => ?_) (fun hc => ?_)
        · refine x_goto (tgt := 2555) hx hb dL_law_2062 (by decide) ?_
          refine x_iinc (v := (v7 + (6 : Int32))) (lv' := [(4, .int (v7 + (6 : Int32))), (6, .int o120.1), (5, .int o119.1), (0, .ref b), (1, .ref a0), (2, .ref (ad2 0)), (3, .ref q0)]) (k := 6) hx hb dL_law_2555 hl rfl rfl (by decide) rfl (fun ls hl => ?_)
          refine x_goto (tgt := 23) hx hb dL_law_2558 (by decide) ?_
          exact ih8 (o119.2.1, o119.2.2, P3, d4, o120.2, w6, (v7 + (6 : Int32))) _ _ _ ⟨hU, hS, _, rfl, lv_sub hl [3, 4, 5, 6, 0] rfl⟩
        · refine x_aload_n hx hb dL_law_2050 rfl (lv_at hl 5 rfl) ?_
          refine x_iconst (v := 0) hx hb dL_law_2051 (by decide) ?_
          refine fx_laload E hU.1.1.1.1.2.1 dL_law_2052 (fun u122 => ?_)
          refine x_iload hx hb dL_law_2053 (lv_at hl 0 rfl) ?_
          refine x_i2l hx hb dL_law_2055 rfl ?_
          refine x_lcmp hx hb dL_law_2056 ?_
          refine x_if_eq (tgt := 2062) hx hb dL_law_2057 (by decide) (fun hc => ?_) (fun hc => ?_)
          · refine x_goto (tgt := 2555) hx hb dL_law_2062 (by decide) ?_
            refine x_iinc (v := (v7 + (6 : Int32))) (lv' := [(4, .int (v7 + (6 : Int32))), (6, .int o120.1), (5, .int o119.1), (0, .ref b), (1, .ref a0), (2, .ref (ad2 0)), (3, .ref q0)]) (k := 6) hx hb dL_law_2555 hl rfl rfl (by decide) rfl (fun ls hl => ?_)
            refine x_goto (tgt := 23) hx hb dL_law_2558 (by decide) ?_
            exact ih8 (o119.2.1, o119.2.2, P3, d4, o120.2, w6, (v7 + (6 : Int32))) _ _ _ ⟨hU, hS, _, rfl, lv_sub hl [3, 4, 5, 6, 0] rfl⟩
          · refine x_iconst (v := 0) hx hb dL_law_2060 (by decide) ?_
            exact X.none
      · refine x_iconst (v := 0) hx hb dL_law_2043 (by decide) ?_
        exact X.none
    refine X.ite (fun hc => ?_) (fun hc32 => ?_)
    · refine x_tabEq (tgt := 2065) hx hb hc dL_law_40 (by decide) (by decide) rfl (by decide) ?_
      refine x_aload_n hx hb dL_law_2065 rfl (lv_at hl 1 rfl) ?_
      refine x_aload_n hx hb dL_law_2066 rfl (lv_at hl 0 rfl) ?_
      refine x_iload hx hb dL_law_2067 (lv_at hl 4 rfl) ?_
      refine x_iconst (v := 1) hx hb dL_law_2069 (by decide) ?_
      refine x_iadd hx hb dL_law_2070 ?_
      refine lx_sld E hX hbl hbA hS dL_law_2071 ?_
      refine x_aload_n hx hb dL_law_2072 rfl (lv_at hl 0 rfl) ?_
      refine x_iload hx hb dL_law_2073 (lv_at hl 4 rfl) ?_
      refine x_iconst (v := 2) hx hb dL_law_2075 (by decide) ?_
      refine x_iadd hx hb dL_law_2076 ?_
      refine lx_sld E hX hbl hbA hS dL_law_2077 ?_
      refine x_aload_n hx hb dL_law_2078 rfl (lv_at hl 0 rfl) ?_
      refine x_iload hx hb dL_law_2079 (lv_at hl 4 rfl) ?_
      refine x_iconst (v := 3) hx hb dL_law_2081 (by decide) ?_
      refine x_iadd hx hb dL_law_2082 ?_
      refine lx_sld E hX hbl hbA hS dL_law_2083 ?_
      refine x_aload_n hx hb dL_law_2084 rfl (lv_at hl 3 rfl) ?_
      refine kl0_years hst E hZ hU.1 hU.2 hS ⟨Nat.le_of_ble_eq_true rfl, Nat.le_of_ble_eq_true rfl⟩ hl.1 (Nat.le_of_ble_eq_true rfl) dL_law_2085 (fun o123 H locs hU1 hS => ?_)
      replace hU := And.intro hU1 hU.2
      refine x_istore (lv' := [(5, .int o123.1), (0, .ref b), (1, .ref a0), (2, .ref (ad2 0)), (3, .ref q0), (4, .int v7)]) hx hb dL_law_2088 hl (by decide) rfl (fun ls hl => ?_)
      refine x_aload_n hx hb dL_law_2090 rfl (lv_at hl 3 rfl) ?_
      refine x_aload_n hx hb dL_law_2091 rfl (lv_at hl 1 rfl) ?_
      refine x_iload hx hb dL_law_2092 (lv_at hl 5 rfl) ?_
      refine x_iconst (v := 1) hx hb dL_law_2094 (by decide) ?_
      refine x_iadd hx hb dL_law_2095 ?_
      refine lx_sld E hX hbl hbA hS dL_law_2096 ?_
      refine x_aload_n hx hb dL_law_2097 rfl (lv_at hl 1 rfl) ?_
      refine x_iload hx hb dL_law_2098 (lv_at hl 5 rfl) ?_
      refine x_iconst (v := 2) hx hb dL_law_2100 (by decide) ?_
      refine x_iadd hx hb dL_law_2101 ?_
      refine lx_sld E hX hbl hbA hS dL_law_2102 ?_
      refine x_aload_n hx hb dL_law_2103 rfl (lv_at hl 1 rfl) ?_
      refine x_iload hx hb dL_law_2104 (lv_at hl 5 rfl) ?_
      refine x_iconst (v := 3) hx hb dL_law_2106 (by decide) ?_
      refine x_iadd hx hb dL_law_2107 ?_
      refine lx_sld E hX hbl hbA hS dL_law_2108 ?_
      refine kml_years E hZ hU.1 hS ⟨Nat.le_of_ble_eq_true rfl, Nat.le_of_ble_eq_true rfl⟩ hl.1 (Nat.le_of_ble_eq_true rfl) dL_law_2109 (fun o124 H locs hU1 hS => ?_)
      replace hU := And.intro hU1 hU.2
      refine x_istore (lv' := [(6, .int o124.1), (5, .int o123.1), (0, .ref b), (1, .ref a0), (2, .ref (ad2 0)), (3, .ref q0), (4, .int v7)]) hx hb dL_law_2112 hl (by decide) rfl (fun ls hl => ?_)
      refine x_aload_n hx hb dL_law_2114 rfl (lv_at hl 4 rfl) ?_
      refine kml_thrown E hZ hU.1 hS ⟨Nat.le_of_ble_eq_true rfl, Nat.le_of_ble_eq_true rfl⟩ hl.1 (Nat.le_of_ble_eq_true rfl) dL_law_2115 (fun o125 H locs hU1 hS => ?_)
      replace hU := And.intro hU1 hU.2
      refine x_iload hx hb dL_law_2118 (lv_at hl 1 rfl) ?_
      refine x_icmp_eq (tgt := 2125) hx hb dL_law_2120 (by decide) (fun hc => ?_) (fun hc => ?_)
      · refine x_iload hx hb dL_law_2125 (lv_at hl 1 rfl) ?_
        refine x_if_ne (tgt := 2142) hx hb dL_law_2127 (by decide) (fun hc => ?_) (fun hc => ?_)
        · refine x_goto (tgt := 2555) hx hb dL_law_2142 (by decide) ?_
          refine x_iinc (v := (v7 + (6 : Int32))) (lv' := [(4, .int (v7 + (6 : Int32))), (6, .int o124.1), (5, .int o123.1), (0, .ref b), (1, .ref a0), (2, .ref (ad2 0)), (3, .ref q0)]) (k := 6) hx hb dL_law_2555 hl rfl rfl (by decide) rfl (fun ls hl => ?_)
          refine x_goto (tgt := 23) hx hb dL_law_2558 (by decide) ?_
          exact ih8 (o123.2.1, o123.2.2, P3, d4, o124.2, w6, (v7 + (6 : Int32))) _ _ _ ⟨hU, hS, _, rfl, lv_sub hl [3, 4, 5, 6, 0] rfl⟩
        · refine x_aload_n hx hb dL_law_2130 rfl (lv_at hl 5 rfl) ?_
          refine x_iconst (v := 0) hx hb dL_law_2131 (by decide) ?_
          refine fx_laload E hU.1.1.1.1.2.1 dL_law_2132 (fun u126 => ?_)
          refine x_iload hx hb dL_law_2133 (lv_at hl 0 rfl) ?_
          refine x_i2l hx hb dL_law_2135 rfl ?_
          refine x_lcmp hx hb dL_law_2136 ?_
          refine x_if_eq (tgt := 2142) hx hb dL_law_2137 (by decide) (fun hc => ?_) (fun hc => ?_)
          · refine x_goto (tgt := 2555) hx hb dL_law_2142 (by decide) ?_
            refine x_iinc (v := (v7 + (6 : Int32))) (lv' := [(4, .int (v7 + (6 : Int32))), (6, .int o124.1), (5, .int o123.1), (0, .ref b), (1, .ref a0), (2, .ref (ad2 0)), (3, .ref q0)]) (k := 6) hx hb dL_law_2555 hl rfl rfl (by decide) rfl (fun ls hl => ?_)
            refine x_goto (tgt := 23) hx hb dL_law_2558 (by decide) ?_
            exact ih8 (o123.2.1, o123.2.2, P3, d4, o124.2, w6, (v7 + (6 : Int32))) _ _ _ ⟨hU, hS, _, rfl, lv_sub hl [3, 4, 5, 6, 0] rfl⟩
          · refine x_iconst (v := 0) hx hb dL_law_2140 (by decide) ?_
            exact X.none
      · refine x_iconst (v := 0) hx hb dL_law_2123 (by decide) ?_
        exact X.none
    refine X.ite (fun hc => ?_) (fun hc33 => ?_)
    · refine x_tabEq (tgt := 2145) hx hb hc dL_law_40 (by decide) (by decide) rfl (by decide) ?_
      refine x_aload_n hx hb dL_law_2145 rfl (lv_at hl 1 rfl) ?_
      refine kl1_steady hst E hZ hU.1 hU.2 hS ⟨Nat.le_of_ble_eq_true rfl, Nat.le_of_ble_eq_true rfl⟩ hl.1 (Nat.le_of_ble_eq_true rfl) dL_law_2146 (fun o127 H locs hU1 hS => ?_)
      replace hU := And.intro hU1 hU.2
      refine x_aload_n hx hb dL_law_2149 rfl (lv_at hl 2 rfl) ?_
      refine kml_steady E hZ hU.1 hS ⟨Nat.le_of_ble_eq_true rfl, Nat.le_of_ble_eq_true rfl⟩ hl.1 (Nat.le_of_ble_eq_true rfl) dL_law_2150 (fun o128 H locs hU1 hS => ?_)
      replace hU := And.intro hU1 hU.2
      refine x_icmp_eq (tgt := 2555) hx hb dL_law_2153 (by decide) (fun hc => ?_) (fun hc => ?_)
      · refine x_iinc (v := (v7 + (6 : Int32))) (lv' := [(4, .int (v7 + (6 : Int32))), (0, .ref b), (1, .ref a0), (2, .ref (ad2 0)), (3, .ref q0)]) (k := 4) hx hb dL_law_2555 hl rfl rfl (by decide) rfl (fun ls hl => ?_)
        refine x_goto (tgt := 23) hx hb dL_law_2558 (by decide) ?_
        exact ih8 (o127.2, G2, P3, d4, o128.2, w6, (v7 + (6 : Int32))) _ _ _ ⟨hU, hS, _, rfl, lv_sub hl [1, 2, 3, 4, 0] rfl⟩
      · refine x_iconst (v := 0) hx hb dL_law_2156 (by decide) ?_
        exact X.none
    refine X.ite (fun hc => ?_) (fun hc34 => ?_)
    · refine x_tabEq (tgt := 2158) hx hb hc dL_law_40 (by decide) (by decide) rfl (by decide) ?_
      refine x_aload_n hx hb dL_law_2158 rfl (lv_at hl 1 rfl) ?_
      refine x_aload_n hx hb dL_law_2159 rfl (lv_at hl 0 rfl) ?_
      refine x_iload hx hb dL_law_2160 (lv_at hl 4 rfl) ?_
      refine x_iconst (v := 1) hx hb dL_law_2162 (by decide) ?_
      refine x_iadd hx hb dL_law_2163 ?_
      refine lx_sld E hX hbl hbA hS dL_law_2164 ?_
      refine x_aload_n hx hb dL_law_2165 rfl (lv_at hl 3 rfl) ?_
      refine kl0_nearest hst E hZ hU.1 hU.2 hS ⟨Nat.le_of_ble_eq_true rfl, Nat.le_of_ble_eq_true rfl⟩ hl.1 (Nat.le_of_ble_eq_true rfl) dL_law_2166 (fun o129 H locs hU1 hS => ?_)
      replace hU := And.intro hU1 hU.2
      refine x_istore (lv' := [(5, .int o129.1), (0, .ref b), (1, .ref a0), (2, .ref (ad2 0)), (3, .ref q0), (4, .int v7)]) hx hb dL_law_2169 hl (by decide) rfl (fun ls hl => ?_)
      refine x_aload_n hx hb dL_law_2171 rfl (lv_at hl 3 rfl) ?_
      refine x_aload_n hx hb dL_law_2172 rfl (lv_at hl 1 rfl) ?_
      refine x_iload hx hb dL_law_2173 (lv_at hl 5 rfl) ?_
      refine x_iconst (v := 1) hx hb dL_law_2175 (by decide) ?_
      refine x_iadd hx hb dL_law_2176 ?_
      refine lx_sld E hX hbl hbA hS dL_law_2177 ?_
      refine kml_nearest E hZ hU.1 hS ⟨Nat.le_of_ble_eq_true rfl, Nat.le_of_ble_eq_true rfl⟩ hl.1 (Nat.le_of_ble_eq_true rfl) dL_law_2178 (fun o130 H locs hU1 hS => ?_)
      replace hU := And.intro hU1 hU.2
      refine x_istore (lv' := [(6, .int o130.1), (5, .int o129.1), (0, .ref b), (1, .ref a0), (2, .ref (ad2 0)), (3, .ref q0), (4, .int v7)]) hx hb dL_law_2181 hl (by decide) rfl (fun ls hl => ?_)
      refine x_aload_n hx hb dL_law_2183 rfl (lv_at hl 4 rfl) ?_
      refine kml_thrown E hZ hU.1 hS ⟨Nat.le_of_ble_eq_true rfl, Nat.le_of_ble_eq_true rfl⟩ hl.1 (Nat.le_of_ble_eq_true rfl) dL_law_2184 (fun o131 H locs hU1 hS => ?_)
      replace hU := And.intro hU1 hU.2
      refine x_iload hx hb dL_law_2187 (lv_at hl 1 rfl) ?_
      refine x_icmp_eq (tgt := 2194) hx hb dL_law_2189 (by decide) (fun hc => ?_) (fun hc => ?_)
      · refine x_iload hx hb dL_law_2194 (lv_at hl 1 rfl) ?_
        refine x_if_ne (tgt := 2211) hx hb dL_law_2196 (by decide) (fun hc => ?_) (fun hc => ?_)
        · refine x_goto (tgt := 2555) hx hb dL_law_2211 (by decide) ?_
          refine x_iinc (v := (v7 + (6 : Int32))) (lv' := [(4, .int (v7 + (6 : Int32))), (6, .int o130.1), (5, .int o129.1), (0, .ref b), (1, .ref a0), (2, .ref (ad2 0)), (3, .ref q0)]) (k := 6) hx hb dL_law_2555 hl rfl rfl (by decide) rfl (fun ls hl => ?_)
          refine x_goto (tgt := 23) hx hb dL_law_2558 (by decide) ?_
          exact ih8 (S1, o129.2, P3, d4, o130.2, w6, (v7 + (6 : Int32))) _ _ _ ⟨hU, hS, _, rfl, lv_sub hl [3, 4, 5, 6, 0] rfl⟩
        · refine x_aload_n hx hb dL_law_2199 rfl (lv_at hl 5 rfl) ?_
          refine x_iconst (v := 0) hx hb dL_law_2200 (by decide) ?_
          refine fx_laload E hU.1.1.1.1.2.1 dL_law_2201 (fun u132 => ?_)
          refine x_iload hx hb dL_law_2202 (lv_at hl 0 rfl) ?_
          refine x_i2l hx hb dL_law_2204 rfl ?_
          refine x_lcmp hx hb dL_law_2205 ?_
          refine x_if_eq (tgt := 2211) hx hb dL_law_2206 (by decide) (fun hc => ?_) (fun hc => ?_)
          · refine x_goto (tgt := 2555) hx hb dL_law_2211 (by decide) ?_
            refine x_iinc (v := (v7 + (6 : Int32))) (lv' := [(4, .int (v7 + (6 : Int32))), (6, .int o130.1), (5, .int o129.1), (0, .ref b), (1, .ref a0), (2, .ref (ad2 0)), (3, .ref q0)]) (k := 6) hx hb dL_law_2555 hl rfl rfl (by decide) rfl (fun ls hl => ?_)
            refine x_goto (tgt := 23) hx hb dL_law_2558 (by decide) ?_
            exact ih8 (S1, o129.2, P3, d4, o130.2, w6, (v7 + (6 : Int32))) _ _ _ ⟨hU, hS, _, rfl, lv_sub hl [3, 4, 5, 6, 0] rfl⟩
          · refine x_iconst (v := 0) hx hb dL_law_2209 (by decide) ?_
            exact X.none
      · refine x_iconst (v := 0) hx hb dL_law_2192 (by decide) ?_
        exact X.none
    refine X.ite (fun hc => ?_) (fun hc35 => ?_)
    · refine x_tabEq (tgt := 2214) hx hb hc dL_law_40 (by decide) (by decide) rfl (by decide) ?_
      refine x_aload_n hx hb dL_law_2214 rfl (lv_at hl 1 rfl) ?_
      refine x_aload_n hx hb dL_law_2215 rfl (lv_at hl 0 rfl) ?_
      refine x_iload hx hb dL_law_2216 (lv_at hl 4 rfl) ?_
      refine x_iconst (v := 1) hx hb dL_law_2218 (by decide) ?_
      refine x_iadd hx hb dL_law_2219 ?_
      refine lx_sld E hX hbl hbA hS dL_law_2220 ?_
      refine x_aload_n hx hb dL_law_2221 rfl (lv_at hl 0 rfl) ?_
      refine x_iload hx hb dL_law_2222 (lv_at hl 4 rfl) ?_
      refine x_iconst (v := 2) hx hb dL_law_2224 (by decide) ?_
      refine x_iadd hx hb dL_law_2225 ?_
      refine lx_sld E hX hbl hbA hS dL_law_2226 ?_
      refine x_aload_n hx hb dL_law_2227 rfl (lv_at hl 3 rfl) ?_
      refine kl0_far hst E hZ hU.1 hU.2 hS ⟨Nat.le_of_ble_eq_true rfl, Nat.le_of_ble_eq_true rfl⟩ hl.1 (Nat.le_of_ble_eq_true rfl) dL_law_2228 (fun o133 H locs hU1 hS => ?_)
      replace hU := And.intro hU1 hU.2
      refine x_istore (lv' := [(5, .int o133.1), (0, .ref b), (1, .ref a0), (2, .ref (ad2 0)), (3, .ref q0), (4, .int v7)]) hx hb dL_law_2231 hl (by decide) rfl (fun ls hl => ?_)
      refine x_aload_n hx hb dL_law_2233 rfl (lv_at hl 3 rfl) ?_
      refine x_aload_n hx hb dL_law_2234 rfl (lv_at hl 1 rfl) ?_
      refine x_iload hx hb dL_law_2235 (lv_at hl 5 rfl) ?_
      refine x_iconst (v := 1) hx hb dL_law_2237 (by decide) ?_
      refine x_iadd hx hb dL_law_2238 ?_
      refine lx_sld E hX hbl hbA hS dL_law_2239 ?_
      refine x_aload_n hx hb dL_law_2240 rfl (lv_at hl 1 rfl) ?_
      refine x_iload hx hb dL_law_2241 (lv_at hl 5 rfl) ?_
      refine x_iconst (v := 2) hx hb dL_law_2243 (by decide) ?_
      refine x_iadd hx hb dL_law_2244 ?_
      refine lx_sld E hX hbl hbA hS dL_law_2245 ?_
      refine kml_far E hZ hU.1 hS ⟨Nat.le_of_ble_eq_true rfl, Nat.le_of_ble_eq_true rfl⟩ hl.1 (Nat.le_of_ble_eq_true rfl) dL_law_2246 (fun o134 H locs hU1 hS => ?_)
      replace hU := And.intro hU1 hU.2
      refine x_istore (lv' := [(6, .int o134.1), (5, .int o133.1), (0, .ref b), (1, .ref a0), (2, .ref (ad2 0)), (3, .ref q0), (4, .int v7)]) hx hb dL_law_2249 hl (by decide) rfl (fun ls hl => ?_)
      refine x_aload_n hx hb dL_law_2251 rfl (lv_at hl 4 rfl) ?_
      refine kml_thrown E hZ hU.1 hS ⟨Nat.le_of_ble_eq_true rfl, Nat.le_of_ble_eq_true rfl⟩ hl.1 (Nat.le_of_ble_eq_true rfl) dL_law_2252 (fun o135 H locs hU1 hS => ?_)
      replace hU := And.intro hU1 hU.2
      refine x_iload hx hb dL_law_2255 (lv_at hl 1 rfl) ?_
      refine x_icmp_eq (tgt := 2262) hx hb dL_law_2257 (by decide) (fun hc => ?_) (fun hc => ?_)
      · refine x_iload hx hb dL_law_2262 (lv_at hl 1 rfl) ?_
        refine x_if_ne (tgt := 2279) hx hb dL_law_2264 (by decide) (fun hc => ?_) (fun hc => ?_)
        · refine x_goto (tgt := 2555) hx hb dL_law_2279 (by decide) ?_
          refine x_iinc (v := (v7 + (6 : Int32))) (lv' := [(4, .int (v7 + (6 : Int32))), (6, .int o134.1), (5, .int o133.1), (0, .ref b), (1, .ref a0), (2, .ref (ad2 0)), (3, .ref q0)]) (k := 6) hx hb dL_law_2555 hl rfl rfl (by decide) rfl (fun ls hl => ?_)
          refine x_goto (tgt := 23) hx hb dL_law_2558 (by decide) ?_
          exact ih8 (S1, o133.2, P3, d4, o134.2, w6, (v7 + (6 : Int32))) _ _ _ ⟨hU, hS, _, rfl, lv_sub hl [3, 4, 5, 6, 0] rfl⟩
        · refine x_aload_n hx hb dL_law_2267 rfl (lv_at hl 5 rfl) ?_
          refine x_iconst (v := 0) hx hb dL_law_2268 (by decide) ?_
          refine fx_laload E hU.1.1.1.1.2.1 dL_law_2269 (fun u136 => ?_)
          refine x_iload hx hb dL_law_2270 (lv_at hl 0 rfl) ?_
          refine x_i2l hx hb dL_law_2272 rfl ?_
          refine x_lcmp hx hb dL_law_2273 ?_
          refine x_if_eq (tgt := 2279) hx hb dL_law_2274 (by decide) (fun hc => ?_) (fun hc => ?_)
          · refine x_goto (tgt := 2555) hx hb dL_law_2279 (by decide) ?_
            refine x_iinc (v := (v7 + (6 : Int32))) (lv' := [(4, .int (v7 + (6 : Int32))), (6, .int o134.1), (5, .int o133.1), (0, .ref b), (1, .ref a0), (2, .ref (ad2 0)), (3, .ref q0)]) (k := 6) hx hb dL_law_2555 hl rfl rfl (by decide) rfl (fun ls hl => ?_)
            refine x_goto (tgt := 23) hx hb dL_law_2558 (by decide) ?_
            exact ih8 (S1, o133.2, P3, d4, o134.2, w6, (v7 + (6 : Int32))) _ _ _ ⟨hU, hS, _, rfl, lv_sub hl [3, 4, 5, 6, 0] rfl⟩
          · refine x_iconst (v := 0) hx hb dL_law_2277 (by decide) ?_
            exact X.none
      · refine x_iconst (v := 0) hx hb dL_law_2260 (by decide) ?_
        exact X.none
    refine X.ite (fun hc => ?_) (fun hc36 => ?_)
    · refine x_tabEq (tgt := 2282) hx hb hc dL_law_40 (by decide) (by decide) rfl (by decide) ?_
      refine x_aload_n hx hb dL_law_2282 rfl (lv_at hl 1 rfl) ?_
      refine kl1_gaps hst E hZ hU.1 hU.2 hS ⟨Nat.le_of_ble_eq_true rfl, Nat.le_of_ble_eq_true rfl⟩ hl.1 (Nat.le_of_ble_eq_true rfl) dL_law_2283 (fun o137 H locs hU1 hS => ?_)
      replace hU := And.intro hU1 hU.2
      refine x_aload_n hx hb dL_law_2286 rfl (lv_at hl 2 rfl) ?_
      refine kml_gaps E hZ hU.1 hS ⟨Nat.le_of_ble_eq_true rfl, Nat.le_of_ble_eq_true rfl⟩ hl.1 (Nat.le_of_ble_eq_true rfl) dL_law_2287 (fun o138 H locs hU1 hS => ?_)
      replace hU := And.intro hU1 hU.2
      refine x_icmp_eq (tgt := 2555) hx hb dL_law_2290 (by decide) (fun hc => ?_) (fun hc => ?_)
      · refine x_iinc (v := (v7 + (6 : Int32))) (lv' := [(4, .int (v7 + (6 : Int32))), (0, .ref b), (1, .ref a0), (2, .ref (ad2 0)), (3, .ref q0)]) (k := 4) hx hb dL_law_2555 hl rfl rfl (by decide) rfl (fun ls hl => ?_)
        refine x_goto (tgt := 23) hx hb dL_law_2558 (by decide) ?_
        exact ih8 (S1, G2, P3, d4, o138.2, w6, (v7 + (6 : Int32))) _ _ _ ⟨hU, hS, _, rfl, lv_sub hl [1, 2, 3, 4, 0] rfl⟩
      · refine x_iconst (v := 0) hx hb dL_law_2293 (by decide) ?_
        exact X.none
    refine X.ite (fun hc => ?_) (fun hc37 => ?_)
    · refine x_tabEq (tgt := 2295) hx hb hc dL_law_40 (by decide) (by decide) rfl (by decide) ?_
      refine x_aload_n hx hb dL_law_2295 rfl (lv_at hl 1 rfl) ?_
      refine x_aload_n hx hb dL_law_2296 rfl (lv_at hl 0 rfl) ?_
      refine x_iload hx hb dL_law_2297 (lv_at hl 4 rfl) ?_
      refine x_iconst (v := 1) hx hb dL_law_2299 (by decide) ?_
      refine x_iadd hx hb dL_law_2300 ?_
      refine lx_sld E hX hbl hbA hS dL_law_2301 ?_
      refine x_aload_n hx hb dL_law_2302 rfl (lv_at hl 3 rfl) ?_
      refine kl0_worst hst E hZ hU.1 hU.2 hS ⟨Nat.le_of_ble_eq_true rfl, Nat.le_of_ble_eq_true rfl⟩ hl.1 (Nat.le_of_ble_eq_true rfl) dL_law_2303 (fun o139 H locs hU1 hS => ?_)
      replace hU := And.intro hU1 hU.2
      refine x_istore (lv' := [(5, .int o139.1), (0, .ref b), (1, .ref a0), (2, .ref (ad2 0)), (3, .ref q0), (4, .int v7)]) hx hb dL_law_2306 hl (by decide) rfl (fun ls hl => ?_)
      refine x_aload_n hx hb dL_law_2308 rfl (lv_at hl 3 rfl) ?_
      refine x_aload_n hx hb dL_law_2309 rfl (lv_at hl 1 rfl) ?_
      refine x_iload hx hb dL_law_2310 (lv_at hl 5 rfl) ?_
      refine x_iconst (v := 1) hx hb dL_law_2312 (by decide) ?_
      refine x_iadd hx hb dL_law_2313 ?_
      refine lx_sld E hX hbl hbA hS dL_law_2314 ?_
      refine kml_worst E hZ hU.1 hS ⟨Nat.le_of_ble_eq_true rfl, Nat.le_of_ble_eq_true rfl⟩ hl.1 (Nat.le_of_ble_eq_true rfl) dL_law_2315 (fun o140 H locs hU1 hS => ?_)
      replace hU := And.intro hU1 hU.2
      refine x_istore (lv' := [(6, .int o140.1), (5, .int o139.1), (0, .ref b), (1, .ref a0), (2, .ref (ad2 0)), (3, .ref q0), (4, .int v7)]) hx hb dL_law_2318 hl (by decide) rfl (fun ls hl => ?_)
      refine x_aload_n hx hb dL_law_2320 rfl (lv_at hl 4 rfl) ?_
      refine kml_thrown E hZ hU.1 hS ⟨Nat.le_of_ble_eq_true rfl, Nat.le_of_ble_eq_true rfl⟩ hl.1 (Nat.le_of_ble_eq_true rfl) dL_law_2321 (fun o141 H locs hU1 hS => ?_)
      replace hU := And.intro hU1 hU.2
      refine x_iload hx hb dL_law_2324 (lv_at hl 1 rfl) ?_
      refine x_icmp_eq (tgt := 2331) hx hb dL_law_2326 (by decide) (fun hc => ?_) (fun hc => ?_)
      · refine x_iload hx hb dL_law_2331 (lv_at hl 1 rfl) ?_
        refine x_if_ne (tgt := 2348) hx hb dL_law_2333 (by decide) (fun hc => ?_) (fun hc => ?_)
        · refine x_goto (tgt := 2555) hx hb dL_law_2348 (by decide) ?_
          refine x_iinc (v := (v7 + (6 : Int32))) (lv' := [(4, .int (v7 + (6 : Int32))), (6, .int o140.1), (5, .int o139.1), (0, .ref b), (1, .ref a0), (2, .ref (ad2 0)), (3, .ref q0)]) (k := 6) hx hb dL_law_2555 hl rfl rfl (by decide) rfl (fun ls hl => ?_)
          refine x_goto (tgt := 23) hx hb dL_law_2558 (by decide) ?_
          exact ih8 (o139.2.1, o139.2.2, P3, d4, o140.2, w6, (v7 + (6 : Int32))) _ _ _ ⟨hU, hS, _, rfl, lv_sub hl [3, 4, 5, 6, 0] rfl⟩
        · refine x_aload_n hx hb dL_law_2336 rfl (lv_at hl 5 rfl) ?_
          refine x_iconst (v := 0) hx hb dL_law_2337 (by decide) ?_
          refine fx_laload E hU.1.1.1.1.2.1 dL_law_2338 (fun u142 => ?_)
          refine x_iload hx hb dL_law_2339 (lv_at hl 0 rfl) ?_
          refine x_i2l hx hb dL_law_2341 rfl ?_
          refine x_lcmp hx hb dL_law_2342 ?_
          refine x_if_eq (tgt := 2348) hx hb dL_law_2343 (by decide) (fun hc => ?_) (fun hc => ?_)
          · refine x_goto (tgt := 2555) hx hb dL_law_2348 (by decide) ?_
            refine x_iinc (v := (v7 + (6 : Int32))) (lv' := [(4, .int (v7 + (6 : Int32))), (6, .int o140.1), (5, .int o139.1), (0, .ref b), (1, .ref a0), (2, .ref (ad2 0)), (3, .ref q0)]) (k := 6) hx hb dL_law_2555 hl rfl rfl (by decide) rfl (fun ls hl => ?_)
            refine x_goto (tgt := 23) hx hb dL_law_2558 (by decide) ?_
            exact ih8 (o139.2.1, o139.2.2, P3, d4, o140.2, w6, (v7 + (6 : Int32))) _ _ _ ⟨hU, hS, _, rfl, lv_sub hl [3, 4, 5, 6, 0] rfl⟩
          · refine x_iconst (v := 0) hx hb dL_law_2346 (by decide) ?_
            exact X.none
      · refine x_iconst (v := 0) hx hb dL_law_2329 (by decide) ?_
        exact X.none
    refine X.ite (fun hc => ?_) (fun hc38 => ?_)
    · refine x_tabEq (tgt := 2351) hx hb hc dL_law_40 (by decide) (by decide) rfl (by decide) ?_
      refine x_aload_n hx hb dL_law_2351 rfl (lv_at hl 1 rfl) ?_
      refine x_aload_n hx hb dL_law_2352 rfl (lv_at hl 0 rfl) ?_
      refine x_iload hx hb dL_law_2353 (lv_at hl 4 rfl) ?_
      refine x_iconst (v := 1) hx hb dL_law_2355 (by decide) ?_
      refine x_iadd hx hb dL_law_2356 ?_
      refine lx_sld E hX hbl hbA hS dL_law_2357 ?_
      refine x_aload_n hx hb dL_law_2358 rfl (lv_at hl 0 rfl) ?_
      refine x_iload hx hb dL_law_2359 (lv_at hl 4 rfl) ?_
      refine x_iconst (v := 2) hx hb dL_law_2361 (by decide) ?_
      refine x_iadd hx hb dL_law_2362 ?_
      refine lx_sld E hX hbl hbA hS dL_law_2363 ?_
      refine x_aload_n hx hb dL_law_2364 rfl (lv_at hl 3 rfl) ?_
      refine kl0_meet hst E hZ hU.1 hU.2 hS ⟨Nat.le_of_ble_eq_true rfl, Nat.le_of_ble_eq_true rfl⟩ hl.1 (Nat.le_of_ble_eq_true rfl) dL_law_2365 (fun o143 H locs hU1 hS => ?_)
      replace hU := And.intro hU1 hU.2
      refine x_istore (lv' := [(5, .int o143.1), (0, .ref b), (1, .ref a0), (2, .ref (ad2 0)), (3, .ref q0), (4, .int v7)]) hx hb dL_law_2368 hl (by decide) rfl (fun ls hl => ?_)
      refine x_aload_n hx hb dL_law_2370 rfl (lv_at hl 3 rfl) ?_
      refine x_aload_n hx hb dL_law_2371 rfl (lv_at hl 1 rfl) ?_
      refine x_iload hx hb dL_law_2372 (lv_at hl 5 rfl) ?_
      refine x_iconst (v := 1) hx hb dL_law_2374 (by decide) ?_
      refine x_iadd hx hb dL_law_2375 ?_
      refine lx_sld E hX hbl hbA hS dL_law_2376 ?_
      refine x_aload_n hx hb dL_law_2377 rfl (lv_at hl 1 rfl) ?_
      refine x_iload hx hb dL_law_2378 (lv_at hl 5 rfl) ?_
      refine x_iconst (v := 2) hx hb dL_law_2380 (by decide) ?_
      refine x_iadd hx hb dL_law_2381 ?_
      refine lx_sld E hX hbl hbA hS dL_law_2382 ?_
      refine kml_meet E hZ hU.1 hS ⟨Nat.le_of_ble_eq_true rfl, Nat.le_of_ble_eq_true rfl⟩ hl.1 (Nat.le_of_ble_eq_true rfl) dL_law_2383 (fun o144 H locs hU1 hS => ?_)
      replace hU := And.intro hU1 hU.2
      refine x_istore (lv' := [(6, .int o144.1), (5, .int o143.1), (0, .ref b), (1, .ref a0), (2, .ref (ad2 0)), (3, .ref q0), (4, .int v7)]) hx hb dL_law_2386 hl (by decide) rfl (fun ls hl => ?_)
      refine x_aload_n hx hb dL_law_2388 rfl (lv_at hl 4 rfl) ?_
      refine kml_thrown E hZ hU.1 hS ⟨Nat.le_of_ble_eq_true rfl, Nat.le_of_ble_eq_true rfl⟩ hl.1 (Nat.le_of_ble_eq_true rfl) dL_law_2389 (fun o145 H locs hU1 hS => ?_)
      replace hU := And.intro hU1 hU.2
      refine x_iload hx hb dL_law_2392 (lv_at hl 1 rfl) ?_
      refine x_icmp_eq (tgt := 2399) hx hb dL_law_2394 (by decide) (fun hc => ?_) (fun hc => ?_)
      · refine x_iload hx hb dL_law_2399 (lv_at hl 1 rfl) ?_
        refine x_if_ne (tgt := 2416) hx hb dL_law_2401 (by decide) (fun hc => ?_) (fun hc => ?_)
        · refine x_goto (tgt := 2555) hx hb dL_law_2416 (by decide) ?_
          refine x_iinc (v := (v7 + (6 : Int32))) (lv' := [(4, .int (v7 + (6 : Int32))), (6, .int o144.1), (5, .int o143.1), (0, .ref b), (1, .ref a0), (2, .ref (ad2 0)), (3, .ref q0)]) (k := 6) hx hb dL_law_2555 hl rfl rfl (by decide) rfl (fun ls hl => ?_)
          refine x_goto (tgt := 23) hx hb dL_law_2558 (by decide) ?_
          exact ih8 (o143.2.1, o143.2.2, P3, d4, o144.2, w6, (v7 + (6 : Int32))) _ _ _ ⟨hU, hS, _, rfl, lv_sub hl [3, 4, 5, 6, 0] rfl⟩
        · refine x_aload_n hx hb dL_law_2404 rfl (lv_at hl 5 rfl) ?_
          refine x_iconst (v := 0) hx hb dL_law_2405 (by decide) ?_
          refine fx_laload E hU.1.1.1.1.2.1 dL_law_2406 (fun u146 => ?_)
          refine x_iload hx hb dL_law_2407 (lv_at hl 0 rfl) ?_
          refine x_i2l hx hb dL_law_2409 rfl ?_
          refine x_lcmp hx hb dL_law_2410 ?_
          refine x_if_eq (tgt := 2416) hx hb dL_law_2411 (by decide) (fun hc => ?_) (fun hc => ?_)
          · refine x_goto (tgt := 2555) hx hb dL_law_2416 (by decide) ?_
            refine x_iinc (v := (v7 + (6 : Int32))) (lv' := [(4, .int (v7 + (6 : Int32))), (6, .int o144.1), (5, .int o143.1), (0, .ref b), (1, .ref a0), (2, .ref (ad2 0)), (3, .ref q0)]) (k := 6) hx hb dL_law_2555 hl rfl rfl (by decide) rfl (fun ls hl => ?_)
            refine x_goto (tgt := 23) hx hb dL_law_2558 (by decide) ?_
            exact ih8 (o143.2.1, o143.2.2, P3, d4, o144.2, w6, (v7 + (6 : Int32))) _ _ _ ⟨hU, hS, _, rfl, lv_sub hl [3, 4, 5, 6, 0] rfl⟩
          · refine x_iconst (v := 0) hx hb dL_law_2414 (by decide) ?_
            exact X.none
      · refine x_iconst (v := 0) hx hb dL_law_2397 (by decide) ?_
        exact X.none
    refine X.ite (fun hc => ?_) (fun hc39 => ?_)
    · refine x_tabEq (tgt := 2419) hx hb hc dL_law_40 (by decide) (by decide) rfl (by decide) ?_
      refine x_aload_n hx hb dL_law_2419 rfl (lv_at hl 1 rfl) ?_
      refine x_aload_n hx hb dL_law_2420 rfl (lv_at hl 0 rfl) ?_
      refine x_iload hx hb dL_law_2421 (lv_at hl 4 rfl) ?_
      refine x_iconst (v := 1) hx hb dL_law_2423 (by decide) ?_
      refine x_iadd hx hb dL_law_2424 ?_
      refine lx_sld E hX hbl hbA hS dL_law_2425 ?_
      refine x_aload_n hx hb dL_law_2426 rfl (lv_at hl 3 rfl) ?_
      refine kl0_bare hst E hZ hU.1 hU.2 hS ⟨Nat.le_of_ble_eq_true rfl, Nat.le_of_ble_eq_true rfl⟩ hl.1 (Nat.le_of_ble_eq_true rfl) dL_law_2427 (fun o147 H locs hU1 hS => ?_)
      replace hU := And.intro hU1 hU.2
      refine x_istore (lv' := [(5, .int o147.1), (0, .ref b), (1, .ref a0), (2, .ref (ad2 0)), (3, .ref q0), (4, .int v7)]) hx hb dL_law_2430 hl (by decide) rfl (fun ls hl => ?_)
      refine x_aload_n hx hb dL_law_2432 rfl (lv_at hl 3 rfl) ?_
      refine x_aload_n hx hb dL_law_2433 rfl (lv_at hl 1 rfl) ?_
      refine x_iload hx hb dL_law_2434 (lv_at hl 5 rfl) ?_
      refine x_iconst (v := 1) hx hb dL_law_2436 (by decide) ?_
      refine x_iadd hx hb dL_law_2437 ?_
      refine lx_sld E hX hbl hbA hS dL_law_2438 ?_
      refine kml_bare E hZ hU.1 hS ⟨Nat.le_of_ble_eq_true rfl, Nat.le_of_ble_eq_true rfl⟩ hl.1 (Nat.le_of_ble_eq_true rfl) dL_law_2439 (fun o148 H locs hU1 hS => ?_)
      replace hU := And.intro hU1 hU.2
      refine x_istore (lv' := [(6, .int o148.1), (5, .int o147.1), (0, .ref b), (1, .ref a0), (2, .ref (ad2 0)), (3, .ref q0), (4, .int v7)]) hx hb dL_law_2442 hl (by decide) rfl (fun ls hl => ?_)
      refine x_aload_n hx hb dL_law_2444 rfl (lv_at hl 4 rfl) ?_
      refine kml_thrown E hZ hU.1 hS ⟨Nat.le_of_ble_eq_true rfl, Nat.le_of_ble_eq_true rfl⟩ hl.1 (Nat.le_of_ble_eq_true rfl) dL_law_2445 (fun o149 H locs hU1 hS => ?_)
      replace hU := And.intro hU1 hU.2
      refine x_iload hx hb dL_law_2448 (lv_at hl 1 rfl) ?_
      refine x_icmp_eq (tgt := 2455) hx hb dL_law_2450 (by decide) (fun hc => ?_) (fun hc => ?_)
      · refine x_iload hx hb dL_law_2455 (lv_at hl 1 rfl) ?_
        refine x_if_ne (tgt := 2472) hx hb dL_law_2457 (by decide) (fun hc => ?_) (fun hc => ?_)
        · refine x_goto (tgt := 2555) hx hb dL_law_2472 (by decide) ?_
          refine x_iinc (v := (v7 + (6 : Int32))) (lv' := [(4, .int (v7 + (6 : Int32))), (6, .int o148.1), (5, .int o147.1), (0, .ref b), (1, .ref a0), (2, .ref (ad2 0)), (3, .ref q0)]) (k := 6) hx hb dL_law_2555 hl rfl rfl (by decide) rfl (fun ls hl => ?_)
          refine x_goto (tgt := 23) hx hb dL_law_2558 (by decide) ?_
          exact ih8 (o147.2.1, o147.2.2, P3, d4, o148.2, w6, (v7 + (6 : Int32))) _ _ _ ⟨hU, hS, _, rfl, lv_sub hl [3, 4, 5, 6, 0] rfl⟩
        · refine x_aload_n hx hb dL_law_2460 rfl (lv_at hl 5 rfl) ?_
          refine x_iconst (v := 0) hx hb dL_law_2461 (by decide) ?_
          refine fx_laload E hU.1.1.1.1.2.1 dL_law_2462 (fun u150 => ?_)
          refine x_iload hx hb dL_law_2463 (lv_at hl 0 rfl) ?_
          refine x_i2l hx hb dL_law_2465 rfl ?_
          refine x_lcmp hx hb dL_law_2466 ?_
          refine x_if_eq (tgt := 2472) hx hb dL_law_2467 (by decide) (fun hc => ?_) (fun hc => ?_)
          · refine x_goto (tgt := 2555) hx hb dL_law_2472 (by decide) ?_
            refine x_iinc (v := (v7 + (6 : Int32))) (lv' := [(4, .int (v7 + (6 : Int32))), (6, .int o148.1), (5, .int o147.1), (0, .ref b), (1, .ref a0), (2, .ref (ad2 0)), (3, .ref q0)]) (k := 6) hx hb dL_law_2555 hl rfl rfl (by decide) rfl (fun ls hl => ?_)
            refine x_goto (tgt := 23) hx hb dL_law_2558 (by decide) ?_
            exact ih8 (o147.2.1, o147.2.2, P3, d4, o148.2, w6, (v7 + (6 : Int32))) _ _ _ ⟨hU, hS, _, rfl, lv_sub hl [3, 4, 5, 6, 0] rfl⟩
          · refine x_iconst (v := 0) hx hb dL_law_2470 (by decide) ?_
            exact X.none
      · refine x_iconst (v := 0) hx hb dL_law_2453 (by decide) ?_
        exact X.none
    refine X.ite (fun hc => ?_) (fun hc40 => ?_)
    · refine x_tabEq (tgt := 2475) hx hb hc dL_law_40 (by decide) (by decide) rfl (by decide) ?_
      refine x_aload_n hx hb dL_law_2475 rfl (lv_at hl 1 rfl) ?_
      refine x_aload_n hx hb dL_law_2476 rfl (lv_at hl 0 rfl) ?_
      refine x_iload hx hb dL_law_2477 (lv_at hl 4 rfl) ?_
      refine x_iconst (v := 1) hx hb dL_law_2479 (by decide) ?_
      refine x_iadd hx hb dL_law_2480 ?_
      refine lx_sld E hX hbl hbA hS dL_law_2481 ?_
      refine x_aload_n hx hb dL_law_2482 rfl (lv_at hl 3 rfl) ?_
      refine kl0_load hst E hZ hU.1 hU.2 hS ⟨Nat.le_of_ble_eq_true rfl, Nat.le_of_ble_eq_true rfl⟩ hl.1 (Nat.le_of_ble_eq_true rfl) dL_law_2483 (fun o151 H locs hU1 hS => ?_)
      replace hU := And.intro hU1 hU.2
      refine x_istore (lv' := [(5, .int o151.1), (0, .ref b), (1, .ref a0), (2, .ref (ad2 0)), (3, .ref q0), (4, .int v7)]) hx hb dL_law_2486 hl (by decide) rfl (fun ls hl => ?_)
      refine x_aload_n hx hb dL_law_2488 rfl (lv_at hl 3 rfl) ?_
      refine x_aload_n hx hb dL_law_2489 rfl (lv_at hl 1 rfl) ?_
      refine x_iload hx hb dL_law_2490 (lv_at hl 5 rfl) ?_
      refine x_iconst (v := 1) hx hb dL_law_2492 (by decide) ?_
      refine x_iadd hx hb dL_law_2493 ?_
      refine lx_sld E hX hbl hbA hS dL_law_2494 ?_
      refine kml_load E hZ hU.1 hS ⟨Nat.le_of_ble_eq_true rfl, Nat.le_of_ble_eq_true rfl⟩ hl.1 (Nat.le_of_ble_eq_true rfl) dL_law_2495 (fun o152 H locs hU1 hS => ?_)
      replace hU := And.intro hU1 hU.2
      refine x_istore (lv' := [(6, .int o152.1), (5, .int o151.1), (0, .ref b), (1, .ref a0), (2, .ref (ad2 0)), (3, .ref q0), (4, .int v7)]) hx hb dL_law_2498 hl (by decide) rfl (fun ls hl => ?_)
      refine x_aload_n hx hb dL_law_2500 rfl (lv_at hl 4 rfl) ?_
      refine kml_thrown E hZ hU.1 hS ⟨Nat.le_of_ble_eq_true rfl, Nat.le_of_ble_eq_true rfl⟩ hl.1 (Nat.le_of_ble_eq_true rfl) dL_law_2501 (fun o153 H locs hU1 hS => ?_)
      replace hU := And.intro hU1 hU.2
      refine x_iload hx hb dL_law_2504 (lv_at hl 1 rfl) ?_
      refine x_icmp_eq (tgt := 2511) hx hb dL_law_2506 (by decide) (fun hc => ?_) (fun hc => ?_)
      · refine x_iload hx hb dL_law_2511 (lv_at hl 1 rfl) ?_
        refine x_if_ne (tgt := 2528) hx hb dL_law_2513 (by decide) (fun hc => ?_) (fun hc => ?_)
        · refine x_goto (tgt := 2555) hx hb dL_law_2528 (by decide) ?_
          refine x_iinc (v := (v7 + (6 : Int32))) (lv' := [(4, .int (v7 + (6 : Int32))), (6, .int o152.1), (5, .int o151.1), (0, .ref b), (1, .ref a0), (2, .ref (ad2 0)), (3, .ref q0)]) (k := 6) hx hb dL_law_2555 hl rfl rfl (by decide) rfl (fun ls hl => ?_)
          refine x_goto (tgt := 23) hx hb dL_law_2558 (by decide) ?_
          exact ih8 (S1, o151.2, P3, d4, o152.2, w6, (v7 + (6 : Int32))) _ _ _ ⟨hU, hS, _, rfl, lv_sub hl [3, 4, 5, 6, 0] rfl⟩
        · refine x_aload_n hx hb dL_law_2516 rfl (lv_at hl 5 rfl) ?_
          refine x_iconst (v := 0) hx hb dL_law_2517 (by decide) ?_
          refine fx_laload E hU.1.1.1.1.2.1 dL_law_2518 (fun u154 => ?_)
          refine x_iload hx hb dL_law_2519 (lv_at hl 0 rfl) ?_
          refine x_i2l hx hb dL_law_2521 rfl ?_
          refine x_lcmp hx hb dL_law_2522 ?_
          refine x_if_eq (tgt := 2528) hx hb dL_law_2523 (by decide) (fun hc => ?_) (fun hc => ?_)
          · refine x_goto (tgt := 2555) hx hb dL_law_2528 (by decide) ?_
            refine x_iinc (v := (v7 + (6 : Int32))) (lv' := [(4, .int (v7 + (6 : Int32))), (6, .int o152.1), (5, .int o151.1), (0, .ref b), (1, .ref a0), (2, .ref (ad2 0)), (3, .ref q0)]) (k := 6) hx hb dL_law_2555 hl rfl rfl (by decide) rfl (fun ls hl => ?_)
            refine x_goto (tgt := 23) hx hb dL_law_2558 (by decide) ?_
            exact ih8 (S1, o151.2, P3, d4, o152.2, w6, (v7 + (6 : Int32))) _ _ _ ⟨hU, hS, _, rfl, lv_sub hl [3, 4, 5, 6, 0] rfl⟩
          · refine x_iconst (v := 0) hx hb dL_law_2526 (by decide) ?_
            exact X.none
      · refine x_iconst (v := 0) hx hb dL_law_2509 (by decide) ?_
        exact X.none
    refine X.ite (fun hc => ?_) (fun hc41 => ?_)
    · refine x_tabEq (tgt := 2531) hx hb hc dL_law_40 (by decide) (by decide) rfl (by decide) ?_
      refine x_aload_n hx hb dL_law_2531 rfl (lv_at hl 1 rfl) ?_
      refine kl1_image hst E hZ hU.1 hU.2 hS ⟨Nat.le_of_ble_eq_true rfl, Nat.le_of_ble_eq_true rfl⟩ hl.1 (Nat.le_of_ble_eq_true rfl) dL_law_2532 (fun o155 H locs hU1 hS => ?_)
      replace hU := And.intro hU1 hU.2
      refine x_aload_n hx hb dL_law_2535 rfl (lv_at hl 2 rfl) ?_
      refine kml_image E hZ hU.1 hS ⟨Nat.le_of_ble_eq_true rfl, Nat.le_of_ble_eq_true rfl⟩ hl.1 (Nat.le_of_ble_eq_true rfl) dL_law_2536 (fun o156 H locs hU1 hS => ?_)
      replace hU := And.intro hU1 hU.2
      refine x_goto (tgt := 2555) hx hb dL_law_2539 (by decide) ?_
      refine x_iinc (v := (v7 + (6 : Int32))) (lv' := [(4, .int (v7 + (6 : Int32))), (0, .ref b), (1, .ref a0), (2, .ref (ad2 0)), (3, .ref q0)]) (k := 4) hx hb dL_law_2555 hl rfl rfl (by decide) rfl (fun ls hl => ?_)
      refine x_goto (tgt := 23) hx hb dL_law_2558 (by decide) ?_
      exact ih8 (S1, o155.1, o155.2, d4, o156, w6, (v7 + (6 : Int32))) _ _ _ ⟨hU, hS, _, rfl, lv_sub hl [1, 2, 3, 4, 0] rfl⟩
    refine X.ite (fun hc => ?_) (fun hc42 => ?_)
    · refine x_tabEq (tgt := 2542) hx hb hc dL_law_40 (by decide) (by decide) rfl (by decide) ?_
      refine x_aload_n hx hb dL_law_2542 rfl (lv_at hl 1 rfl) ?_
      refine kl1_restore hst E hZ hU.1 hU.2 hS ⟨Nat.le_of_ble_eq_true rfl, Nat.le_of_ble_eq_true rfl⟩ hl.1 (Nat.le_of_ble_eq_true rfl) dL_law_2543 (fun o157 H locs hU1 hS => ?_)
      refine X.ite (fun hD_ => ?_) (fun _ => X.none)
      replace hU := And.intro hU1 hD_
      refine x_aload_n hx hb dL_law_2546 rfl (lv_at hl 2 rfl) ?_
      refine kml_restore E hZ hU.1 hS ⟨Nat.le_of_ble_eq_true rfl, Nat.le_of_ble_eq_true rfl⟩ hl.1 (Nat.le_of_ble_eq_true rfl) dL_law_2547 (fun o158 H locs hU1 hS => ?_)
      replace hU := And.intro hU1 hU.2
      refine x_icmp_eq (tgt := 2555) hx hb dL_law_2550 (by decide) (fun hc => ?_) (fun hc => ?_)
      · refine x_iinc (v := (v7 + (6 : Int32))) (lv' := [(4, .int (v7 + (6 : Int32))), (0, .ref b), (1, .ref a0), (2, .ref (ad2 0)), (3, .ref q0)]) (k := 4) hx hb dL_law_2555 hl rfl rfl (by decide) rfl (fun ls hl => ?_)
        refine x_goto (tgt := 23) hx hb dL_law_2558 (by decide) ?_
        exact ih8 (o157.2.1, o157.2.2.1, o157.2.2.2.1, o157.2.2.2.2, o158.2, w6, (v7 + (6 : Int32))) _ _ _ ⟨hU, hS, _, rfl, lv_sub hl [1, 2, 3, 4, 0] rfl⟩
      · refine x_iconst (v := 0) hx hb dL_law_2553 (by decide) ?_
        exact X.none
    refine x_tabElse2 (n := 43) (tgt := 2555) hx hb dL_law_40 [0, 1, 2, 3, 4, 5, 6, 7, 8, 9, 10, 11, 12, 13, 14, 15, 16, 17, 18, 19, 20, 21, 22, 23, 24, 25, 26, 27, 28, 29, 30, 31, 32, 33, 34, 35, 36, 37, 38, 39, 40, 41, 42] (by decide) (by decide) (List.forall_mem_cons.mpr ⟨fun he => absurd (x_i32 he (0 : Int32) (by decide)) hc0, (List.forall_mem_cons.mpr ⟨fun he => absurd (x_i32 he (1 : Int32) (by decide)) hc1, (List.forall_mem_cons.mpr ⟨fun he => absurd (x_i32 he (2 : Int32) (by decide)) hc2, (List.forall_mem_cons.mpr ⟨fun he => absurd (x_i32 he (3 : Int32) (by decide)) hc3, (List.forall_mem_cons.mpr ⟨fun he => absurd (x_i32 he (4 : Int32) (by decide)) hc4, (List.forall_mem_cons.mpr ⟨fun he => absurd (x_i32 he (5 : Int32) (by decide)) hc5, (List.forall_mem_cons.mpr ⟨fun he => absurd (x_i32 he (6 : Int32) (by decide)) hc6, (List.forall_mem_cons.mpr ⟨fun he => absurd (x_i32 he (7 : Int32) (by decide)) hc7, (List.forall_mem_cons.mpr ⟨fun he => absurd (x_i32 he (8 : Int32) (by decide)) hc8, (List.forall_mem_cons.mpr ⟨fun he => absurd (x_i32 he (9 : Int32) (by decide)) hc9, (List.forall_mem_cons.mpr ⟨fun he => absurd (x_i32 he (10 : Int32) (by decide)) hc10, (List.forall_mem_cons.mpr ⟨fun he => absurd (x_i32 he (11 : Int32) (by decide)) hc11, (List.forall_mem_cons.mpr ⟨fun he => absurd (x_i32 he (12 : Int32) (by decide)) hc12, (List.forall_mem_cons.mpr ⟨fun he => absurd (x_i32 he (13 : Int32) (by decide)) hc13, (List.forall_mem_cons.mpr ⟨fun he => absurd (x_i32 he (14 : Int32) (by decide)) hc14, (List.forall_mem_cons.mpr ⟨fun he => absurd (x_i32 he (15 : Int32) (by decide)) hc15, (List.forall_mem_cons.mpr ⟨fun he => absurd (x_i32 he (16 : Int32) (by decide)) hc16, (List.forall_mem_cons.mpr ⟨fun he => absurd (x_i32 he (17 : Int32) (by decide)) hc17, (List.forall_mem_cons.mpr ⟨fun he => absurd (x_i32 he (18 : Int32) (by decide)) hc18, (List.forall_mem_cons.mpr ⟨fun he => absurd (x_i32 he (19 : Int32) (by decide)) hc19, (List.forall_mem_cons.mpr ⟨fun he => absurd (x_i32 he (20 : Int32) (by decide)) hc20, (List.forall_mem_cons.mpr ⟨fun he => absurd (x_i32 he (21 : Int32) (by decide)) hc21, (List.forall_mem_cons.mpr ⟨fun he => absurd (x_i32 he (22 : Int32) (by decide)) hc22, (List.forall_mem_cons.mpr ⟨fun he => absurd (x_i32 he (23 : Int32) (by decide)) hc23, (List.forall_mem_cons.mpr ⟨fun he => absurd (x_i32 he (24 : Int32) (by decide)) hc24, (List.forall_mem_cons.mpr ⟨fun he => absurd (x_i32 he (25 : Int32) (by decide)) hc25, (List.forall_mem_cons.mpr ⟨fun he => absurd (x_i32 he (26 : Int32) (by decide)) hc26, (List.forall_mem_cons.mpr ⟨fun he => absurd (x_i32 he (27 : Int32) (by decide)) hc27, (List.forall_mem_cons.mpr ⟨fun he => absurd (x_i32 he (28 : Int32) (by decide)) hc28, (List.forall_mem_cons.mpr ⟨fun he => absurd (x_i32 he (29 : Int32) (by decide)) hc29, (List.forall_mem_cons.mpr ⟨fun he => absurd (x_i32 he (30 : Int32) (by decide)) hc30, (List.forall_mem_cons.mpr ⟨fun he => absurd (x_i32 he (31 : Int32) (by decide)) hc31, (List.forall_mem_cons.mpr ⟨fun he => absurd (x_i32 he (32 : Int32) (by decide)) hc32, (List.forall_mem_cons.mpr ⟨fun he => absurd (x_i32 he (33 : Int32) (by decide)) hc33, (List.forall_mem_cons.mpr ⟨fun he => absurd (x_i32 he (34 : Int32) (by decide)) hc34, (List.forall_mem_cons.mpr ⟨fun he => absurd (x_i32 he (35 : Int32) (by decide)) hc35, (List.forall_mem_cons.mpr ⟨fun he => absurd (x_i32 he (36 : Int32) (by decide)) hc36, (List.forall_mem_cons.mpr ⟨fun he => absurd (x_i32 he (37 : Int32) (by decide)) hc37, (List.forall_mem_cons.mpr ⟨fun he => absurd (x_i32 he (38 : Int32) (by decide)) hc38, (List.forall_mem_cons.mpr ⟨fun he => absurd (x_i32 he (39 : Int32) (by decide)) hc39, (List.forall_mem_cons.mpr ⟨fun he => absurd (x_i32 he (40 : Int32) (by decide)) hc40, (List.forall_mem_cons.mpr ⟨fun he => absurd (x_i32 he (41 : Int32) (by decide)) hc41, (List.forall_mem_cons.mpr ⟨fun he => absurd (x_i32 he (42 : Int32) (by decide)) hc42, (fun _ h => absurd h List.not_mem_nil)⟩)⟩)⟩)⟩)⟩)⟩)⟩)⟩)⟩)⟩)⟩)⟩)⟩)⟩)⟩)⟩)⟩)⟩)⟩)⟩)⟩)⟩)⟩)⟩)⟩)⟩)⟩)⟩)⟩)⟩)⟩)⟩)⟩)⟩)⟩)⟩)⟩)⟩)⟩)⟩)⟩)⟩)⟩) (by decide) ?_
    refine x_iinc (v := (v7 + (6 : Int32))) (lv' := [(4, .int (v7 + (6 : Int32))), (0, .ref b), (1, .ref a0), (2, .ref (ad2 0)), (3, .ref q0)]) (k := 4) hx hb dL_law_2555 hl rfl rfl (by decide) rfl (fun ls hl => ?_)
    refine x_goto (tgt := 23) hx hb dL_law_2558 (by decide) ?_
    exact ih8 (S1, G2, P3, d4, M5, w6, (v7 + (6 : Int32))) _ _ _ ⟨hU, hS, _, rfl, lv_sub hl [1, 2, 3, 4, 0] rfl⟩
