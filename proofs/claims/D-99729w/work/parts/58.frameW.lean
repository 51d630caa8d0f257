set_option maxRecDepth 100000
/-! THE FRAME, eighth part: methods with handlers -/
section YHW
variable {ρ : Type} {p : Program} {l : Launch} {e : Env} {R : Room} {s : State} {m : MethodId} {args : Array Value} {below : List Frame} {meth : Method} {c : Code} {H : Heap} {locs : List Loc} {Qf : ρ → State → Prop} {sp : Option ρ}
variable {cc : ByteArray} {pc nL : Nat} {ls : Array Slot} {rest st0 : List Value} {own : String} {hh : List (Nat × Nat × Nat × Nat)}
variable {D : va_G} {ck : Nat → UC} {ct : CT} {N : Nat} {ad : Nat → Nat} {P : Nat → Nat → Option Nat} {A : Nat → Prop} {S : US} {w : Int64} {G0 G : GS} {val : ρ → Option Value} {Go : ρ → GS} {Bt : ρ → Heap → Prop} {XC : String → Addr → State → State → Prop}
theorem YH.start {y : MethodName} {maxL fr lo : Nat} {ret : Option FieldType} {As : List Value} {lv : List (Nat × Value)} {o : ρ} (ho : sp = some o) (hy : plainName y.cls = true) (hlen : (lg_sl As).length ≤ maxL) (hlv : lv_args 0 As = lv)
    (body : ∀ (p : Program) (e : Env) (s : State) (m : MethodId) (args : Array Value) (below : List Frame) (meth : Method) (c : Code), ME p m c cc maxL s args y.cls D clW ct → meth.sig.returnType = ret → meth.locks = false → meth.name = y.name → c.exceptionTable.toList = tableOf hh → YC ct { frames := fr, cells := nmax ct - G0.2.1, slots := zmax ct - G0.2.2, locals := lo } s (mA N ad G0) G0 → YW D clW ck ct N ad P (mA N ad G0) S w G0 G0 s.heap → va_S (mA N ad G0) s.heap s.heap [] → ∀ ls : Array Slot, lv_has ls maxL lv → X p l e { frames := fr, cells := nmax ct - G0.2.1, slots := zmax ct - G0.2.2, locals := lo } s m args below meth c s.heap [] (G0.2.1 - G0.2.1) (G0.2.2 - G0.2.2) (yQ below args s (nmax ct - G0.2.1) (zmax ct - G0.2.2) G0 (mA N ad G0) val Bt Go) sp (F0 m 0 ls [])) :
    vx_Met l y (wsW_ y cc maxL ret hh) { frames := fr, cells := nmax ct - G0.2.1, slots := zmax ct - G0.2.2, locals := lo } (mP D clW ct As G0.2.1 (MW D clW ck ct N ad P (fun _ => True) S w G0)) (yC (val o) (Bt o) G0 (Go o) (mA N ad G0)) XC (nmax ct - G0.2.1) (zmax ct - G0.2.2) (mA N ad G0) := by
  refine vx_ofWH (cc := cc) (maxL := maxL) (ret := ret) (hh := hh) hy rfl ?_
  intro p e s m args below meth c s₁ BB hml hv
  obtain ⟨rfl, hsz, hBh, hK, hJ⟩ := hv
  have hts0 := atoms_spec (ws := wsW_ y cc maxL ret hh) BB.pre
  have htab := vx_table (x := y) BB (hts0 _ List.mem_cons_self)
  have hts : ∀ w ∈ lw_all, w.before _ s = true := fun w h => hts0 w (List.mem_cons_of_mem _ h)
  have hown : s.vm.findClass y.cls = some m.cls := findClass_of_methodNamed BB.named
  have hl := lv_entry As (n := maxL) hlen
  rw [lg_entry_eq]
  rw [hlv] at hl
  have hb := body p e s m _ below meth c ⟨⟨BB.exec, BB.bytes, hml, hown, hts⟩, hK, hJ⟩ BB.returns BB.notSynchronized (name_of_methodNamed BB.named BB.method).1 htab ⟨hsz, rfl, rfl, fun q hq => Or.inr (Or.inr hq)⟩ ⟨hBh.start, Nat.le_refl _, Nat.le_refl _⟩ va_S.rf _ hl o ho
  rw [Nat.sub_self, Nat.sub_self] at hb
  exact vx_ret hb
/-- .. of a method with handlers that throws before it changes anything -/
theorem TH.start {y : MethodName} {maxL sz : Nat} {ret : Option FieldType} {rm : Room} {As : List Value} {lv : List (Nat × Value)} {B : Heap → Prop} {spt : Option Int32} {k : Int32} (ho : spt = some k) (hy : plainName y.cls = true) (hlen : (lg_sl As).length ≤ maxL) (hlv : lv_args 0 As = lv)
    (body : ∀ (p : Program) (e : Env) (s : State) (m : MethodId) (args : Array Value) (below : List Frame) (meth : Method) (c : Code), ME p m c cc maxL s args y.cls D clW ct → meth.locks = false → c.exceptionTable.toList = tableOf hh → s.heap.size = sz → B s.heap → ∀ ls : Array Slot, lv_has ls maxL lv → X p l e rm s m args below meth c s.heap [] 0 0 (tQ below args s A) spt (F0 m 0 ls [])) :
    vx_Met l y (wsW_ y cc maxL ret hh) rm (mP D clW ct As sz B) nQ (tX k A) 1 6 A := by
  refine vx_ofWH (cc := cc) (maxL := maxL) (ret := ret) (hh := hh) hy rfl ?_
  intro p e s m args below meth c s₁ BB hml hv
  obtain ⟨rfl, hsz, hBh, hK, hJ⟩ := hv
  have hts0 := atoms_spec (ws := wsW_ y cc maxL ret hh) BB.pre
  have htab := vx_table (x := y) BB (hts0 _ List.mem_cons_self)
  have hts : ∀ w ∈ lw_all, w.before _ s = true := fun w h => hts0 w (List.mem_cons_of_mem _ h)
  have hown : s.vm.findClass y.cls = some m.cls := findClass_of_methodNamed BB.named
  have hl := lv_entry As (n := maxL) hlen
  rw [lg_entry_eq]
  rw [hlv] at hl
  exact body p e s m _ below meth c ⟨⟨BB.exec, BB.bytes, hml, hown, hts⟩, hK, hJ⟩ BB.notSynchronized htab hsz hBh _ hl k ho
/-- a call that throws, at a place that no handler covers -/
theorem tx_endW {spt : Option Int32} {A1 : Nat → Prop} (hS : va_S A s.heap H locs) (hA : ∀ q, A1 q → A q) (hxt : ∀ x ∈ c.exceptionTable.toList, covers x pc = false) (hlk : meth.locks = false)
    (hr : ∀ k, spt = some k → ∃ arr, vx_Run p l e R s m args below meth c H locs 0 0 1 6 (F0 m pc ls st0) rest (nQ arr) (tX k A1) A1) : X p l e R s m args below meth c H locs 0 0 (tQ below args s A) spt (F0 m pc ls st0) := fun k hk T hT XX => by
  obtain ⟨arr, hr⟩ := hr k hk
  rcases hr T hT XX with ⟨v, st₀, t, T', L, h0, X', hL, e1, e2, hf, st⟩ | ⟨q, st₀, t, T', L, E, ce, h0, X', hL, e1, e2, ⟨hE, hq, hF⟩, hce, hcv, hcl, st⟩
  · exact hf.elim
  · have hts := same_tSl XX
    obtain ⟨k1, k2, k3⟩ := vx_keep (A0 := A) (A1 := A1) (free := A1) h0 e1 hS (fun q _ h => hA q h) hA hL hF
    obtain ⟨t2, a1, b1⟩ := vx_out (p := p) (l := l) (e := e) (R := R) (args := args) (below := below) (m := m) (Qc := nQ) (XC := tX k A) (free := A) (mc := 1) (ms := 6) (cells := 0 + 1) (slots := 0 + 6) (ls := ls) (rest := rest) (pc := pc) hxt hlk (H := T'.heap) (by rw [e1]; exact hce) hcv hcl (fun t2 h2 _ => ⟨hE, by
      have h1 := hts.1
      have h2 := hts.2.1
      rw [hT] at h1 h2
      exact (hq.trans (congrArg Array.size h0)).trans (Nat.le_antisymm h2 h1), k3.F h2⟩) k3.2.2 (by decide) (by decide) T' rfl X'
    exact ⟨t2, st.trans a1, b1⟩
/-- Wrong is caught -/
theorem uy_catch {spu : Option (Nat × GS)} {f : (Nat × GS) → Option ρ} {x : ExceptionTableEntry} (E : ME p m c cc nL s args own D clW ct) (hC : YC ct R s A G0) (hY : YW D clW ckH ct 26 ad P A S 0 G0 G H) (hS : va_S A s.heap H locs)
    (hr : ∀ o, spu = some o → ∃ arr, vx_Run p l e R s m args below meth c H locs (G.2.1 - G0.2.1) (G.2.2 - G0.2.2) (nmax ct - G.2.1) (zmax ct - G.2.2) (F0 m pc ls st0) rest (nQ arr) (uX D ct ad P S G o) (mA 26 ad G))
    (htab : c.exceptionTable.toList = [x]) (hx : covers x pc = true) (h0 : x.catchType ≠ 0) (hlink : (Cond.classLink own x.catchType "HorizonSeam$Wrong").before args s = true) (hcast : (Cond.castable "HorizonSeam$Wrong" "HorizonSeam$Wrong").before args s = true)
    (kk : ∀ (o : Nat × GS) (H1 : Heap) (locs1 : List Loc), YW D clW ckH ct 26 ad P A S 0 G0 o.2 H1 → va_S A s.heap H1 locs1 → X p l e R s m args below meth c H1 locs1 (o.2.2.1 - G0.2.1) (o.2.2.2 - G0.2.2) Qf (f o) (F0 m x.handlerPc ls [.ref o.1])) :
    X p l e R s m args below meth c H locs (G.2.1 - G0.2.1) (G.2.2 - G0.2.2) Qf (callK spu f) (F0 m pc ls st0) := fun oo hoo T hT XX => by
  obtain ⟨o, h1, h2⟩ := callK_some hoo
  obtain ⟨arr, hr⟩ := hr o h1
  have hts := same_tSl XX
  have hA : ∀ q, mA 26 ad G q → A q := fun q hq => by
    rcases hq with ⟨j, hj, rfl⟩ | ⟨x, hx⟩ | hq
    · exact hY.1.1.1.inA hj
    · exact hY.1.2.2.1 q x hx
    · exact hC.2.2.2 q (Nat.le_trans hY.2.1 hq)
  rcases hr T hT XX with ⟨v, st₀, t, T', L, h0', X', hL, e1, e2, hf, st⟩ | ⟨q, st₀, t, T', L, E9, ce, h0', X', hL, e1, e2, ⟨hE, hq, ⟨hM, g1, g2, g3, g4⟩, hF⟩, hce, hcv, hcl, st⟩
  · exact hf.elim
  · subst hE; subst hq
    obtain ⟨k1, k2, k3⟩ := vx_keep (A0 := A) (A1 := mA 26 ad G) (free := mA 26 ad G) h0' e1 hS (fun q _ h => hA q h) hA hL hF
    have hsz := hC.1
    have hg1 := hY.2.1
    have hg2 := hY.2.2
    rw [h0'] at g4
    rw [hT] at hts
    obtain ⟨t2, a1, b1⟩ := vx_catch (H := T'.heap) (locs := locs ++ L) (Q := Qf oo) (rest := rest) (ls := ls) (pc := pc) E.1.2.2.2.1 [] x [] htab (fun z hz => nomatch hz) hx h0 hlink hcast (by rw [e1]; exact hce) hcv hcl (W.tight (k := o.2.2.1 - G0.2.1) (n := o.2.2.2 - G0.2.2) (by rw [e1, g3, hsz]; omega) (by rw [e1]; omega) (kk o T'.heap (locs ++ L) ⟨by rw [e1]; exact hM.to fun q hq _ => hA q hq, Nat.le_trans hg1 g1, Nat.le_trans hg2 g2⟩ k3 oo h2)) T' rfl X'
    exact ⟨t2, st.trans a1, b1⟩
/-- what is thrown is caught; it was thrown before anything had changed -/
def bindT {ρ : Type} (ct : CT) (G : GS) (sp : Option Int32) (f : Int32 → GS → Option ρ) : Option ρ := match sp with
  | none => none
  | some k => if nmax ct < G.2.1 + 1 ∨ zmax ct < G.2.2 + 6 then none else f k (G.1, G.2.1 + 1, G.2.2 + 6)
theorem bindT_some {ρ : Type} {ct : CT} {G : GS} {sp : Option Int32} {f : Int32 → GS → Option ρ} {o : ρ} (h : bindT ct G sp f = some o) : ∃ k, sp = some k ∧ G.2.1 + 1 ≤ nmax ct ∧ G.2.2 + 6 ≤ zmax ct ∧ f k (G.1, G.2.1 + 1, G.2.2 + 6) = some o := by
  unfold bindT at h
  split at h
  · cases h
  · rename_i k
    split at h
    · cases h
    · rename_i hb
      exact ⟨k, rfl, by omega, by omega, h⟩
theorem tw_catch {spt : Option Int32} {f : Int32 → GS → Option ρ} (E : ME p m c cc nL s args own D clW ct) (hC : YC ct R s A G0) (hY : YW D clW ck ct N ad P A S w G0 G H) (hS : va_S A s.heap H locs)
    (hr : ∀ k, spt = some k → G.2.1 - G0.2.1 + 1 ≤ R.cells ∧ G.2.2 - G0.2.2 + 6 ≤ R.slots → ∃ arr, vx_Run p l e R s m args below meth c H locs (G.2.1 - G0.2.1) (G.2.2 - G0.2.2) 1 6 (F0 m pc ls st0) rest (nQ arr) (tX k (nA H.size)) (nA H.size))
    (hct : ∀ k o, f k (G.1, G.2.1 + 1, G.2.2 + 6) = some o → ∃ (pre suf : List ExceptionTableEntry) (x : ExceptionTableEntry) (name : String), c.exceptionTable.toList = pre ++ x :: suf ∧ (∀ z ∈ pre, covers z pc = false ∨ (z.catchType ≠ 0 ∧ ∃ nm : String, (Cond.classLink own z.catchType nm).before args s = true ∧ va_Nc (exN k) nm s)) ∧ covers x pc = true ∧ x.catchType ≠ 0 ∧ (Cond.classLink own x.catchType name).before args s = true ∧ (Cond.castable (exN k) name).before args s = true ∧
      ∀ (q : Nat) (H1 : Heap) (locs1 : List Loc), YW D clW ck ct N ad P A S w G0 (G.1, G.2.1 + 1, G.2.2 + 6) H1 → va_S A s.heap H1 locs1 → X p l e R s m args below meth c H1 locs1 (G.2.1 + 1 - G0.2.1) (G.2.2 + 6 - G0.2.2) Qf (f k (G.1, G.2.1 + 1, G.2.2 + 6)) (F0 m x.handlerPc ls [.ref q])) :
    X p l e R s m args below meth c H locs (G.2.1 - G0.2.1) (G.2.2 - G0.2.2) Qf (bindT ct G spt f) (F0 m pc ls st0) := fun oo hoo T hT XX => by
  obtain ⟨k, h1, hb1, hb2, h2⟩ := bindT_some hoo
  have hsz := hC.1
  have hg1 := hY.2.1
  have hg2 := hY.2.2
  have hH := hY.1.2.1
  obtain ⟨arr, hr⟩ := hr k h1 ⟨by rw [hC.2.1]; omega, by rw [hC.2.2.1]; omega⟩
  obtain ⟨pre, suf, x, name, htab, hpass, hx, h0, hlink, hcast, kk⟩ := hct k oo h2
  rcases hr T hT XX with ⟨v, st₀, t, T', L, h0', X', hL, e1, e2, hf, st⟩ | ⟨q, st₀, t, T', L, E9, ce, h0', X', hL, e1, e2, ⟨hE, hq, hF⟩, hce, hcv, hcl, st⟩
  · exact hf.elim
  · subst hE
    have hA : ∀ q, nA H.size q → A q := fun q hq => hC.2.2.2 q (by have : H.size ≤ q := hq; omega)
    obtain ⟨k1, k2, k3⟩ := vx_keep (A0 := A) (A1 := nA H.size) (free := nA H.size) h0' e1 hS (fun q _ h => hA q h) hA hL hF
    have hts := same_tSl X'
    have hsz1 : T'.heap.size = H.size + 1 := by
      have h9 := (Array.getElem?_eq_some_iff.mp hce).1
      rw [hq, h0', ← e1] at h9
      omega
    have hko : ∀ q : Nat, q < H.size → T'.heap[q]? = H[q]? := fun q hlt => k2 q hlt (fun z => Nat.not_le.mpr hlt z)
    have hW : YW D clW ck ct N ad P A S w G0 (G.1, G.2.1 + 1, G.2.2 + 6) T'.heap := ⟨hY.1.grown (j := 1) (k := 6) (h1 := G.1) (fun q hq => hC.2.2.2 q (Nat.le_trans hg1 hq)) hsz1 hko (fun q e he => Or.inl ⟨by have := hY.1.1.2.1.lt he; omega, he⟩) hb1 hb2, by show G0.2.1 ≤ G.2.1 + 1; omega, by show G0.2.2 ≤ G.2.2 + 6; omega⟩
    obtain ⟨t2, a1, b1⟩ := vx_catch (H := T'.heap) (locs := locs ++ L) (Q := Qf oo) (rest := rest) (ls := ls) (pc := pc) E.1.2.2.2.1 pre x suf htab hpass hx h0 hlink hcast (by rw [e1]; exact hce) hcv hcl (W.tight (k := G.2.1 + 1 - G0.2.1) (n := G.2.2 + 6 - G0.2.2) (by rw [hsz1, hsz]; omega) (by omega) (kk q T'.heap (locs ++ L) hW k3 oo h2)) T' rfl X'
    exact ⟨t2, st.trans a1, b1⟩
variable {ρ' : Type} {sp' : Option ρ'} {kp : ρ' → Option ρ} {val' : ρ' → Option Value} {len : Nat}
/-- a call behind which numbered cells lie elsewhere -/
theorem gy_mxD {So : ρ' → US} {Po : ρ' → Nat → Nat → Option Nat} {Do : ρ' → Nat → Nat} {Gn : ρ' → GS} (hC : YC ct R s A G0) (hY : YW D clW ck ct N ad P A S w G0 G H) (hS : va_S A s.heap H locs) (hr : ∀ o, sp' = some o → ∃ arr, RunL len p l e R s m args below meth c H locs (G.2.1 - G0.2.1) (G.2.2 - G0.2.2) (nmax ct - G.2.1) (zmax ct - G.2.2) (F0 m pc ls st0) rest (yC (val' o) (MW D clW ck ct N (Do o) (Po o) (mA N ad G) (So o) w (Gn o)) G (Gn o) (mA N ad G) arr) (mA N ad G))
    (kk : ∀ (o : ρ') (H1 : Heap) (locs1 : List Loc), YW D clW ck ct N (Do o) (Po o) A (So o) w G0 (Gn o) H1 → va_S A s.heap H1 locs1 → X p l e R s m args below meth c H1 locs1 ((Gn o).2.1 - G0.2.1) ((Gn o).2.2 - G0.2.2) Qf (kp o) (F0 m (pc + len) ls ((val' o).toList ++ rest))) : X p l e R s m args below meth c H locs (G.2.1 - G0.2.1) (G.2.2 - G0.2.2) Qf (callK sp' kp) (F0 m pc ls st0) := fun oo hoo => W.know fun b1 b2 b3 b4 => by
  obtain ⟨o, h1, h2⟩ := callK_some hoo
  obtain ⟨arr, hr⟩ := hr o h1
  have hA : ∀ q, mA N ad G q → A q := fun q hq => by
    rcases hq with ⟨j, hj, rfl⟩ | ⟨x, hx⟩ | hq
    · exact hY.1.1.1.inA hj
    · exact hY.1.2.2.1 q x hx
    · exact hC.2.2.2 q (Nat.le_trans hY.2.1 hq)
  intro T hT X
  obtain ⟨v, st₀, t, T', L, h0, X', hL, e1, e2, ⟨hv, ⟨hb, hn1, hn2, hn3, hn4⟩, hz, hk⟩, st⟩ := hr T hT X
  cases hv
  rw [h0] at hz hk hn4
  have hsz := hC.1
  have hsz2 := hY.1.2.1
  obtain ⟨t2, a1, b1⟩ := W.tight (k := (Gn o).2.1 - G0.2.1) (n := (Gn o).2.2 - G0.2.2) (by rw [e1, hn3, hsz]; have := hY.2.1; omega) (by rw [e1]; have := hY.2.2; omega) (kk o T'.heap (locs ++ L) ⟨by rw [e1]; exact hb.to fun q hq _ => hA q hq, Nat.le_trans hY.2.1 hn1, Nat.le_trans hY.2.2 hn2⟩
    ⟨Nat.le_trans hS.1 (by rw [e1]; exact hz), fun q h1 h2 => by rw [e1, hk q (Nat.lt_of_lt_of_le h1 hS.1) (fun z => h2 (hA q z))]; exact hS.2.1 q h1 h2, fun q hq => by
      rcases List.mem_append.mp hq with h | h
      · exact hS.2.2 q h
      · exact hA _ (hL q h)⟩ oo h2) T' rfl X'
  exact ⟨t2, st t2 a1, b1⟩
end YHW
section YHR
variable {p : Program} {l : Launch} {e : Env} {R : Room} {s : State} {m : MethodId} {args : Array Value} {below : List Frame} {meth : Method} {c : Code} {H : Heap} {locs : List Loc} {cells slots mc ms n index maxL b0 : Nat}
variable {cc : ByteArray} {pc nL : Nat} {ls : Array Slot} {st0 As rest : List Value} {own C : String} {y : MethodName} {bytes : ByteArray} {ret : Option FieldType} {hh : List (Nat × Nat × Nat × Nat)} {ws : List Cond} {rm : Room} {B : Heap → Prop} {Qc : Array Value → State → Outcome → State → Prop} {XC : String → Addr → State → State → Prop} {free : Addr → Prop}
variable {D : va_G} {cl : List vw_C} {ct : CT}
/-- calls of methods with handlers -/
theorem rtVX (E : ME p m c cc nL s args own D cl ct) (hB : B H) (hrecv : ∃ cellB : Cell, H[b0]? = some cellB ∧ cellB.vm.isStatics = false ∧ s.vm.findClass C = some cellB.cls) (hM : vx_Met l y ws rm (mP D cl ct (.ref b0 :: As) H.size B) Qc XC mc ms free) (cw : vx_CVW R s args own C index y bytes maxL ret hh ws rm mc ms n)
    (hn : As.length = n) (hsize : ls.size = nL) (hst : st0 = As.reverse ++ .ref b0 :: rest) (hW : (rest.map fun v => v.category).sum ≤ 8) (hdg : decode cc pc = .ok (.invokevirtual index, 3)) (hf : cells + mc ≤ R.cells ∧ slots + ms ≤ R.slots) : ∃ arr, vx_Run p l e R s m args below meth c H locs cells slots mc ms (F0 m pc ls st0) rest (Qc arr) XC free :=
  ⟨_, vx_runVX E.1 hM cw ⟨mP_blind, hrecv, fun U hU hWm => ⟨rfl, by rw [hU], by rw [hU]; exact hB, va_K.moved hWm.alike E.2.1, JW.warm hWm E.2.2⟩⟩ rfl hn hsize hst (lv_room hW) hdg hf⟩
theorem rtSX (E : ME p m c cc nL s args own D cl ct) (hB : B H) (hM : vx_Met l y ws rm (mP D cl ct As H.size B) Qc XC mc ms free) (cw : vx_CSW R s args own index y bytes maxL ret hh ws rm mc ms n)
    (hn : As.length = n) (hsize : ls.size = nL) (hst : st0 = As.reverse ++ rest) (hW : (rest.map fun v => v.category).sum ≤ 8) (hdg : decode cc pc = .ok (.invokestatic index, 3)) (hf : cells + mc ≤ R.cells ∧ slots + ms ≤ R.slots) : ∃ arr, vx_Run p l e R s m args below meth c H locs cells slots mc ms (F0 m pc ls st0) rest (Qc arr) XC free :=
  ⟨_, vx_runSX E.1 hM cw ⟨mP_blind, fun U hU hWm => ⟨rfl, by rw [hU], by rw [hU]; exact hB, va_K.moved hWm.alike E.2.1, JW.warm hWm E.2.2⟩⟩ rfl hn hsize hst (lv_room hW) hdg hf⟩
/-- what is never thrown -/
def nX : String → Addr → State → State → Prop := fun _ _ _ _ => False
/-- a call that returns, its contract of the wider kind -/
theorem rt_L {st : List Value} (h : ∃ arr, vx_Run p l e R s m args below meth c H locs cells slots mc ms (F0 m pc ls st) rest (Qc arr) nX free) : ∃ arr, RunL 3 p l e R s m args below meth c H locs cells slots mc ms (F0 m pc ls st) rest (Qc arr) free := by
  obtain ⟨arr, h⟩ := h
  refine ⟨arr, fun T hT XX => ?_⟩
  rcases h T hT XX with h | ⟨q, st₀, t, T', L, E, ce, h0, X', hL, e1, e2, hf, -⟩
  · exact h
  · exact hf.elim
end YHR
