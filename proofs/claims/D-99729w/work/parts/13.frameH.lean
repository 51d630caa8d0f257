set_option maxRecDepth 100000
/-! THE FRAME, second half: beside the numbered cells a free heap h (by address), for lists, texts, forms -/
abbrev AX : Type := (Nat × vp_A) ⊕ (Nat × List Value)
/-- a free cell: whether it is ours to write; an array (its kind, its length, its places) or an object (its class, its fields) -/
abbrev AE : Type := Bool × AX
abbrev AH : Type := Nat → Option AE
def vSlot (c : (Nat → Int32) ⊕ (Nat → Int64) ⊕ (Nat → UInt32) ⊕ (Nat → UInt64) ⊕ (Nat → Option Nat)) (j : Nat) : Value := match c with
  | .inl f => .int (f j)
  | .inr (.inl f) => .long (f j)
  | .inr (.inr (.inl f)) => .float (f j)
  | .inr (.inr (.inr (.inl f))) => .double (f j)
  | .inr (.inr (.inr (.inr f))) => va_rf (f j)
theorem vSlot_cell (cA : ClassId) (a : vp_A) : vp_cell cA a = arrV cA a.1 (vSlot a.2) := by
  obtain ⟨n, c⟩ := a
  rcases c with f | f | f | f | f <;> rfl
def rdat (D : va_G) (cl : List vw_C) (ct : CT) (a : Nat) (x : AX) (H : Heap) : Prop := match x with
  | .inl q => ∃ cell : Cell, H[a]? = some cell ∧ cell.cls = ct.1 q.1 ∧ cell.vm ≠ .unknown ∧ cell.vm.isStatics = false ∧ cell.slots.size = q.2.1 ∧ ∀ j, j < q.2.1 → cell.slots[j]? = some (vSlot q.2.2 j)
  | .inr q => ∃ (r : vw_C) (cell : Cell), cl[q.1]? = some r ∧ H[a]? = some cell ∧ cell.cls = D.1 q.1 ∧ cell.vm ≠ .unknown ∧ cell.vm.isStatics = false ∧ ∀ k, k < r.2.2 → cell.slots[D.2 q.1 k]? = some (vp_V q.2 k)
def wE (ct : CT) (e : AX) : va_E := match e with
  | .inl q => .inl (ct.1 q.1, q.2)
  | .inr q => .inr q
theorem rdat_of {D : va_G} {cl : List vw_C} {ct : CT} {a : Nat} {x : AX} {H : Heap} (h : va_at D cl (a, wE ct x) H) : rdat D cl ct a x H := by
  cases x with
  | inl q =>
    have h : H[a]? = some (vp_cell (ct.1 q.1) q.2) := h
    rw [vSlot_cell] at h
    exact ⟨_, h, rfl, (fun z => by cases z), rfl, arrV_size _ _ _, fun j hj => arrV_read _ _ hj⟩
  | inr q =>
    obtain ⟨r, h1, cell, q1, q2, q3, q4⟩ := h
    exact ⟨r, cell, h1, q1, q2, (by rw [q3]; exact fun z => by cases z), (by rw [q3]; rfl), q4⟩
def aat (D : va_G) (cl : List vw_C) (ct : CT) (a : Nat) (e : AE) (H : Heap) : Prop := rdat D cl ct a e.2 H ∧ (e.1 = true → va_at D cl (a, wE ct e.2) H)
theorem rdat.kept {D : va_G} {cl : List vw_C} {ct : CT} {a : Nat} {x : AX} {H H1 : Heap} (h : rdat D cl ct a x H) (hq : H1[a]? = H[a]?) : rdat D cl ct a x H1 := by
  cases x with
  | inl q =>
    obtain ⟨cell, h1, h2⟩ := h
    exact ⟨cell, hq.trans h1, h2⟩
  | inr q =>
    obtain ⟨r, cell, h0, h1, h2⟩ := h
    exact ⟨r, cell, h0, hq.trans h1, h2⟩
theorem rdat.lt {D : va_G} {cl : List vw_C} {ct : CT} {a : Nat} {x : AX} {H : Heap} (h : rdat D cl ct a x H) : a < H.size := by
  cases x with
  | inl q =>
    obtain ⟨cell, h1, h2⟩ := h
    exact (Array.getElem?_eq_some_iff.mp h1).1
  | inr q =>
    obtain ⟨r, cell, h0, h1, h2⟩ := h
    exact (Array.getElem?_eq_some_iff.mp h1).1
theorem aat.kept {D : va_G} {cl : List vw_C} {ct : CT} {a : Nat} {e : AE} {H H1 : Heap} (h : aat D cl ct a e H) (hq : H1[a]? = H[a]?) : aat D cl ct a e H1 := ⟨h.1.kept hq, fun z => (h.2 z).kept hq⟩
def AP (D : va_G) (cl : List vw_C) (ct : CT) (h : AH) (H : Heap) : Prop := ∀ (a : Nat) (e : AE), h a = some e → aat D cl ct a e H
def HD (h : AH) (ad : Nat → Nat) (N : Nat) : Prop := ∀ (a : Nat) (e : AE) (i : Nat), h a = some e → i < N → a ≠ ad i
/-- the old cells stay, and ours are new -/
def OK (ct : CT) (ad : Nat → Nat) (N : Nat) (h : AH) (H : Heap) : Prop := (∀ q : Nat, q < ct.2.2.1 → H[q]? = ct.2.2.2[q]?) ∧ ct.2.2.1 ≤ H.size ∧ (∀ i, i < N → ct.2.2.1 ≤ ad i) ∧ (∀ (a : Nat) (x : AX), h a = some (true, x) → ct.2.2.1 ≤ a) ∧ ∀ (a : Nat) (x : AX), h a = some (false, x) → a < ct.2.2.1
theorem OK.put {ct : CT} {ad : Nat → Nat} {N : Nat} {h : AH} {H H1 : Heap} {a : Nat} (hO : OK ct ad N h H) (ha : ct.2.2.1 ≤ a) (hz : H1.size = H.size) (hq : ∀ q : Nat, q ≠ a → H1[q]? = H[q]?) : OK ct ad N h H1 :=
  ⟨fun q hlt => (hq q (fun e => by rw [e] at hlt; exact absurd hlt (Nat.not_lt.mpr ha))).trans (hO.1 q hlt), by rw [hz]; exact hO.2.1, hO.2.2⟩
def GW (D : va_G) (cl : List vw_C) (ck : Nat → UC) (ct : CT) (N : Nat) (ad : Nat → Nat) (P : Nat → Nat → Option Nat) (A : Nat → Prop) (S : US) (w : Int64) (h : AH) (H : Heap) : Prop :=
  UW D cl ck ct N ad P A S w H ∧ AP D cl ct h H ∧ HD h ad N ∧ OK ct ad N h H
def hset (h : AH) (a : Nat) (e : AE) : AH := fun q => if q = a then some e else h q
def SameSz (H H1 : Heap) : Prop := H1.size = H.size ∧ ∀ q : Nat, (H1[q]?).map (fun c => c.slots.size) = (H[q]?).map (fun c => c.slots.size)
theorem SameSz.rf {H : Heap} : SameSz H H := ⟨rfl, fun _ => rfl⟩
theorem AP.lt {D : va_G} {cl : List vw_C} {ct : CT} {h : AH} {H : Heap} (hh : AP D cl ct h H) {a : Nat} {e : AE} (ha : h a = some e) : a < H.size := (hh a e ha).1.lt
theorem AP.kept {D : va_G} {cl : List vw_C} {ct : CT} {h : AH} {H H1 : Heap} (hh : AP D cl ct h H) (hq : ∀ a e, h a = some e → H1[a]? = H[a]?) : AP D cl ct h H1 := fun a e ha => (hh a e ha).kept (hq a e ha)
theorem GW.kept {D : va_G} {cl : List vw_C} {ck : Nat → UC} {ct : CT} {N : Nat} {ad : Nat → Nat} {P : Nat → Nat → Option Nat} {A : Nat → Prop} {S : US} {w : Int64} {h : AH} {H H1 : Heap} (hG : GW D cl ck ct N ad P A S w h H) (hz : H.size ≤ H1.size) (hq : ∀ q, q < H.size → H1[q]? = H[q]?) : GW D cl ck ct N ad P A S w h H1 :=
  ⟨hG.1.kept fun i hi => hq _ (hG.1.lt hi), hG.2.1.kept fun a e ha => hq _ (hG.2.1.lt ha), hG.2.2.1, fun q hlt => (hq q (Nat.lt_of_lt_of_le hlt hG.2.2.2.2.1)).trans (hG.2.2.2.1 q hlt), Nat.le_trans hG.2.2.2.2.1 hz, hG.2.2.2.2.2⟩
theorem GW.to {D : va_G} {cl : List vw_C} {ck : Nat → UC} {ct : CT} {N : Nat} {ad : Nat → Nat} {P : Nat → Nat → Option Nat} {A B : Nat → Prop} {S : US} {w : Int64} {h : AH} {H : Heap} (hG : GW D cl ck ct N ad P A S w h H) (hB : ∀ i, i < N → B (ad i)) : GW D cl ck ct N ad P B S w h H := ⟨hG.1.to hB, hG.2⟩
def hI {ρ : Type} (h : AH) (a ci k : Nat) (kp : Int32 → Option ρ) : Option ρ := match h a with
  | some (_, .inr q) => if q.1 = ci then (match q.2[k]? with
    | some (.int v) => kp v
    | _ => none) else none
  | _ => none
def hR {ρ : Type} (h : AH) (a ci k : Nat) (kp : Option Nat → Option ρ) : Option ρ := match h a with
  | some (_, .inr q) => if q.1 = ci then (match q.2[k]? with
    | some (.ref b) => kp (some b)
    | some .null => kp none
    | _ => none) else none
  | _ => none
/-- a place of an array of references (t: its kind) -/
def hQ {ρ : Type} (h : AH) (a t : Nat) (j : Int32) (kp : Option Nat → Option ρ) : Option ρ := match h a with
  | some (_, .inl (t', n, .inr (.inr (.inr (.inr f))))) => if t' = t then (if j < 0 ∨ n ≤ j.toNatClampNeg then none else kp (f j.toNatClampNeg)) else none
  | _ => none
/-- a place of an array of whole numbers -/
def hZ {ρ : Type} (h : AH) (a t : Nat) (j : Int32) (kp : Int32 → Option ρ) : Option ρ := match h a with
  | some (_, .inl (t', n, .inl f)) => if t' = t then (if j < 0 ∨ n ≤ j.toNatClampNeg then none else kp (f j.toNatClampNeg)) else none
  | _ => none
/-- an array's length -/
def hL {ρ : Type} (h : AH) (a t : Nat) (kp : Int32 → Option ρ) : Option ρ := match h a with
  | some (_, .inl (t', n, _)) => if t' = t then kp (Int32.ofNat n) else none
  | _ => none
/-- an object of the class -/
def hC {ρ : Type} (h : AH) (a ci : Nat) (k : Option ρ) : Option ρ := match h a with
  | some (_, .inr q) => if q.1 = ci then k else none
  | _ => none
/-- an array of the kind -/
def hT {ρ : Type} (h : AH) (a t : Nat) (k : Option ρ) : Option ρ := match h a with
  | some (_, .inl q) => if q.1 = t then k else none
  | _ => none
theorem hT_some {ρ : Type} {h : AH} {a t : Nat} {k : Option ρ} {o : ρ} (ho : hT h a t k = some o) : ∃ (x : vp_A) (bw : Bool), h a = some (bw, .inl (t, x)) ∧ k = some o := by
  unfold hT at ho
  split at ho
  · rename_i bw q e
    split at ho
    · rename_i ht
      exact ⟨q.2, bw, by rw [e, ← ht], ho⟩
    · cases ho
  · cases ho
/-- a form, of one of the four classes -/
def hF {ρ : Type} (h : AH) (a : Nat) (k : Option ρ) : Option ρ := match h a with
  | some (_, .inr q) => if q.1 = 6 ∨ q.1 = 7 ∨ q.1 = 8 ∨ q.1 = 9 then k else none
  | _ => none
theorem hF_some {ρ : Type} {h : AH} {a : Nat} {k : Option ρ} {o : ρ} (ho : hF h a k = some o) : ∃ (ci : Nat) (fs : List Value) (bw : Bool), h a = some (bw, .inr (ci, fs)) ∧ (ci = 6 ∨ ci = 7 ∨ ci = 8 ∨ ci = 9) ∧ k = some o := by
  unfold hF at ho
  split at ho
  · rename_i bw q e
    split at ho
    · rename_i ht
      exact ⟨q.1, q.2, bw, e, ht, ho⟩
    · cases ho
  · cases ho
def onR {ρ : Type} (r : Option Nat) (k : Nat → Option ρ) : Option ρ := match r with
  | none => none
  | some b => k b
def caseR {ρ : Type} (r : Option Nat) (k0 : Option ρ) (k : Nat → Option ρ) : Option ρ := match r with
  | none => k0
  | some b => k b
theorem hI_some {ρ : Type} {h : AH} {a ci k : Nat} {kp : Int32 → Option ρ} {o : ρ} (ho : hI h a ci k kp = some o) : ∃ (fs : List Value) (v : Int32) (bw : Bool), h a = some (bw, .inr (ci, fs)) ∧ fs[k]? = some (.int v) ∧ kp v = some o := by
  unfold hI at ho
  split at ho
  · rename_i bw q e
    split at ho
    · rename_i hq
      split at ho
      · rename_i v hv
        exact ⟨q.2, v, bw, by rw [e, ← hq], hv, ho⟩
      · cases ho
    · cases ho
  · cases ho
theorem hR_some {ρ : Type} {h : AH} {a ci k : Nat} {kp : Option Nat → Option ρ} {o : ρ} (ho : hR h a ci k kp = some o) : ∃ (fs : List Value) (r : Option Nat) (bw : Bool), h a = some (bw, .inr (ci, fs)) ∧ fs[k]? = some (va_rf r) ∧ kp r = some o := by
  unfold hR at ho
  split at ho
  · rename_i bw q e
    split at ho
    · rename_i hq
      split at ho
      · rename_i b hv
        exact ⟨q.2, some b, bw, by rw [e, ← hq], hv, ho⟩
      · rename_i hv
        exact ⟨q.2, none, bw, by rw [e, ← hq], hv, ho⟩
      · cases ho
    · cases ho
  · cases ho
theorem hQ_some {ρ : Type} {h : AH} {a t : Nat} {j : Int32} {kp : Option Nat → Option ρ} {o : ρ} (ho : hQ h a t j kp = some o) : ∃ (n : Nat) (f : Nat → Option Nat) (bw : Bool), h a = some (bw, .inl (t, n, .inr (.inr (.inr (.inr f))))) ∧ ¬ (j < 0 ∨ n ≤ j.toNatClampNeg) ∧ kp (f j.toNatClampNeg) = some o := by
  unfold hQ at ho
  split at ho
  · rename_i bw t' n f e
    split at ho
    · rename_i ht
      split at ho
      · cases ho
      · rename_i hj
        exact ⟨n, f, bw, by rw [e, ht], hj, ho⟩
    · cases ho
  · cases ho
theorem hZ_some {ρ : Type} {h : AH} {a t : Nat} {j : Int32} {kp : Int32 → Option ρ} {o : ρ} (ho : hZ h a t j kp = some o) : ∃ (n : Nat) (f : Nat → Int32) (bw : Bool), h a = some (bw, .inl (t, n, .inl f)) ∧ ¬ (j < 0 ∨ n ≤ j.toNatClampNeg) ∧ kp (f j.toNatClampNeg) = some o := by
  unfold hZ at ho
  split at ho
  · rename_i bw t' n f e
    split at ho
    · rename_i ht
      split at ho
      · cases ho
      · rename_i hj
        exact ⟨n, f, bw, by rw [e, ht], hj, ho⟩
    · cases ho
  · cases ho
theorem hL_some {ρ : Type} {h : AH} {a t : Nat} {kp : Int32 → Option ρ} {o : ρ} (ho : hL h a t kp = some o) : ∃ (x : vp_A) (bw : Bool), h a = some (bw, .inl (t, x)) ∧ kp (Int32.ofNat x.1) = some o := by
  unfold hL at ho
  split at ho
  · rename_i bw t' n f e
    split at ho
    · rename_i ht
      exact ⟨(n, f), bw, by rw [e, ht], ho⟩
    · cases ho
  · cases ho
theorem hC_some {ρ : Type} {h : AH} {a ci : Nat} {k : Option ρ} {o : ρ} (ho : hC h a ci k = some o) : ∃ (fs : List Value) (bw : Bool), h a = some (bw, .inr (ci, fs)) ∧ k = some o := by
  unfold hC at ho
  split at ho
  · rename_i bw q e
    split at ho
    · rename_i ht
      exact ⟨q.2, bw, by rw [e, ← ht], ho⟩
    · cases ho
  · cases ho
section XH
variable {ρ ρ' : Type} {p : Program} {l : Launch} {e : Env} {R : Room} {s : State} {m : MethodId} {args : Array Value} {below : List Frame} {meth : Method} {c : Code} {H : Heap} {locs : List Loc} {cells slots : Nat} {Qf : ρ → State → Prop} {sp a b : Option ρ} {g : JFrame}
variable {cc : ByteArray} {pc nL : Nat} {ls : Array Slot} {rest : List Value} {own : String}
variable {D : va_G} {cl : List vw_C} {ck : Nat → UC} {ct : CT} {N : Nat} {ad : Nat → Nat} {P : Nat → Nat → Option Nat} {A A0 : Nat → Prop} {S : US} {w : Int64} {h : AH} {H0 : Heap}
theorem X.onR {r : Option Nat} {kp : Nat → Option ρ} (k : ∀ b, r = some b → X p l e R s m args below meth c H locs cells slots Qf (kp b) g) : X p l e R s m args below meth c H locs cells slots Qf (onR r kp) g := fun o ho => by
  cases r with
  | none => cases ho
  | some b => exact k b rfl o ho
theorem X.hC {q ci : Nat} (k : ∀ (fs : List Value) (bw : Bool), h q = some (bw, .inr (ci, fs)) → X p l e R s m args below meth c H locs cells slots Qf sp g) : X p l e R s m args below meth c H locs cells slots Qf (hC h q ci sp) g := fun o ho => by
  obtain ⟨fs, bw, h1, h2⟩ := hC_some ho
  exact k fs bw h1 o h2
theorem x_ifnullO (hexec : p.tables.exec = Jvm.exec) (hb : c.code = cc) {r : Option Nat} {kp : Nat → Option ρ} {off : Int} {tgt : Nat} (hdg : decode cc pc = .ok (.ifnull off, 3)) (ht : (pc : Int) + off = (tgt : Int)) (k0 : r = none → X p l e R s m args below meth c H locs cells slots Qf a (F0 m tgt ls rest)) (k1 : ∀ b, r = some b → X p l e R s m args below meth c H locs cells slots Qf (kp b) (F0 m (pc + 3) ls rest)) : X p l e R s m args below meth c H locs cells slots Qf (caseR r a kp) (F0 m pc ls (va_rf r :: rest)) := fun o ho => by
  cases r with
  | none => exact lv_ifnullN hexec hb hdg ht (k0 rfl o ho)
  | some b => exact lv_ifnull hexec hb hdg (k1 b rfl o ho)
theorem x_ifnonnullO (hexec : p.tables.exec = Jvm.exec) (hb : c.code = cc) {r : Option Nat} {kp : Nat → Option ρ} {off : Int} {tgt : Nat} (hdg : decode cc pc = .ok (.ifnonnull off, 3)) (ht : (pc : Int) + off = (tgt : Int)) (k0 : r = none → X p l e R s m args below meth c H locs cells slots Qf a (F0 m (pc + 3) ls rest)) (k1 : ∀ b, r = some b → X p l e R s m args below meth c H locs cells slots Qf (kp b) (F0 m tgt ls rest)) : X p l e R s m args below meth c H locs cells slots Qf (caseR r a kp) (F0 m pc ls (va_rf r :: rest)) := fun o ho => by
  cases r with
  | none => exact lv_ifnonnullN hexec hb hdg (k0 rfl o ho)
  | some b => exact lv_ifnonnull hexec hb hdg ht (k1 b rfl o ho)
theorem x_aload_nO (hexec : p.tables.exec = Jvm.exec) (hb : c.code = cc) {k : Fin 4} {i : Nat} {r : Option Nat} (hdg : decode cc pc = .ok (.aload_n k, 1)) (hi : (k : Nat) = i) (hl : ls[i]? = some (.val (va_rf r))) (kk : X p l e R s m args below meth c H locs cells slots Qf sp (F0 m (pc + 1) ls (va_rf r :: rest))) : X p l e R s m args below meth c H locs cells slots Qf sp (F0 m pc ls rest) := fun o ho => by
  cases r with
  | none => exact lv_aload_nN hexec hb hdg hi hl (kk o ho)
  | some b => exact lv_aload_n hexec hb hdg hi hl (kk o ho)
theorem x_aloadO (hexec : p.tables.exec = Jvm.exec) (hb : c.code = cc) {i : Nat} {r : Option Nat} (hdg : decode cc pc = .ok (.aload i, 2)) (hl : ls[i]? = some (.val (va_rf r))) (kk : X p l e R s m args below meth c H locs cells slots Qf sp (F0 m (pc + 2) ls (va_rf r :: rest))) : X p l e R s m args below meth c H locs cells slots Qf sp (F0 m pc ls rest) := fun o ho => by
  cases r with
  | none => exact lv_aloadN hexec hb hdg hl (kk o ho)
  | some b => exact lv_aload hexec hb hdg hl (kk o ho)
theorem x_astore_nO (hexec : p.tables.exec = Jvm.exec) (hb : c.code = cc) {k : Fin 4} {i nL : Nat} {r : Option Nat} {lv lv' : List (Nat × Value)} (hdg : decode cc pc = .ok (.astore_n k, 1)) (hi : (k : Nat) = i) (h : lv_has ls nL lv) (hn : i < nL) (hl : (i, va_rf r) :: lv.filter (fun q => !(q.1 == i) && !(q.1 + 1 == i && q.2.category == 2)) = lv') (kk : ∀ ls' : Array Slot, lv_has ls' nL lv' → X p l e R s m args below meth c H locs cells slots Qf sp (F0 m (pc + 1) ls' rest)) : X p l e R s m args below meth c H locs cells slots Qf sp (F0 m pc ls (va_rf r :: rest)) := fun o ho => by
  cases r with
  | none => exact lv_astore_nN hexec hb hdg hi h hn hl (fun q1 q2 => kk q1 q2 o ho)
  | some b => exact lv_astore_n hexec hb hdg hi h hn hl (fun q1 q2 => kk q1 q2 o ho)
theorem x_astoreO (hexec : p.tables.exec = Jvm.exec) (hb : c.code = cc) {i nL : Nat} {r : Option Nat} {lv lv' : List (Nat × Value)} (hdg : decode cc pc = .ok (.astore i, 2)) (h : lv_has ls nL lv) (hn : i < nL) (hl : (i, va_rf r) :: lv.filter (fun q => !(q.1 == i) && !(q.1 + 1 == i && q.2.category == 2)) = lv') (kk : ∀ ls' : Array Slot, lv_has ls' nL lv' → X p l e R s m args below meth c H locs cells slots Qf sp (F0 m (pc + 2) ls' rest)) : X p l e R s m args below meth c H locs cells slots Qf sp (F0 m pc ls (va_rf r :: rest)) := fun o ho => by
  cases r with
  | none => exact lv_astoreN hexec hb hdg h hn hl (fun q1 q2 => kk q1 q2 o ho)
  | some b => exact lv_astore hexec hb hdg h hn hl (fun q1 q2 => kk q1 q2 o ho)
/-- a free object's field is read -/
theorem wr_get {Q : State → Prop} (E : ME p m c cc nL s args own D cl ct) {q ci n : Nat} {C ref : String} {T : u_T} {index : Nat} {fs : List Value} {v : Value} (hr : rdat D cl ct q (.inr (ci, fs)) H) (hc : cl[ci]? = some (C, T, n)) (hin : ∀ w ∈ u_ws C T n, w ∈ lw_all) (k : Nat) (hk : k < n) (hlink : (Cond.fieldLink own index ref (T k).2.1 (T k).2.2.1).before args s = true) (hsame : ∀ x, s.fieldFound? (T k).1 (T k).2.1 (T k).2.2.1 = some x → s.fieldFound? ref (T k).2.1 (T k).2.2.1 = some x) (hv : fs[k]? = some v) (hdg : decode cc pc = .ok (.getfield index, 3))
    (kk : W p l e R s m args below meth c H locs cells slots Q (F0 m (pc + 3) ls (v :: rest))) : W p l e R s m args below meth c H locs cells slots Q (F0 m pc ls (.ref q :: rest)) := by
  obtain ⟨⟨hx, hb, hml, hown, hts⟩, hK, hJ⟩ := E
  obtain ⟨r, cell, h0, h1, h2, h3, h4, h5⟩ := hr
  have hr : r = (C, T, n) := Option.some.inj (h0.symm.trans hc)
  subst hr
  obtain ⟨hS, hfc, kC, hkC, hkind⟩ := hK.1 ci _ hc
  obtain ⟨cf, kf, fi, f, hi, hsl⟩ := hS k hk
  refine W.getf hx hb hown hlink (hsame _ hi) (u_facts hfc hkC (u_lays hts hin hk) hi).1 h1 h3 (v := v) ?_ rfl rfl hdg kk
  rw [hsl, h5 k hk]
  simp [vp_V, hv]
theorem wr_getN {Q : State → Prop} (E : ME p m c cc nL s args own D cl ct) {q ci n : Nat} {C ref host : String} {T : u_T} {index : Nat} {fs : List Value} {v : Value} (hr : rdat D cl ct q (.inr (ci, fs)) H) (hc : cl[ci]? = some (C, T, n)) (hin : ∀ w ∈ u_ws C T n, w ∈ lw_all) (k : Nat) (hk : k < n) (hlink : (Cond.fieldLinkNest own index ref (T k).2.1 (T k).2.2.1 host).before args s = true) (hsame : ∀ x, s.fieldFound? (T k).1 (T k).2.1 (T k).2.2.1 = some x → s.fieldFound? ref (T k).2.1 (T k).2.2.1 = some x) (hv : fs[k]? = some v) (hdg : decode cc pc = .ok (.getfield index, 3))
    (kk : W p l e R s m args below meth c H locs cells slots Q (F0 m (pc + 3) ls (v :: rest))) : W p l e R s m args below meth c H locs cells slots Q (F0 m pc ls (.ref q :: rest)) := by
  obtain ⟨⟨hx, hb, hml, hown, hts⟩, hK, hJ⟩ := E
  obtain ⟨r, cell, h0, h1, h2, h3, h4, h5⟩ := hr
  have hr : r = (C, T, n) := Option.some.inj (h0.symm.trans hc)
  subst hr
  obtain ⟨hS, hfc, kC, hkC, hkind⟩ := hK.1 ci _ hc
  obtain ⟨cf, kf, fi, f, hi, hsl⟩ := hS k hk
  refine va_Wgetf hx hb hown hlink (hsame _ hi) (u_facts hfc hkC (u_lays hts hin hk) hi).1 h1 h3 (v := v) ?_ rfl rfl hdg kk
  rw [hsl, h5 k hk]
  simp [vp_V, hv]
theorem fx_getI (E : ME p m c cc nL s args own D cl ct) (hh : AP D cl ct h H) {q ci n : Nat} {C ref : String} {T : u_T} {index : Nat} {kp : Int32 → Option ρ} (hc : cl[ci]? = some (C, T, n)) (hin : ∀ w ∈ u_ws C T n, w ∈ lw_all) (k : Nat) (hk : k < n) (hlink : (Cond.fieldLink own index ref (T k).2.1 (T k).2.2.1).before args s = true) (hsame : ∀ x, s.fieldFound? (T k).1 (T k).2.1 (T k).2.2.1 = some x → s.fieldFound? ref (T k).2.1 (T k).2.2.1 = some x) (hdg : decode cc pc = .ok (.getfield index, 3))
    (kk : ∀ v, X p l e R s m args below meth c H locs cells slots Qf (kp v) (F0 m (pc + 3) ls (.int v :: rest))) : X p l e R s m args below meth c H locs cells slots Qf (hI h q ci k kp) (F0 m pc ls (.ref q :: rest)) := fun o ho => by
  obtain ⟨fs, v, bw, h1, h2, h3⟩ := hI_some ho
  exact wr_get E (hh q _ h1).1 hc hin k hk hlink hsame h2 hdg (kk v o h3)
theorem fx_getIN (E : ME p m c cc nL s args own D cl ct) (hh : AP D cl ct h H) {q ci n : Nat} {C ref host : String} {T : u_T} {index : Nat} {kp : Int32 → Option ρ} (hc : cl[ci]? = some (C, T, n)) (hin : ∀ w ∈ u_ws C T n, w ∈ lw_all) (k : Nat) (hk : k < n) (hlink : (Cond.fieldLinkNest own index ref (T k).2.1 (T k).2.2.1 host).before args s = true) (hsame : ∀ x, s.fieldFound? (T k).1 (T k).2.1 (T k).2.2.1 = some x → s.fieldFound? ref (T k).2.1 (T k).2.2.1 = some x) (hdg : decode cc pc = .ok (.getfield index, 3))
    (kk : ∀ v, X p l e R s m args below meth c H locs cells slots Qf (kp v) (F0 m (pc + 3) ls (.int v :: rest))) : X p l e R s m args below meth c H locs cells slots Qf (hI h q ci k kp) (F0 m pc ls (.ref q :: rest)) := fun o ho => by
  obtain ⟨fs, v, bw, h1, h2, h3⟩ := hI_some ho
  exact wr_getN E (hh q _ h1).1 hc hin k hk hlink hsame h2 hdg (kk v o h3)
theorem fx_getR (E : ME p m c cc nL s args own D cl ct) (hh : AP D cl ct h H) {q ci n : Nat} {C ref : String} {T : u_T} {index : Nat} {kp : Option Nat → Option ρ} (hc : cl[ci]? = some (C, T, n)) (hin : ∀ w ∈ u_ws C T n, w ∈ lw_all) (k : Nat) (hk : k < n) (hlink : (Cond.fieldLink own index ref (T k).2.1 (T k).2.2.1).before args s = true) (hsame : ∀ x, s.fieldFound? (T k).1 (T k).2.1 (T k).2.2.1 = some x → s.fieldFound? ref (T k).2.1 (T k).2.2.1 = some x) (hdg : decode cc pc = .ok (.getfield index, 3))
    (kk : ∀ v, X p l e R s m args below meth c H locs cells slots Qf (kp v) (F0 m (pc + 3) ls (va_rf v :: rest))) : X p l e R s m args below meth c H locs cells slots Qf (hR h q ci k kp) (F0 m pc ls (.ref q :: rest)) := fun o ho => by
  obtain ⟨fs, v, bw, h1, h2, h3⟩ := hR_some ho
  exact wr_get E (hh q _ h1).1 hc hin k hk hlink hsame h2 hdg (kk v o h3)
theorem fx_getRN (E : ME p m c cc nL s args own D cl ct) (hh : AP D cl ct h H) {q ci n : Nat} {C ref host : String} {T : u_T} {index : Nat} {kp : Option Nat → Option ρ} (hc : cl[ci]? = some (C, T, n)) (hin : ∀ w ∈ u_ws C T n, w ∈ lw_all) (k : Nat) (hk : k < n) (hlink : (Cond.fieldLinkNest own index ref (T k).2.1 (T k).2.2.1 host).before args s = true) (hsame : ∀ x, s.fieldFound? (T k).1 (T k).2.1 (T k).2.2.1 = some x → s.fieldFound? ref (T k).2.1 (T k).2.2.1 = some x) (hdg : decode cc pc = .ok (.getfield index, 3))
    (kk : ∀ v, X p l e R s m args below meth c H locs cells slots Qf (kp v) (F0 m (pc + 3) ls (va_rf v :: rest))) : X p l e R s m args below meth c H locs cells slots Qf (hR h q ci k kp) (F0 m pc ls (.ref q :: rest)) := fun o ho => by
  obtain ⟨fs, v, bw, h1, h2, h3⟩ := hR_some ho
  exact wr_getN E (hh q _ h1).1 hc hin k hk hlink hsame h2 hdg (kk v o h3)
theorem rd_arr {t : Nat} {ty : FieldType} (hK : va_K D cl (tyW ct) s) (ht : (tyW ct)[t]? = some (ct.1 t, ty)) {cell : Cell} (h2 : cell.cls = ct.1 t) (h4 : cell.vm.isStatics = false) : s.isArrayOf cell ty := by
  have h := ((hK.2 t _ ht).1 0 (fun _ => .null)).2
  refine ⟨fun k hk => ?_, ?_⟩
  · rw [hk] at h4
    exact absurd h4 (by simp [VmData.isStatics])
  · rw [h2]
    exact h
/-- a place of a free array of references -/
theorem fx_aaload (E : ME p m c cc nL s args own D cl ct) (hh : AP D cl ct h H) {q t : Nat} {C : String} {j : Int32} {kp : Option Nat → Option ρ} (ht : (tyW ct)[t]? = some (ct.1 t, .object C)) (hdg : decode cc pc = .ok (.aaload, 1))
    (kk : ∀ r, X p l e R s m args below meth c H locs cells slots Qf (kp r) (F0 m (pc + 1) ls (va_rf r :: rest))) : X p l e R s m args below meth c H locs cells slots Qf (hQ h q t j kp) (F0 m pc ls (.int j :: .ref q :: rest)) := fun o ho => by
  obtain ⟨⟨hx, hb, hml, hown, hts⟩, hK, hJ⟩ := E
  obtain ⟨n, f, bw, h1, hin, h3⟩ := hQ_some ho
  obtain ⟨cell, r1, r2, r3, r4, r5, r6⟩ := (hh q _ h1).1
  have hlt : j.toNatClampNeg < n := Nat.not_le.mp fun q => hin (Or.inr q)
  exact W.aald (v := va_rf (f j.toNatClampNeg)) (ty := .object C) hx hb r1 (rd_arr hK ht r2 r4) rfl r3 (by rw [r5]; exact hin) (r6 _ hlt) rfl rfl hdg (kk _ o h3)
theorem fx_iaload (E : ME p m c cc nL s args own D cl ct) (hh : AP D cl ct h H) {q : Nat} {j : Int32} {kp : Int32 → Option ρ} (hdg : decode cc pc = .ok (.iaload, 1))
    (kk : ∀ v, X p l e R s m args below meth c H locs cells slots Qf (kp v) (F0 m (pc + 1) ls (.int v :: rest))) : X p l e R s m args below meth c H locs cells slots Qf (hZ h q 0 j kp) (F0 m pc ls (.int j :: .ref q :: rest)) := fun o ho => by
  obtain ⟨⟨hx, hb, hml, hown, hts⟩, hK, hJ⟩ := E
  obtain ⟨n, f, bw, h1, hin, h3⟩ := hZ_some ho
  obtain ⟨cell, r1, r2, r3, r4, r5, r6⟩ := (hh q _ h1).1
  have hlt : j.toNatClampNeg < n := Nat.not_le.mp fun q => hin (Or.inr q)
  exact W.iald (v := .int (f j.toNatClampNeg)) hx hb r1 (rd_arr hK rfl r2 r4) r3 (by rw [r5]; exact hin) (r6 _ hlt) rfl rfl hdg (kk _ o h3)
theorem fx_baload (E : ME p m c cc nL s args own D cl ct) (hh : AP D cl ct h H) {q : Nat} {j : Int32} {kp : Int32 → Option ρ} (hdg : decode cc pc = .ok (.baload, 1))
    (kk : ∀ v, X p l e R s m args below meth c H locs cells slots Qf (kp v) (F0 m (pc + 1) ls (.int v :: rest))) : X p l e R s m args below meth c H locs cells slots Qf (hZ h q 2 j kp) (F0 m pc ls (.int j :: .ref q :: rest)) := fun o ho => by
  obtain ⟨⟨hx, hb, hml, hown, hts⟩, hK, hJ⟩ := E
  obtain ⟨n, f, bw, h1, hin, h3⟩ := hZ_some ho
  obtain ⟨cell, r1, r2, r3, r4, r5, r6⟩ := (hh q _ h1).1
  have hlt : j.toNatClampNeg < n := Nat.not_le.mp fun q => hin (Or.inr q)
  exact W.bald (v := .int (f j.toNatClampNeg)) hx hb r1 (rd_arr hK (t := 2) rfl r2 r4) r3 (by rw [r5]; exact hin) (r6 _ hlt) rfl rfl hdg (kk _ o h3)
theorem fx_alen (E : ME p m c cc nL s args own D cl ct) (hh : AP D cl ct h H) {q t : Nat} {ty : FieldType} {kp : Int32 → Option ρ} (ht : (tyW ct)[t]? = some (ct.1 t, ty)) (hdg : decode cc pc = .ok (.arraylength, 1))
    (kk : ∀ v, X p l e R s m args below meth c H locs cells slots Qf (kp v) (F0 m (pc + 1) ls (.int v :: rest))) : X p l e R s m args below meth c H locs cells slots Qf (hL h q t kp) (F0 m pc ls (.ref q :: rest)) := fun o ho => by
  obtain ⟨⟨hx, hb, hml, hown, hts⟩, hK, hJ⟩ := E
  obtain ⟨x, bw, h1, h3⟩ := hL_some ho
  obtain ⟨cell, r1, r2, r3, r4, r5, r6⟩ := (hh q _ h1).1
  exact W.alen hx hb r1 (rd_arr hK ht r2 r4) (n := Int32.ofNat x.1) (by rw [r5] <;> rfl) rfl rfl hdg (kk _ o h3)
/-- a cast to its own class, and to another by the tables -/
theorem fx_cast (E : ME p m c cc nL s args own D cl ct) (hh : AP D cl ct h H) {q ci n index : Nat} {nm : String} {T : u_T} (hc : cl[ci]? = some (nm, T, n)) (hlink : (Cond.classLink own index nm).before args s = true) (hdg : decode cc pc = .ok (.checkcast index, 3))
    (kk : X p l e R s m args below meth c H locs cells slots Qf sp (F0 m (pc + 3) ls (.ref q :: rest))) : X p l e R s m args below meth c H locs cells slots Qf (hC h q ci sp) (F0 m pc ls (.ref q :: rest)) := fun o ho => by
  obtain ⟨⟨hx, hb, hml, hown, hts⟩, hK, hJ⟩ := E
  obtain ⟨fs, bw, h1, h3⟩ := hC_some ho
  obtain ⟨r, cell, r0, r1, r2, r3, r4, r5⟩ := (hh q _ h1).1
  have hr : r = (nm, T, n) := Option.some.inj (r0.symm.trans hc)
  subst hr
  exact va_castE hx hb hown hlink ⟨cell, r1, r4, by rw [r2]; exact (hK.1 ci _ hc).2.1⟩ hdg (kk o h3)
theorem fx_castA (E : ME p m c cc nL s args own D cl ct) (hh : AP D cl ct h H) {q t index : Nat} {ty : FieldType} {nm : String} (ht : (tyW ct)[t]? = some (ct.1 t, ty) ∧ s.vm.findClass nm = some (ct.1 t)) (hlink : (Cond.classLink own index nm).before args s = true) (hdg : decode cc pc = .ok (.checkcast index, 3))
    (kk : X p l e R s m args below meth c H locs cells slots Qf sp (F0 m (pc + 3) ls (.ref q :: rest))) : X p l e R s m args below meth c H locs cells slots Qf (hT h q t sp) (F0 m pc ls (.ref q :: rest)) := fun o ho => by
  obtain ⟨⟨hx, hb, hml, hown, hts⟩, hK, hJ⟩ := E
  obtain ⟨x, bw, h1, h3⟩ := hT_some ho
  obtain ⟨cell, r1, r2, r3, r4, r5, r6⟩ := (hh q _ h1).1
  exact va_castE hx hb hown hlink ⟨cell, r1, r4, by rw [r2]; exact ht.2⟩ hdg (kk o h3)
theorem recvU (hK : va_K D cl (tyW ct) s) (hU : UW D cl ck ct N ad P A S w H) {i ci n : Nat} {fk : Nat → Nat} {C : String} {T : u_T} (hi : i < N) (hck : ck i = .inl (ci, n, fk)) (hc : cl[ci]? = some (C, T, n)) : ∃ cellB : Cell, H[ad i]? = some cellB ∧ cellB.vm.isStatics = false ∧ s.vm.findClass C = some cellB.cls :=
  va_recv (ws := [(ad i, .inr (ci, (List.range n).map (uV fk ad (S i) w (P i))))]) (ci := ci) (q0 := 0) hK (fun j q hq => by
    cases j with
    | zero => cases hq; have h := hU.1 i _ (uws_at hi); rw [uE_obj hck] at h; exact h
    | succ j => simp at hq) hc rfl
theorem recvA (hK : va_K D cl (tyW ct) s) (hh : AP D cl ct h H) {q ci n : Nat} {fs : List Value} {bw : Bool} {C : String} {T : u_T} (hq : h q = some (bw, .inr (ci, fs))) (hc : cl[ci]? = some (C, T, n)) : ∃ cellB : Cell, H[q]? = some cellB ∧ cellB.vm.isStatics = false ∧ s.vm.findClass C = some cellB.cls := by
  obtain ⟨r, cell, r0, r1, r2, r3, r4, r5⟩ := (hh q _ hq).1
  have hr : r = (C, T, n) := Option.some.inj (r0.symm.trans hc)
  subst hr
  exact ⟨cell, r1, r4, by rw [r2]; exact (hK.1 ci _ hc).2.1⟩
variable {sp' : Option ρ'} {kp : ρ' → Option ρ} {val' : ρ' → Option Value} {k index maxL b0 len mc ms n : Nat} {st0 As : List Value} {y : MethodName} {bytes : ByteArray} {ret : Option FieldType} {rm : Room} {ws : List Cond} {C : String} {B Bt : Heap → Prop} {A1 : Nat → Prop} {v : Option Value}
/-- a call of any kind, len bytes long -/
def RunL (len : Nat) (p : Program) (l : Launch) (e : Env) (R : Room) (s : State) (m : MethodId) (args : Array Value) (below : List Frame) (meth : Method) (c : Code) (H : Heap) (locs : List Loc) (cells slots mc ms : Nat) (g : JFrame) (rest : List Value) (Qa : State → Outcome → State → Prop) (free : Addr → Prop) : Prop :=
  ∀ T : State, T.heap = H → Stand p l e R s m args below meth c T locs cells slots → ∃ (v : Option Value) (st₀ t T' : State) (L : List Loc), st₀.heap = H ∧ Stand p l e R s m args below meth c T' (locs ++ L) (cells + mc) (slots + ms) ∧ (∀ q ∈ L, free q.base) ∧ T'.heap = t.heap ∧ T'.vm = t.vm ∧ Qa st₀ (.returned v) t ∧
    Goes p e below T g T' { g with pc := g.pc + len, stack := v.toList ++ rest }
theorem x_afterL {Bt' : ρ' → Heap → Prop} (hS : va_S A H0 H locs) (hA : ∀ q, A1 q → A q)
    (hr : ∀ o, sp' = some o → ∃ arr, RunL len p l e R s m args below meth c H locs cells slots mc ms (F0 m pc ls st0) rest (mC (val' o) (Bt' o) A1 arr) A1)
    (kk : ∀ (o : ρ') (H1 : Heap) (locs1 : List Loc), sp' = some o → Bt' o H1 → H.size ≤ H1.size → (∀ q : Nat, q < H.size → ¬ A1 q → H1[q]? = H[q]?) → va_S A H0 H1 locs1 → X p l e R s m args below meth c H1 locs1 (cells + mc) (slots + ms) Qf (kp o) (F0 m (pc + len) ls ((val' o).toList ++ rest))) : X p l e R s m args below meth c H locs cells slots Qf (callK sp' kp) (F0 m pc ls st0) := fun oo hoo => by
  obtain ⟨o, h1, h2⟩ := callK_some hoo
  obtain ⟨arr, hr⟩ := hr o h1
  intro T hT X
  obtain ⟨v, st₀, t, T', L, h0, X', hL, e1, e2, ⟨hv, hb, hz, hk⟩, st⟩ := hr T hT X
  cases hv
  rw [h0] at hz hk
  obtain ⟨t2, a1, b1⟩ := kk o T'.heap (locs ++ L) h1 (by rw [e1]; exact hb) (by rw [e1]; exact hz) (fun q h1 h2 => by rw [e1]; exact hk q h1 h2)
    ⟨Nat.le_trans hS.1 (by rw [e1]; exact hz), fun q h1 h2 => by rw [e1, hk q (Nat.lt_of_lt_of_le h1 hS.1) (fun z => h2 (hA q z))]; exact hS.2.1 q h1 h2, fun q hq => by
      rcases List.mem_append.mp hq with h | h
      · exact hS.2.2 q h
      · exact hA _ (hL q h)⟩ oo h2 T' rfl X'
  exact ⟨t2, st t2 a1, b1⟩
theorem rnV (E : ME p m c cc nL s args own D cl ct) (hB : B H) (hrecv : ∃ cellB : Cell, H[b0]? = some cellB ∧ cellB.vm.isStatics = false ∧ s.vm.findClass C = some cellB.cls) (hM : Met l y ws rm (mP D cl ct (.ref b0 :: As) H.size B) (mC v Bt A1) mc ms A1) (cw : CallW R s args own C index y bytes maxL ret ws rm mc ms n)
    (hn : As.length = n) (hsize : ls.size = nL) (hst : st0 = As.reverse ++ .ref b0 :: rest) (hW : (rest.map fun v => v.category).sum ≤ 8) (hdg : decode cc pc = .ok (.invokevirtual index, 3)) (hf : cells + mc ≤ R.cells ∧ slots + ms ≤ R.slots) : ∃ arr, RunL 3 p l e R s m args below meth c H locs cells slots mc ms (F0 m pc ls st0) rest (mC v Bt A1 arr) A1 :=
  ⟨_, va_runV E.1 hM cw ⟨mP_blind, hrecv, fun U hU hWm => ⟨rfl, by rw [hU], by rw [hU]; exact hB, va_K.moved hWm.alike E.2.1, JW.warm hWm E.2.2⟩⟩ rfl hn hsize hst (lv_room hW) hdg hf⟩
theorem rnS (E : ME p m c cc nL s args own D cl ct) (hB : B H) (hM : Met l y ws rm (mP D cl ct As H.size B) (mC v Bt A1) mc ms A1) (cw : CallB R s args own index y bytes maxL ret ws rm mc ms n ∧ (Cond.static y).before args s = true)
    (hn : As.length = n) (hsize : ls.size = nL) (hst : st0 = As.reverse ++ rest) (hW : (rest.map fun v => v.category).sum ≤ 8) (hdg : decode cc pc = .ok (.invokestatic index, 3)) (hf : cells + mc ≤ R.cells ∧ slots + ms ≤ R.slots) : ∃ arr, RunL 3 p l e R s m args below meth c H locs cells slots mc ms (F0 m pc ls st0) rest (mC v Bt A1 arr) A1 :=
  ⟨_, va_runS E.1 hM cw ⟨mP_blind, fun U hU hWm => ⟨rfl, by rw [hU], by rw [hU]; exact hB, va_K.moved hWm.alike E.2.1, JW.warm hWm E.2.2⟩⟩ rfl hn hsize hst (lv_room hW) hdg hf⟩
theorem rnI (E : ME p m c cc nL s args own D cl ct) (hB : B H) (hM : Met l y ws rm (mP D cl ct (.ref b0 :: As) H.size B) (mC v Bt A1) mc ms A1) (cw : CallB R s args own index y bytes maxL none ws rm mc ms n ∧ y.name = "<init>" ∧ (Cond.instanceMethod y).before args s = true)
    (hn : As.length = n) (hsize : ls.size = nL) (hst : st0 = As.reverse ++ .ref b0 :: rest) (hW : (rest.map fun v => v.category).sum ≤ 8) (hdg : decode cc pc = .ok (.invokespecial index, 3)) (hf : cells + mc ≤ R.cells ∧ slots + ms ≤ R.slots) : ∃ arr, RunL 3 p l e R s m args below meth c H locs cells slots mc ms (F0 m pc ls st0) rest (mC v Bt A1 arr) A1 :=
  ⟨_, va_runI E.1 hM cw ⟨mP_blind, fun U hU hWm => ⟨rfl, by rw [hU], by rw [hU]; exact hB, va_K.moved hWm.alike E.2.1, JW.warm hWm E.2.2⟩⟩ rfl hn hsize hst (lv_room hW) hdg hf⟩
theorem rnVN {host : String} (E : ME p m c cc nL s args own D cl ct) (hB : B H) (hrecv : ∃ cellB : Cell, H[b0]? = some cellB ∧ cellB.vm.isStatics = false ∧ s.vm.findClass C = some cellB.cls) (hM : Met l y ws rm (mP D cl ct (.ref b0 :: As) H.size B) (mC v Bt A1) mc ms A1) (cw : va_CN R s args own index y host bytes maxL ret ws rm mc ms n ∧ (Cond.instanceMethod y).before args s = true ∧ (Cond.selects C y y).before args s = true)
    (hn : As.length = n) (hsize : ls.size = nL) (hst : st0 = As.reverse ++ .ref b0 :: rest) (hW : (rest.map fun v => v.category).sum ≤ 8) (hdg : decode cc pc = .ok (.invokevirtual index, 3)) (hf : cells + mc ≤ R.cells ∧ slots + ms ≤ R.slots) : ∃ arr, RunL 3 p l e R s m args below meth c H locs cells slots mc ms (F0 m pc ls st0) rest (mC v Bt A1 arr) A1 :=
  ⟨_, va_runVN E.1 hM cw ⟨mP_blind, hrecv, fun U hU hWm => ⟨rfl, by rw [hU], by rw [hU]; exact hB, va_K.moved hWm.alike E.2.1, JW.warm hWm E.2.2⟩⟩ rfl hn hsize hst (lv_room hW) hdg hf⟩
theorem rnSN {host : String} (E : ME p m c cc nL s args own D cl ct) (hB : B H) (hM : Met l y ws rm (mP D cl ct As H.size B) (mC v Bt A1) mc ms A1) (cw : va_CN R s args own index y host bytes maxL ret ws rm mc ms n ∧ (Cond.static y).before args s = true)
    (hn : As.length = n) (hsize : ls.size = nL) (hst : st0 = As.reverse ++ rest) (hW : (rest.map fun v => v.category).sum ≤ 8) (hdg : decode cc pc = .ok (.invokestatic index, 3)) (hf : cells + mc ≤ R.cells ∧ slots + ms ≤ R.slots) : ∃ arr, RunL 3 p l e R s m args below meth c H locs cells slots mc ms (F0 m pc ls st0) rest (mC v Bt A1 arr) A1 :=
  ⟨_, va_runSN E.1 hM ⟨cw.1, cw.2, trivial⟩ ⟨mP_blind, fun U hU hWm => ⟨rfl, by rw [hU], by rw [hU]; exact hB, va_K.moved hWm.alike E.2.1, JW.warm hWm E.2.2⟩⟩ rfl hn hsize hst (lv_room hW) hdg hf⟩
theorem rnSU {cC : ClassId} (E : ME p m c cc nL s args own D cl ct) (hB : B H) (hat : ClassAt s C cC) (hrecv : ∃ cellB : Cell, H[b0]? = some cellB ∧ cellB.vm.isStatics = false ∧ s.vm.findClass C = some cellB.cls) (hM : Met l y ws rm (mP D cl ct (.ref b0 :: As) H.size B) (mC v Bt A1) mc ms A1) (cw : va_CS R s args own index y bytes maxL ret ws rm mc ms n)
    (hn : As.length = n) (hsize : ls.size = nL) (hst : st0 = As.reverse ++ .ref b0 :: rest) (hW : (rest.map fun v => v.category).sum ≤ 8) (hdg : decode cc pc = .ok (.invokespecial index, 3)) (hf : cells + mc ≤ R.cells ∧ slots + ms ≤ R.slots) : ∃ arr, RunL 3 p l e R s m args below meth c H locs cells slots mc ms (F0 m pc ls st0) rest (mC v Bt A1 arr) A1 :=
  ⟨_, va_runSU hat E.1 hM cw ⟨mP_blind, hrecv, fun U hU hWm => ⟨rfl, by rw [hU], by rw [hU]; exact hB, va_K.moved hWm.alike E.2.1, JW.warm hWm E.2.2⟩⟩ rfl hn hsize hst (lv_room hW) hdg hf⟩
theorem rnF {x : MethodName} {count : Nat} {cC : ClassId} (E : ME p m c cc nL s args own D cl ct) (hB : B H) (hat : ClassAt s C cC) (hrecv : ∃ cellB : Cell, H[b0]? = some cellB ∧ cellB.vm.isStatics = false ∧ s.vm.findClass C = some cellB.cls) (hM : Met l y ws rm (mP D cl ct (.ref b0 :: As) H.size B) (mC v Bt A1) mc ms A1) (cw : va_CI R s args own C index x y bytes maxL ret ws rm mc ms n)
    (hn : As.length = n) (hsize : ls.size = nL) (hst : st0 = As.reverse ++ .ref b0 :: rest) (hW : (rest.map fun v => v.category).sum ≤ 8) (hdg : decode cc pc = .ok (.invokeinterface index count, 5)) (hf : cells + mc ≤ R.cells ∧ slots + ms ≤ R.slots) : ∃ arr, RunL 5 p l e R s m args below meth c H locs cells slots mc ms (F0 m pc ls st0) rest (mC v Bt A1 arr) A1 :=
  ⟨_, va_runF hat E.1 hM cw ⟨mP_blind, hrecv, fun U hU hWm => ⟨rfl, by rw [hU], by rw [hU]; exact hB, va_K.moved hWm.alike E.2.1, JW.warm hWm E.2.2⟩⟩ rfl hn hsize hst (lv_room hW) hdg hf⟩
/-- a call that changes nothing -/
theorem gc_ro (hG : GW D cl ck ct N ad P A S w h H) (hS : va_S A0 H0 H locs) (hA0 : ∀ q, H0.size ≤ q → A0 q) (hr : ∀ o, sp' = some o → ∃ arr, RunL len p l e R s m args below meth c H locs cells slots 0 0 (F0 m pc ls st0) rest (mC (val' o) (fun _ => True) (nA H.size) arr) (nA H.size))
    (kk : ∀ (o : ρ') (H1 : Heap) (locs1 : List Loc), GW D cl ck ct N ad P A S w h H1 → va_S A0 H0 H1 locs1 → X p l e R s m args below meth c H1 locs1 cells slots Qf (kp o) (F0 m (pc + len) ls ((val' o).toList ++ rest))) : X p l e R s m args below meth c H locs cells slots Qf (callK sp' kp) (F0 m pc ls st0) :=
  x_afterL (Bt' := fun _ _ => True) hS (fun q hq => hA0 q (Nat.le_trans hS.1 hq)) hr fun o H1 locs1 _ _ hz hk hS1 => kk o H1 locs1 (hG.kept hz fun q hq => hk q hq (Nat.not_le.mpr hq)) hS1
/-- a call that knows no world -/
theorem gc_pure (hS : va_S A0 H0 H locs) (hA0 : ∀ q, H0.size ≤ q → A0 q) (hr : ∀ o, sp' = some o → ∃ arr, RunL len p l e R s m args below meth c H locs cells slots 0 0 (F0 m pc ls st0) rest (mC (val' o) (fun _ => True) (nA H.size) arr) (nA H.size))
    (kk : ∀ (o : ρ') (H1 : Heap) (locs1 : List Loc), H.size ≤ H1.size → (∀ q : Nat, q < H.size → H1[q]? = H[q]?) → va_S A0 H0 H1 locs1 → X p l e R s m args below meth c H1 locs1 cells slots Qf (kp o) (F0 m (pc + len) ls ((val' o).toList ++ rest))) : X p l e R s m args below meth c H locs cells slots Qf (callK sp' kp) (F0 m pc ls st0) :=
  x_afterL (Bt' := fun _ _ => True) hS (fun q hq => hA0 q (Nat.le_trans hS.1 hq)) hr fun o H1 locs1 _ _ hz hk hS1 => kk o H1 locs1 hz (fun q hq => hk q hq (Nat.not_le.mpr hq)) hS1
/-- a call that changes the numbered world alone -/
theorem gc_mod {So : ρ' → US} (hG : GW D cl ck ct N ad P A S w h H) (hS : va_S A H0 H locs) (hA0 : ∀ q, H0.size ≤ q → A q) (hr : ∀ o, sp' = some o → ∃ arr, RunL len p l e R s m args below meth c H locs cells slots 0 0 (F0 m pc ls st0) rest (mC (val' o) (UW D cl ck ct N ad P (fun _ => True) (So o) w) (uA N ad H.size) arr) (uA N ad H.size))
    (kk : ∀ (o : ρ') (H1 : Heap) (locs1 : List Loc), GW D cl ck ct N ad P A (So o) w h H1 → va_S A H0 H1 locs1 → X p l e R s m args below meth c H1 locs1 cells slots Qf (kp o) (F0 m (pc + len) ls ((val' o).toList ++ rest))) : X p l e R s m args below meth c H locs cells slots Qf (callK sp' kp) (F0 m pc ls st0) :=
  x_afterL (Bt' := fun o => UW D cl ck ct N ad P (fun _ => True) (So o) w) hS (fun q hq => by
      rcases hq with ⟨j, hj, rfl⟩ | hq
      · exact hG.1.inA hj
      · exact hA0 q (Nat.le_trans hS.1 hq)) hr fun o H1 locs1 _ hB hz hk hS1 => kk o H1 locs1 ⟨hB.to fun j hj => hG.1.inA hj, hG.2.1.kept fun a' e' ha => hk a' (hG.2.1.lt ha) (fun hq => by
      rcases hq with ⟨j, hj, rfl⟩ | hq
      · exact hG.2.2.1 _ _ j ha hj rfl
      · exact absurd (hG.2.1.lt ha) (Nat.not_lt.mpr hq)), hG.2.2.1, fun q hlt => (hk q (Nat.lt_of_lt_of_le hlt hG.2.2.2.2.1) (fun hq => by
      rcases hq with ⟨j, hj, rfl⟩ | hq
      · exact absurd hlt (Nat.not_lt.mpr (hG.2.2.2.2.2.1 j hj))
      · exact absurd (Nat.lt_of_lt_of_le hlt hG.2.2.2.2.1) (Nat.not_lt.mpr hq))).trans (hG.2.2.2.1 q hlt), Nat.le_trans hG.2.2.2.2.1 hz, hG.2.2.2.2.2⟩ hS1
/-- a free reference of the world's object is read -/
theorem gx_getO {i ci n : Nat} {fk : Nat → Nat} {C ref : String} {T : u_T} {index : Nat} {kp : Option Nat → Option ρ} (E : ME p m c cc nL s args own D cl ct) (hG : GW D cl ck ct N ad P A S w h H) (hi : i < N) (hck : ck i = .inl (ci, n, fk)) (hc : cl[ci]? = some (C, T, n)) (hin : ∀ w ∈ u_ws C T n, w ∈ lw_all) (k : Nat) (hk : k < n) (hf : fk k = 2)
    (hlink : (Cond.fieldLink own index ref (T k).2.1 (T k).2.2.1).before args s = true) (hsame : ∀ x, s.fieldFound? (T k).1 (T k).2.1 (T k).2.2.1 = some x → s.fieldFound? ref (T k).2.1 (T k).2.2.1 = some x) (hdg : decode cc pc = .ok (.getfield index, 3))
    (kk : ∀ r, X p l e R s m args below meth c H locs cells slots Qf (kp r) (F0 m (pc + 3) ls (va_rf r :: rest))) : X p l e R s m args below meth c H locs cells slots Qf (letB (P i k) kp) (F0 m pc ls (.ref (ad i) :: rest)) :=
  ux_get E hG.1 hi hck hc hin k hk (v := va_rf (P i k)) (by simp [uV, hf]) hlink hsame hdg (kk _)
theorem gx_getON {i ci n : Nat} {fk : Nat → Nat} {C ref host : String} {T : u_T} {index : Nat} {kp : Option Nat → Option ρ} (E : ME p m c cc nL s args own D cl ct) (hG : GW D cl ck ct N ad P A S w h H) (hi : i < N) (hck : ck i = .inl (ci, n, fk)) (hc : cl[ci]? = some (C, T, n)) (hin : ∀ w ∈ u_ws C T n, w ∈ lw_all) (k : Nat) (hk : k < n) (hf : fk k = 2)
    (hlink : (Cond.fieldLinkNest own index ref (T k).2.1 (T k).2.2.1 host).before args s = true) (hsame : ∀ x, s.fieldFound? (T k).1 (T k).2.1 (T k).2.2.1 = some x → s.fieldFound? ref (T k).2.1 (T k).2.2.1 = some x) (hdg : decode cc pc = .ok (.getfield index, 3))
    (kk : ∀ r, X p l e R s m args below meth c H locs cells slots Qf (kp r) (F0 m (pc + 3) ls (va_rf r :: rest))) : X p l e R s m args below meth c H locs cells slots Qf (letB (P i k) kp) (F0 m pc ls (.ref (ad i) :: rest)) :=
  ux_getN E hG.1 hi hck hc hin k hk (v := va_rf (P i k)) (by simp [uV, hf]) hlink hsame hdg (kk _)
theorem gx_put (E : ME p m c cc nL s args own D cl ct) (hG : GW D cl ck ct N ad P A S w h H) (hS : va_S A H0 H locs) {i ci n : Nat} {fk : Nat → Nat} {C ref : String} {T : u_T} {index : Nat} {ty0 : Nat → FieldType} (hi : i < N) (hck : ck i = .inl (ci, n, fk)) (hc : cl[ci]? = some (C, T, n)) (hin : ∀ w ∈ u_ws C T n, w ∈ lw_all) (hty : ∀ k, k < n → parseFieldDescriptor (T k).2.2.1 = some (ty0 k)) (hnm : ∀ a, a < n → ∀ b, b < n → a ≠ b → (T a).2.1 ≠ (T b).2.1) (k : Nat) (hk : k < n) (hf : fk k = 0)
    (hlink : (Cond.fieldLink own index ref (T k).2.1 (T k).2.2.1).before args s = true) (hsame : ∀ x, s.fieldFound? (T k).1 (T k).2.1 (T k).2.2.1 = some x → s.fieldFound? ref (T k).2.1 (T k).2.2.1 = some x) (hfin : (T k).2.2.2 = false) {v : Int32} (hn : narrow (ty0 k) (.int v) = .int v) (hfit : fits (ty0 k) (.int v) = true) (hdg : decode cc pc = .ok (.putfield index, 3)) {kp : US → Option ρ}
    (kk : ∀ (S1 : US) (H1 : Heap) (locs1 : List Loc), GW D cl ck ct N ad P A S1 w h H1 → va_S A H0 H1 locs1 → SameSz H H1 → X p l e R s m args below meth c H1 locs1 cells slots Qf (kp S1) (F0 m (pc + 3) ls rest)) : X p l e R s m args below meth c H locs cells slots Qf (letB (u2 S i k v) kp) (F0 m pc ls (.int v :: .ref (ad i) :: rest)) := fun o ho => by
  obtain ⟨⟨hx, hb, hml, hown, hts⟩, hK, hJ⟩ := E
  have hap := va_apart (own := own) hts hin ty0 hty hnm hK hc
  have he : (uws ck ct N ad P S w)[i]? = some (ad i, .inr (ci, (List.range n).map (uV fk ad (S i) w (P i)))) := by rw [uws_at hi, uE_obj hck]
  obtain ⟨r, h1, cell, q1, q2, q3, q4⟩ := hG.1.1 i _ he
  have hr : r = (C, T, n) := Option.some.inj (h1.symm.trans hc)
  subst hr
  obtain ⟨hS', hfc, kC, hkC, hkind⟩ := hK.1 ci _ hc
  obtain ⟨cf, kf, fi, f, hi', hsl⟩ := hS' k hk
  have hlay := hts _ (hin _ (u_in_lay hk))
  unfold u_lay at hlay
  rw [if_neg (by rw [hfin]; decide)] at hlay
  have hst := (u_facts hfc hkC (u_lays hts hin hk) hi').1
  have h6 := u_store hfc hkC hkind hlay hi' (hty k hk) hn hfit
  refine W.putK hx hb (f := f) ⟨hown, hlink, ⟨_, _, _, hsame _ hi'⟩, hst⟩ (by rw [q2]; exact h6) q1 q3 (by rw [hsl]; exact k2_hasslot (q4 k hk)) rfl rfl hdg fun H' e1 e2 e3 => ?_
  have hl : k < ((List.range n).map (uV fk ad (S i) w (P i))).length := by simpa using hk
  have e1' := e1
  rw [hsl] at e1'
  have hat : va_at D cl (ad i, .inr (ci, ((List.range n).map (uV fk ad (S i) w (P i))).set k (.int v))) H' := ⟨_, hc, t_OB.to (V := updV (vp_V ((List.range n).map (uV fk ad (S i) w (P i)))) k (.int v)) ⟨_, e1', q2, q3, t_set q4 hap hk (.int v)⟩ (fun j _ => vp_updV_set hl (.int v) j)⟩
  have p1 := hG.1.1.set hG.1.2 he hat e3
  have p2 := hG.1.2.set (e := .inr (ci, ((List.range n).map (uV fk ad (S i) w (P i))).set k (.int v))) he
  rw [uV_set hk hf, uws_set hi (by rw [uE_obj hck])] at p1 p2
  exact kk _ H' _ ⟨⟨p1, p2⟩, hG.2.1.kept fun a' e' ha => e3 a' (hG.2.2.1 _ _ i ha hi), hG.2.2.1, hG.2.2.2.put (hG.2.2.2.2.2.1 i hi) e2 e3⟩ (hS.put e2 e3 (hG.1.inA hi)) ⟨e2, fun q => by
    by_cases hq : q = ad i
    · subst hq
      rw [e1, q1]
      simp [Cell.setSlot]
    · rw [e3 q hq]⟩ o ho
theorem gx_ast (E : ME p m c cc nL s args own D cl ct) (hG : GW D cl ck ct N ad P A S w h H) (hS : va_S A H0 H locs) {i n : Nat} {j v : Int32} (hi : i < N) (hck : ck i = .inr (0, n)) (hdg : decode cc pc = .ok (.iastore, 1)) {kp : US → Option ρ}
    (kk : ∀ (S1 : US) (H1 : Heap) (locs1 : List Loc), GW D cl ck ct N ad P A S1 w h H1 → va_S A H0 H1 locs1 → SameSz H H1 → X p l e R s m args below meth c H1 locs1 cells slots Qf (kp S1) (F0 m (pc + 1) ls rest)) : X p l e R s m args below meth c H locs cells slots Qf (if j < 0 ∨ n ≤ j.toNatClampNeg then Option.none else letB (u2 S i j.toNatClampNeg v) kp) (F0 m pc ls (.int v :: .int j :: .ref (ad i) :: rest)) := X.guard fun hin o ho => by
  obtain ⟨⟨hx, hb, hml, hown, hts⟩, hK, hJ⟩ := E
  have ha : (uws ck ct N ad P S w)[i]? = some (ad i, .inl (ct.1 0, n, .inl (S i))) := by rw [uws_at hi, uE_arr hck]
  have hc0 := hG.1.1 i _ ha
  refine W.iast hx hb hc0 ((hK.2 0 _ rfl).1 n (fun j => .int (S i j))) (fun q => by cases q) (by show ¬ (j < 0 ∨ (arrV _ _ _).slots.size ≤ _); rw [arrV_size]; exact hin) rfl rfl hdg fun H1 e z oq => ?_
  have hcell : va_at D cl (ad i, .inl (ct.1 0, n, .inl (upd (S i) j.toNatClampNeg v))) H1 := by
    show H1[ad i]? = some (vp_cell _ _)
    rw [e]
    rw [vp_cell_i, vp_cell_i, arrV_store]
    congr 2
    funext q
    by_cases hq : q = j.toNatClampNeg
    · subst hq
      simp [updV, upd]
    · simp [updV, upd, hq]
  have p1 := hG.1.1.set hG.1.2 ha hcell oq
  have p2 := hG.1.2.set (e := .inl (ct.1 0, n, .inl (upd (S i) j.toNatClampNeg v))) ha
  rw [uws_set hi (by rw [uE_arr hck, u2_upd])] at p1 p2
  exact kk _ H1 _ ⟨⟨p1, p2⟩, hG.2.1.kept fun a' e' ha' => oq a' (hG.2.2.1 _ _ i ha' hi), hG.2.2.1, hG.2.2.2.put (hG.2.2.2.2.2.1 i hi) z oq⟩ (hS.put z oq (hG.1.inA hi)) ⟨z, fun q => by
    by_cases hq : q = ad i
    · subst hq
      have h0 : H[ad i]? = some (vp_cell (ct.1 0) (n, .inl (S i))) := hc0
      have h1 : H1[ad i]? = some (vp_cell (ct.1 0) (n, .inl (upd (S i) j.toNatClampNeg v))) := hcell
      rw [h0, h1]
      simp [vp_cell_i, arrV_size]
    · rw [oq q hq]⟩ o ho
theorem gx_bast (E : ME p m c cc nL s args own D cl ct) (hG : GW D cl ck ct N ad P A S w h H) (hS : va_S A H0 H locs) {i n : Nat} {j v : Int32} (hi : i < N) (hck : ck i = .inr (2, n)) (hdg : decode cc pc = .ok (.bastore, 1)) {kp : US → Option ρ}
    (kk : ∀ (S1 : US) (H1 : Heap) (locs1 : List Loc), GW D cl ck ct N ad P A S1 w h H1 → va_S A H0 H1 locs1 → SameSz H H1 → X p l e R s m args below meth c H1 locs1 cells slots Qf (kp S1) (F0 m (pc + 1) ls rest)) : X p l e R s m args below meth c H locs cells slots Qf (if j < 0 ∨ n ≤ j.toNatClampNeg then Option.none else letB (u2 S i j.toNatClampNeg (vp_nar .byte v)) kp) (F0 m pc ls (.int v :: .int j :: .ref (ad i) :: rest)) := X.guard fun hin o ho => by
  obtain ⟨⟨hx, hb, hml, hown, hts⟩, hK, hJ⟩ := E
  have ha : (uws ck ct N ad P S w)[i]? = some (ad i, .inl (ct.1 2, n, .inl (S i))) := by rw [uws_at hi, uE_arr hck]
  have hc0 := hG.1.1 i _ ha
  refine W.bast hx hb hc0 ((hK.2 2 _ rfl).1 n (fun j => .int (S i j))) (fun q => by cases q) (by show ¬ (j < 0 ∨ (arrV _ _ _).slots.size ≤ _); rw [arrV_size]; exact hin) rfl rfl hdg fun H1 e z oq => ?_
  have hcell : va_at D cl (ad i, .inl (ct.1 2, n, .inl (upd (S i) j.toNatClampNeg (vp_nar .byte v)))) H1 := by
    show H1[ad i]? = some (vp_cell _ _)
    rw [e]
    rw [vp_cell_i, vp_cell_i, arrV_store]
    congr 2
    funext q
    by_cases hq : q = j.toNatClampNeg
    · subst hq
      simp [updV, upd]
      rfl
    · simp [updV, upd, hq]
  have p1 := hG.1.1.set hG.1.2 ha hcell oq
  have p2 := hG.1.2.set (e := .inl (ct.1 2, n, .inl (upd (S i) j.toNatClampNeg (vp_nar .byte v)))) ha
  rw [uws_set hi (by rw [uE_arr hck, u2_upd])] at p1 p2
  exact kk _ H1 _ ⟨⟨p1, p2⟩, hG.2.1.kept fun a' e' ha' => oq a' (hG.2.2.1 _ _ i ha' hi), hG.2.2.1, hG.2.2.2.put (hG.2.2.2.2.2.1 i hi) z oq⟩ (hS.put z oq (hG.1.inA hi)) ⟨z, fun q => by
    by_cases hq : q = ad i
    · subst hq
      have h0 : H[ad i]? = some (vp_cell (ct.1 2) (n, .inl (S i))) := hc0
      have h1 : H1[ad i]? = some (vp_cell (ct.1 2) (n, .inl (upd (S i) j.toNatClampNeg (vp_nar .byte v)))) := hcell
      rw [h0, h1]
      simp [vp_cell_i, arrV_size]
    · rw [oq q hq]⟩ o ho
/-- a static of an old cell -/
theorem gx_gets (E : ME p m c cc nL s args own D cl ct) (hG : GW D cl ck ct N ad P A S w h H) {C' n' d' ref : String} {v' : Value} {index : Nat} (hz : (C', n', d', v') ∈ szL ct) (hlink : (Cond.fieldLink own index ref n' d').before args s = true) (hsame : ∀ x, s.fieldFound? C' n' d' = some x → s.fieldFound? ref n' d' = some x) (hdg : decode cc pc = .ok (.getstatic index, 3))
    (kk : X p l e R s m args below meth c H locs cells slots Qf sp (F0 m (pc + 3) ls (v' :: rest))) : X p l e R s m args below meth c H locs cells slots Qf sp (F0 m pc ls rest) := fun o ho => by
  obtain ⟨⟨hx, hb, hml, hown, hts⟩, hK, hJ⟩ := E
  obtain ⟨cf, kf, fi, f, a, cell, h1, h2, h3, h4, h5, h6, h7, h8⟩ := hJ.1 _ hz
  exact W.gets hx hb hown hlink (hsame _ h1) h2 h3 h4 (by rw [hG.2.2.2.1 a (Nat.not_le.mp h8)]; exact h5) (fun e => by rw [e] at h6; cases h6) h7 rfl hdg (kk o ho)
theorem x_aret (hexec : p.tables.exec = Jvm.exec) (hb : c.code = cc) {rt : FieldType} (hr : meth.sig.returnType = some rt ∧ ((∃ n, rt = .object n) ∨ ∃ t, rt = .array t)) (hlocks : meth.locks = false) (hS : va_S A s.heap H locs) {val : ρ → Option Value} {Bt : ρ → Heap → Prop} {o : ρ} {q : Nat} (hv : val o = some (.ref q)) (hB : Bt o H) (hdg : decode cc pc = .ok (.areturn, 1)) : X p l e R s m args below meth c H locs cells slots (mQ below args s cells slots A val Bt) (some o) (F0 m pc ls [.ref q]) := fun o' ho => by
  cases ho
  exact W.aret hexec hb hr.1 hr.2 (Or.inr ⟨_, rfl⟩) (fun t ht hW => ⟨by rw [hv], by rw [ht]; exact hB, hS.F ht⟩) hS.2.2 hdg hlocks
theorem x_aretO (hexec : p.tables.exec = Jvm.exec) (hb : c.code = cc) {rt : FieldType} (hr : meth.sig.returnType = some rt ∧ ((∃ n, rt = .object n) ∨ ∃ t, rt = .array t)) (hlocks : meth.locks = false) (hS : va_S A s.heap H locs) {val : ρ → Option Value} {Bt : ρ → Heap → Prop} {o : ρ} {r : Option Nat} (hv : val o = some (va_rf r)) (hB : Bt o H) (hdg : decode cc pc = .ok (.areturn, 1)) : X p l e R s m args below meth c H locs cells slots (mQ below args s cells slots A val Bt) (some o) (F0 m pc ls [va_rf r]) := fun o' ho => by
  cases ho
  exact W.aret hexec hb hr.1 hr.2 (by cases r; exact Or.inl rfl; exact Or.inr ⟨_, rfl⟩) (fun t ht hW => ⟨by rw [hv], by rw [ht]; exact hB, hS.F ht⟩) hS.2.2 hdg hlocks
end XH
theorem lw_F {own : String} {idx : Nat} {C : String} {x y : MethodName} {b : ByteArray} {L : Nat} {r : Option FieldType} (h1 : Cond.methodLink own idx x ∈ lw_all) (h2 : Cond.selects C x y ∈ lw_all) (h3 : Cond.instanceMethod y ∈ lw_all) (h4 : Cond.initialized y.cls ∈ lw_all) (h5 : Cond.code y b L r ∈ lw_all) : GoodIn lw_all (va_wsF own idx C x y (ws_ y b L r)) := by
  refine lw_app ?_ (lw_meth h5)
  intro w hw
  simp only [List.mem_cons, List.not_mem_nil, or_false] at hw
  rcases hw with e | e | e | e
  · rw [e]; exact h1
  · rw [e]; exact h2
  · rw [e]; exact h3
  · rw [e]; exact h4
theorem lw_SU {own : String} {idx : Nat} {y : MethodName} {b : ByteArray} {L : Nat} {r : Option FieldType} (h1 : Cond.methodLink own idx y ∈ lw_all) (h2 : Cond.sameMethod y.cls y.cls y.name y.desc ∈ lw_all) (h3 : Cond.superclass own y.cls ∈ lw_all) (h4 : Cond.instanceMethod y ∈ lw_all) (h5 : Cond.initialized y.cls ∈ lw_all) (h6 : Cond.code y b L r ∈ lw_all) : GoodIn lw_all (va_wsSU own idx y (ws_ y b L r)) := by
  refine lw_app ?_ (lw_meth h6)
  intro w hw
  simp only [List.mem_cons, List.not_mem_nil, or_false] at hw
  rcases hw with e | e | e | e | e
  · rw [e]; exact h1
  · rw [e]; exact h2
  · rw [e]; exact h3
  · rw [e]; exact h4
  · rw [e]; exact h5
section XF
variable {ρ : Type} {p : Program} {l : Launch} {e : Env} {R : Room} {s : State} {m : MethodId} {args : Array Value} {below : List Frame} {meth : Method} {c : Code} {H : Heap} {locs : List Loc} {cells slots : Nat} {Qf : ρ → State → Prop} {sp : Option ρ}
variable {cc : ByteArray} {pc nL : Nat} {ls : Array Slot} {rest : List Value} {own : String} {D : va_G} {ct : CT} {h : AH}
/-- a cast to HorizonSeam$Form -/
theorem fx_castF (E : ME p m c cc nL s args own D clW ct) (hh : AP D clW ct h H) {q index : Nat} (hlink : (Cond.classLink own index "HorizonSeam$Form").before args s = true) (hdg : decode cc pc = .ok (.checkcast index, 3))
    (kk : X p l e R s m args below meth c H locs cells slots Qf sp (F0 m (pc + 3) ls (.ref q :: rest))) : X p l e R s m args below meth c H locs cells slots Qf (hF h q sp) (F0 m pc ls (.ref q :: rest)) := fun o ho => by
  obtain ⟨⟨hx, hb, hml, hown, hts⟩, hK, hJ⟩ := E
  obtain ⟨ci, fs, bw, h1, hci, h3⟩ := hF_some ho
  rcases hci with rfl | rfl | rfl | rfl
  · exact va_castY hx hb hown hlink (hJ.nw q500 rfl) (recvA hK hh h1 rfl) hdg (kk o h3)
  · exact va_castY hx hb hown hlink (hJ.nw q530 rfl) (recvA hK hh h1 rfl) hdg (kk o h3)
  · exact va_castY hx hb hown hlink (hJ.nw q536 rfl) (recvA hK hh h1 rfl) hdg (kk o h3)
  · exact va_castY hx hb hown hlink (hJ.nw q522 rfl) (recvA hK hh h1 rfl) hdg (kk o h3)
end XF
/-! the world of HorizonSeam: 0 itself, 1 its ring, 2 values, 3 tape, 4 refused; lc L 0 .. lc L 6: line L (0 the line, 1 the one tried, 2 as it was): itself, strain, seam, stitch, at, thread, pulled -/
def lc (L r : Nat) : Nat := 7 * L + 5 + r
theorem lc_lt {L r : Nat} (hL : L < 3) (hr : r < 7) : lc L r < 26 := by unfold lc; omega
def fkX : Nat → Nat := fun k => match k with
  | 0 => 2 + 3
  | 1 => 1 + 3
  | 2 => lc 0 0 + 3
  | 3 => lc 1 0 + 3
  | 4 => lc 2 0 + 3
  | 5 => 3 + 3
  | 8 => 4 + 3
  | 9 => 2
  | 10 => 2
  | 11 => 2
  | 12 => 2
  | 13 => 2
  | _ => 0
def fkR : Nat → Nat := fun k => match k with
  | 2 => 0
  | 3 => 0
  | _ => 2
def fkL (L : Nat) : Nat → Nat := fun k => match k with
  | 6 => 0
  | 7 => 0 + 3
  | k => lc L (k + 1) + 3
def lineK (L r : Nat) : UC := match r with
  | 0 => .inl (3, 8, fkL L)
  | 4 => .inr (0, 6)
  | 5 => .inr (0, 6)
  | _ => .inr (0, 12)
def ckH : Nat → UC := fun i => match i with
  | 0 => .inl (1, 15, fkX)
  | 1 => .inl (2, 6, fkR)
  | 2 => .inr (0, 6)
  | 3 => .inr (2, 700)
  | 4 => .inr (0, 3)
  | j + 5 => lineK (j / 7) (j % 7)
theorem ck_lc {L r : Nat} (hr : r < 7) : ckH (lc L r) = lineK L r := by
  have e : lc L r = (7 * L + r) + 5 := by unfold lc; omega
  rw [e]
  show lineK ((7 * L + r) / 7) ((7 * L + r) % 7) = lineK L r
  rw [show (7 * L + r) / 7 = L by omega, show (7 * L + r) % 7 = r by omega]
abbrev GH (D : va_G) (ct : CT) (ad : Nat → Nat) (P : Nat → Nat → Option Nat) (A : Nat → Prop) (S : US) (h : AH) (H : Heap) : Prop := GW D clW ckH ct 26 ad P A S 0 h H
