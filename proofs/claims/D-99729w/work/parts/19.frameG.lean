set_option maxRecDepth 100000
/-! THE FRAME, third part: methods that make cells. G: the free heap, the next address, the slots counted so far -/
abbrev GS : Type := AH × Nat × Nat
def tSl (H : Heap) : Nat := (H.toList.map (fun c => c.slots.size)).sum
def nmax (ct : CT) : Nat := ct.2.1 20
def zmax (ct : CT) : Nat := ct.2.1 21
/-- the world of a method that makes cells -/
def MW (D : va_G) (cl : List vw_C) (ck : Nat → UC) (ct : CT) (N : Nat) (ad : Nat → Nat) (P : Nat → Nat → Option Nat) (A : Nat → Prop) (S : US) (w : Int64) (G : GS) (H : Heap) : Prop :=
  GW D cl ck ct N ad P A S w G.1 H ∧ H.size = G.2.1 ∧ (∀ (a : Nat) (x : AX), G.1 a = some (true, x) → A a) ∧ G.2.1 ≤ nmax ct ∧ G.2.2 ≤ zmax ct
/-- which cells it may change -/
def mA (N : Nat) (ad : Nat → Nat) (G : GS) : Nat → Prop := fun q => (∃ i, i < N ∧ q = ad i) ∨ (∃ x, G.1 q = some (true, x)) ∨ G.2.1 ≤ q
theorem MW.to {D : va_G} {cl : List vw_C} {ck : Nat → UC} {ct : CT} {N : Nat} {ad : Nat → Nat} {P : Nat → Nat → Option Nat} {A B : Nat → Prop} {S : US} {w : Int64} {G : GS} {H : Heap} (h : MW D cl ck ct N ad P A S w G H) (hB : ∀ q, A q → q < H.size → B q) : MW D cl ck ct N ad P B S w G H :=
  ⟨h.1.to fun i hi => hB _ (h.1.1.inA hi) (h.1.1.lt hi), h.2.1, fun a x ha => hB a (h.2.2.1 a x ha) (h.1.2.1.lt ha), h.2.2.2⟩
theorem MW.any {D : va_G} {cl : List vw_C} {ck : Nat → UC} {ct : CT} {N : Nat} {ad : Nat → Nat} {P : Nat → Nat → Option Nat} {A : Nat → Prop} {S : US} {w : Int64} {G : GS} {H : Heap} (h : MW D cl ck ct N ad P A S w G H) : MW D cl ck ct N ad P (fun _ => True) S w G H := h.to fun _ _ _ => trivial
/-- at a method's start its world lies in the cells that it may change -/
theorem MW.start {D : va_G} {cl : List vw_C} {ck : Nat → UC} {ct : CT} {N : Nat} {ad : Nat → Nat} {P : Nat → Nat → Option Nat} {A : Nat → Prop} {S : US} {w : Int64} {G : GS} {H : Heap} (h : MW D cl ck ct N ad P A S w G H) : MW D cl ck ct N ad P (mA N ad G) S w G H :=
  ⟨h.1.to fun i hi => Or.inl ⟨i, hi, rfl⟩, h.2.1, fun a x ha => Or.inr (Or.inl ⟨x, ha⟩), h.2.2.2⟩
theorem tSl_eq {H H1 : Heap} (h : SameSz H H1) : tSl H1 = tSl H := by
  unfold tSl
  congr 1
  apply List.ext_getElem?
  intro q
  have := h.2 q
  simpa [List.getElem?_map] using this
theorem take_map_sum {α : Type} (f : α → Nat) : ∀ (l : List α) (n : Nat), (l.map f).sum = ((l.take n).map f).sum + ((l.drop n).map f).sum := by
  intro l n
  rw [← List.sum_append, ← List.map_append, List.take_append_drop]
section YW
variable {p : Program} {l : Launch} {e : Env} {R : Room} {s : State} {m : MethodId} {args : Array Value} {below : List Frame} {meth : Method} {c : Code} {H : Heap} {locs : List Loc} {cells slots : Nat} {Q : State → Prop} {g : JFrame}
theorem same_tSl {T : State} (X : Stand p l e R s m args below meth c T locs cells slots) : s.heap.size ≤ T.heap.size ∧ T.heap.size ≤ s.heap.size + cells ∧ tSl T.heap = tSl s.heap + ((T.heap.toList.drop s.heap.size).map (·.slots.size)).sum ∧ ((T.heap.toList.drop s.heap.size).map (·.slots.size)).sum ≤ slots := by
  obtain ⟨-, h1, h2, h3, h4, h5⟩ := X.same
  have h1 : s.heap.size ≤ T.heap.size := h1
  have h5 : ∀ a c, s.heap[a]? = some c → ∃ c', T.heap[a]? = some c' ∧ c' = { c with slots := c'.slots } ∧ c'.slots.size = c.slots.size ∧ ∀ i, (⟨a, i⟩ : Loc) ∉ locs → c'.slots[i]? = c.slots[i]? := h5
  refine ⟨h1, h2, ?_, h4⟩
  unfold tSl
  rw [take_map_sum (fun c => c.slots.size) T.heap.toList s.heap.size]
  congr 1
  congr 1
  apply List.ext_getElem?
  intro q
  by_cases hq : q < s.heap.size
  · obtain ⟨c', e1, -, e2, -⟩ := h5 q _ (Array.getElem?_eq_getElem hq)
    simp only [List.getElem?_map, List.getElem?_take, if_pos hq, Array.getElem?_toList, e1, Array.getElem?_eq_getElem hq, Option.map_some, e2]
  · simp only [List.getElem?_map, List.getElem?_take, if_neg hq, Array.getElem?_toList, Array.getElem?_eq_none (Nat.le_of_not_lt hq), Option.map_none]
/-- what the machine knows of the room it has used -/
theorem W.know (k : s.heap.size ≤ H.size → H.size ≤ s.heap.size + cells → tSl H ≤ tSl s.heap + slots → tSl s.heap ≤ tSl H → W p l e R s m args below meth c H locs cells slots Q g) : W p l e R s m args below meth c H locs cells slots Q g := by
  intro T hT X
  obtain ⟨h1, h2, h3, h4⟩ := same_tSl X
  rw [hT] at h1 h2 h3 h4
  exact k h1 h2 (by omega) (by omega) T hT X
/-- the room used, counted again -/
theorem W.tight {k n : Nat} (h1 : H.size ≤ s.heap.size + k) (h2 : tSl H ≤ tSl s.heap + n) (kk : W p l e R s m args below meth c H locs k n Q g) : W p l e R s m args below meth c H locs cells slots Q g := by
  intro T hT X
  obtain ⟨g1, g2, g3, g4⟩ := same_tSl X
  refine kk T hT { X with same := ?_ }
  obtain ⟨a1, a2, a3, a4, a5, a6⟩ := X.same
  refine ⟨a1, a2, ?_, a4, ?_, a6⟩
  · show T.heap.size ≤ _
    rw [hT]; exact h1
  · show ((T.heap.toList.drop s.heap.size).map (·.slots.size)).sum ≤ n
    rw [hT] at g3 ⊢
    omega
end YW
/-- how a method ends that makes cells -/
def yC (v : Option Value) (Bt : Heap → Prop) (G0 G1 : GS) (A : Nat → Prop) : Array Value → State → Outcome → State → Prop := fun _ st oc t => oc = .returned v ∧ (Bt t.heap ∧ G0.2.1 ≤ G1.2.1 ∧ G0.2.2 ≤ G1.2.2 ∧ t.heap.size = G1.2.1 ∧ tSl t.heap ≤ tSl st.heap + (G1.2.2 - G0.2.2)) ∧ va_F A st t
def yQ {ρ : Type} (below : List Frame) (args : Array Value) (s : State) (mc ms : Nat) (G0 : GS) (A : Nat → Prop) (val : ρ → Option Value) (Bt : ρ → Heap → Prop) (Go : ρ → GS) : ρ → State → Prop := fun o => MQ below (yC (val o) (Bt o) G0 (Go o) A) args s mc ms A
def newB {ρ : Type} (ct : CT) (G : GS) (k : Nat) (x : AX) (kp : Nat → GS → Option ρ) : Option ρ := if nmax ct < G.2.1 + 1 ∨ zmax ct < G.2.2 + k then none else kp G.2.1 (hset G.1 G.2.1 (true, x), G.2.1 + 1, G.2.2 + k)
/-- a field of a free object of ours is written -/
def hPut {ρ : Type} (G : GS) (a ci k : Nat) (v : Value) (kp : GS → Option ρ) : Option ρ := match G.1 a with
  | some (true, .inr q) => if q.1 = ci ∧ k < q.2.length then kp (hset G.1 a (true, .inr (ci, q.2.set k v)), G.2) else none
  | _ => none
def hPutQ {ρ : Type} (G : GS) (a t : Nat) (j : Int32) (r : Option Nat) (kp : GS → Option ρ) : Option ρ := match G.1 a with
  | some (true, .inl (t', n, .inr (.inr (.inr (.inr f))))) => if t' = t then (if j < 0 ∨ n ≤ j.toNatClampNeg then none else kp (hset G.1 a (true, .inl (t, n, .inr (.inr (.inr (.inr (va_up f j.toNatClampNeg r)))))), G.2)) else none
  | _ => none
def hPutZ {ρ : Type} (G : GS) (a t : Nat) (j v : Int32) (kp : GS → Option ρ) : Option ρ := match G.1 a with
  | some (true, .inl (t', n, .inl f)) => if t' = t then (if j < 0 ∨ n ≤ j.toNatClampNeg then none else kp (hset G.1 a (true, .inl (t, n, .inl (upd f j.toNatClampNeg v))), G.2)) else none
  | _ => none
theorem hPut_some {ρ : Type} {G : GS} {a ci k : Nat} {v : Value} {kp : GS → Option ρ} {o : ρ} (ho : hPut G a ci k v kp = some o) : ∃ fs : List Value, G.1 a = some (true, .inr (ci, fs)) ∧ k < fs.length ∧ kp (hset G.1 a (true, .inr (ci, fs.set k v)), G.2) = some o := by
  unfold hPut at ho
  split at ho
  · rename_i q e
    split at ho
    · rename_i hq
      exact ⟨q.2, by rw [e, ← hq.1], hq.2, ho⟩
    · cases ho
  · cases ho
theorem hPutQ_some {ρ : Type} {G : GS} {a t : Nat} {j : Int32} {r : Option Nat} {kp : GS → Option ρ} {o : ρ} (ho : hPutQ G a t j r kp = some o) : ∃ (n : Nat) (f : Nat → Option Nat), G.1 a = some (true, .inl (t, n, .inr (.inr (.inr (.inr f))))) ∧ ¬ (j < 0 ∨ n ≤ j.toNatClampNeg) ∧ kp (hset G.1 a (true, .inl (t, n, .inr (.inr (.inr (.inr (va_up f j.toNatClampNeg r)))))), G.2) = some o := by
  unfold hPutQ at ho
  split at ho
  · rename_i t' n f e
    split at ho
    · rename_i ht
      split at ho
      · cases ho
      · rename_i hj
        exact ⟨n, f, by rw [e, ht], hj, ho⟩
    · cases ho
  · cases ho
theorem hPutZ_some {ρ : Type} {G : GS} {a t : Nat} {j v : Int32} {kp : GS → Option ρ} {o : ρ} (ho : hPutZ G a t j v kp = some o) : ∃ (n : Nat) (f : Nat → Int32), G.1 a = some (true, .inl (t, n, .inl f)) ∧ ¬ (j < 0 ∨ n ≤ j.toNatClampNeg) ∧ kp (hset G.1 a (true, .inl (t, n, .inl (upd f j.toNatClampNeg v))), G.2) = some o := by
  unfold hPutZ at ho
  split at ho
  · rename_i t' n f e
    split at ho
    · rename_i ht
      split at ho
      · cases ho
      · rename_i hj
        exact ⟨n, f, by rw [e, ht], hj, ho⟩
    · cases ho
  · cases ho
section MWp
variable {D : va_G} {cl : List vw_C} {ck : Nat → UC} {ct : CT} {N : Nat} {ad : Nat → Nat} {P : Nat → Nat → Option Nat} {A : Nat → Prop} {S : US} {w : Int64} {G : GS} {H H1 : Heap}
theorem AP.set {h : AH} {a : Nat} {x : AX} (hP : AP D cl ct h H) (hq : ∀ (b : Nat) (y : AE), b ≠ a → h b = some y → H1[b]? = H[b]?) (hat : va_at D cl (a, wE ct x) H1) : AP D cl ct (hset h a (true, x)) H1 := fun b y hb => by
  unfold hset at hb
  split at hb
  · rename_i e
    cases hb
    rw [e]
    exact ⟨rdat_of hat, fun _ => hat⟩
  · rename_i e
    exact (hP b y hb).kept (hq b y e hb)
theorem HD.set {h : AH} {a : Nat} {e : AE} (hD : HD h ad N) (ha : ∀ i, i < N → a ≠ ad i) : HD (hset h a e) ad N := fun b y i hb hi => by
  unfold hset at hb
  split at hb
  · rename_i e
    rw [e]
    exact ha i hi
  · exact hD b y i hb hi
theorem own_set {h : AH} {a : Nat} {x : AX} {B : Nat → Prop} (hB : ∀ (b : Nat) (y : AX), h b = some (true, y) → B b) (ha : B a) : ∀ (b : Nat) (y : AX), hset h a (true, x) b = some (true, y) → B b := fun b y hb => by
  unfold hset at hb
  split at hb
  · rename_i e
    rw [e]
    exact ha
  · exact hB b y hb
theorem old_set {h : AH} {a : Nat} {x : AX} {B : Nat → Prop} (hB : ∀ (b : Nat) (y : AX), h b = some (false, y) → B b) : ∀ (b : Nat) (y : AX), hset h a (true, x) b = some (false, y) → B b := fun b y hb => by
  unfold hset at hb
  split at hb
  · cases hb
  · exact hB b y hb
/-- one free cell of ours has changed -/
theorem MW.put {a : Nat} {x0 x : AX} (hM : MW D cl ck ct N ad P A S w G H) (ha : G.1 a = some (true, x0)) (hz : H1.size = H.size) (hq : ∀ q : Nat, q ≠ a → H1[q]? = H[q]?) (hat : va_at D cl (a, wE ct x) H1) : MW D cl ck ct N ad P A S w (hset G.1 a (true, x), G.2) H1 := by
  obtain ⟨⟨hU, hP, hD, hO⟩, h2, h3, h4⟩ := hM
  have hba := hO.2.2.2.1 a x0 ha
  exact ⟨⟨hU.kept fun i hi => hq _ (fun e => hD a _ i ha hi e.symm), hP.set (fun b y e _ => hq b e) hat, hD.set fun i hi => hD a _ i ha hi, fun q hlt => (hq q (by omega)).trans (hO.1 q hlt), by rw [hz]; exact hO.2.1, hO.2.2.1, own_set hO.2.2.2.1 hba, old_set hO.2.2.2.2⟩, by rw [hz]; exact h2, own_set h3 (h3 a x0 ha), h4⟩
/-- a new cell -/
theorem MW.grow {k : Nat} {x : AX} (hM : MW D cl ck ct N ad P A S w G H) (hA : ∀ q, G.2.1 ≤ q → A q) (hz : H1.size = H.size + 1) (hq : ∀ q : Nat, q < H.size → H1[q]? = H[q]?) (hat : va_at D cl (H.size, wE ct x) H1) (hb : ¬ (nmax ct < G.2.1 + 1 ∨ zmax ct < G.2.2 + k)) : MW D cl ck ct N ad P A S w (hset G.1 G.2.1 (true, x), G.2.1 + 1, G.2.2 + k) H1 := by
  obtain ⟨⟨hU, hP, hD, hO⟩, h2, h3, h4⟩ := hM
  rw [h2] at hat
  have hb1 := hO.2.1
  exact ⟨⟨hU.kept fun i hi => hq _ (hU.lt hi), hP.set (fun b y e hb' => hq b (hP.lt hb')) hat, hD.set fun i hi e => by
    have := hU.lt hi
    omega, fun q hlt => (hq q (by omega)).trans (hO.1 q hlt), by rw [hz]; omega, hO.2.2.1, own_set hO.2.2.2.1 (by omega), old_set hO.2.2.2.2⟩, by rw [hz, h2], own_set h3 (hA _ (Nat.le_refl _)), by show G.2.1 + 1 ≤ nmax ct; omega, by show G.2.2 + k ≤ zmax ct; omega⟩
end MWp
/-- what stays through a method that makes cells -/
def YC (ct : CT) (R : Room) (s : State) (A : Nat → Prop) (G0 : GS) : Prop := s.heap.size = G0.2.1 ∧ R.cells = nmax ct - G0.2.1 ∧ R.slots = zmax ct - G0.2.2 ∧ ∀ q, G0.2.1 ≤ q → A q
def YW (D : va_G) (cl : List vw_C) (ck : Nat → UC) (ct : CT) (N : Nat) (ad : Nat → Nat) (P : Nat → Nat → Option Nat) (A : Nat → Prop) (S : US) (w : Int64) (G0 G : GS) (H : Heap) : Prop :=
  MW D cl ck ct N ad P A S w G H ∧ G0.2.1 ≤ G.2.1 ∧ G0.2.2 ≤ G.2.2
theorem MW.of_gw {D : va_G} {cl : List vw_C} {ck : Nat → UC} {ct : CT} {N : Nat} {ad : Nat → Nat} {P P1 : Nat → Nat → Option Nat} {A : Nat → Prop} {S S1 : US} {w : Int64} {G : GS} {H H1 : Heap} (hM : MW D cl ck ct N ad P A S w G H) (hG : GW D cl ck ct N ad P1 A S1 w G.1 H1) (hz : H1.size = H.size) : MW D cl ck ct N ad P1 A S1 w G H1 :=
  ⟨hG, hz.trans hM.2.1, hM.2.2⟩
theorem cast_any {s : State} {H : Heap} {ct : CT} {C : String} {v : Nat} (hJ : JW ct s) (hw : Cond.castable C "java/lang/Object" ∈ lw_tbl) (hr : ∃ cell : Cell, H[v]? = some cell ∧ cell.vm.isStatics = false ∧ s.vm.findClass C = some cell.cls) : va_Any "java/lang/Object" s H v := by
  obtain ⟨cell, h1, h2, h3⟩ := hr
  obtain ⟨kC, hkC, -⟩ := Vm.findClass_spec h3
  obtain ⟨c3, c4, hc3, hc4, hasg⟩ := Cond.castable_spec (hJ.at (args := #[]) hw rfl)
  cases h3.symm.trans hc3
  exact ⟨cell, h1, h2, ⟨kC, hkC⟩, fun comp h => by cases h.symm.trans hc4; exact hasg⟩
theorem clW_cast : ∀ (ci : Nat) (r : vw_C), clW[ci]? = some r → Cond.castable r.1 "java/lang/Object" ∈ lw_tbl := by
  intro ci r h
  match ci, h with
  | 0, h => cases h; exact q2517
  | 1, h => cases h; exact q2513
  | 2, h => cases h; exact q2514
  | 3, h => cases h; exact q2516
  | 4, h => cases h; exact q2519
  | 5, h => cases h; exact q2520
  | 6, h => cases h; exact q2522
  | 7, h => cases h; exact q2523
  | 8, h => cases h; exact q2524
  | 9, h => cases h; exact q2525
  | 10, h => cases h; exact q2515
  | 11, h => cases h; exact q2521
  | 12, h => cases h; exact q2526
  | 13, h => cases h; exact q2512
  | ci + 14, h => simp at h
/-- an address that a free object or int array of the heap has, or nothing: what an array of objects takes -/
def okR (h : AH) (r : Option Nat) : Bool := match r with
  | none => true
  | some y => match h y with
    | some (_, .inr _) => true
    | some (_, .inl q) => q.1 == 0
    | none => false
theorem any_of {s : State} {H : Heap} {D : va_G} {ct : CT} {h : AH} {y : Nat} (hK : va_K D clW (tyW ct) s) (hJ : JW ct s) (hP : AP D clW ct h H) (hy : okR h (some y) = true) : va_Any "java/lang/Object" s H y := by
  unfold okR at hy
  dsimp only at hy
  split at hy
  · rename_i bw q e
    obtain ⟨r, cell, r0, r1, r2, r3, r4, r5⟩ := (hP y _ e).1
    exact cast_any hJ (clW_cast q.1 r r0) ⟨cell, r1, r4, by rw [r2]; exact (hK.1 q.1 _ r0).2.1⟩
  · rename_i bw q e
    obtain ⟨cell, r1, r2, r3, r4, r5, r6⟩ := (hP y _ e).1
    have hq : q.1 = 0 := by simpa using hy
    have hn : s.vm.findClass "[I" = some (ct.1 0) := (hK.2 0 _ rfl).2
    exact cast_any hJ q2532 ⟨cell, r1, r4, by rw [r2, hq]; exact hn⟩
  · cases hy
section YR
variable {ρ ρ' : Type} {p : Program} {l : Launch} {e : Env} {R : Room} {s : State} {m : MethodId} {args : Array Value} {below : List Frame} {meth : Method} {c : Code} {H : Heap} {locs : List Loc} {Qf : ρ → State → Prop} {sp a b : Option ρ} {g : JFrame}
variable {cc : ByteArray} {pc nL : Nat} {ls : Array Slot} {rest : List Value} {own : String}
variable {D : va_G} {ck : Nat → UC} {ct : CT} {N : Nat} {ad : Nat → Nat} {P : Nat → Nat → Option Nat} {A : Nat → Prop} {S : US} {w : Int64} {G0 G : GS}
theorem gy_new {C : String} {T : u_T} {n index ci ni : Nat} {fs : List Value} {kp : Nat → GS → Option ρ} (E : ME p m c cc nL s args own D clW ct) (hC : YC ct R s A G0) (hY : YW D clW ck ct N ad P A S w G0 G H) (hS : va_S A s.heap H locs) (hin : ∀ w ∈ u_ws C T n, w ∈ lw_all) (ty : Nat → FieldType) (hty : ∀ k, k < n → parseFieldDescriptor (T k).2.2.1 = some (ty k)) (hcl : (Cond.classLink own index C).before args s = true) (hinst : (Cond.instantiable C ni).before args s = true) (hini : (Cond.initialized C).before args s = true) (hc : clW[ci]? = some (C, T, n)) (hfs : ∀ j, j < n → defaultValue (ty j) = vp_V fs j) (hdg : decode cc pc = .ok (.new index, 3))
    (kk : ∀ (q : Nat) (G1 : GS) (H1 : Heap), YW D clW ck ct N ad P A S w G0 G1 H1 → va_S A s.heap H1 locs → X p l e R s m args below meth c H1 locs (G1.2.1 - G0.2.1) (G1.2.2 - G0.2.2) Qf (kp q G1) (F0 m (pc + 3) ls (.ref q :: rest))) : X p l e R s m args below meth c H locs (G.2.1 - G0.2.1) (G.2.2 - G0.2.2) Qf (newB ct G ni (.inr (ci, fs)) kp) (F0 m pc ls rest) := fun o ho => by
  unfold newB at ho
  split at ho
  · cases ho
  rename_i hb
  obtain ⟨⟨hx, hbb, hml, hown, hts⟩, hK, hJ⟩ := E
  obtain ⟨hM, hg1, hg2⟩ := hY
  have hz0 := hM.2.1
  have hKn := hK.1 ci _ hc
  refine W.newcK hx hbb hown hcl hinst hini rfl hdg (by rw [hC.2.1]; omega) (by rw [hC.2.2.1]; omega) hKn.2.1 rfl fun H1 kC hkC e1 z1 o1 => ?_
  have h1 := kk G.2.1 (hset G.1 G.2.1 (true, .inr (ci, fs)), G.2.1 + 1, G.2.2 + ni) H1 ⟨hM.grow (fun q hq => hC.2.2.2 q (by omega)) z1 o1 ⟨_, hc, (u_born ty hts hin hKn hkC e1 hty).to hfs⟩ hb, by show G0.2.1 ≤ G.2.1 + 1; omega, by show G0.2.2 ≤ G.2.2 + ni; omega⟩ ⟨Nat.le_trans hS.1 (by omega), fun x h1 h2 => (o1 x (Nat.lt_of_lt_of_le h1 hS.1)).trans (hS.2.1 x h1 h2), hS.2.2⟩ o ho
  dsimp only at h1
  rw [show G.2.1 + 1 - G0.2.1 = G.2.1 - G0.2.1 + 1 by omega, show G.2.2 + ni - G0.2.2 = G.2.2 - G0.2.2 + ni by omega] at h1
  rw [hz0]
  exact h1
/-- a new array of numbers: t its kind -/
theorem gy_newa {atype : ArrayType} {ty : FieldType} {t : Nat} {n : Int32} {x : (Nat → Int32) ⊕ (Nat → Int64) ⊕ (Nat → UInt32) ⊕ (Nat → UInt64) ⊕ (Nat → Option Nat)} {kp : Nat → GS → Option ρ} (E : ME p m c cc nL s args own D clW ct) (hC : YC ct R s A G0) (hY : YW D clW ck ct N ad P A S w G0 G H) (hS : va_S A s.heap H locs) (harr : (Cond.arrayClass (newarray.typeOf atype)).before args s = true) (hty : newarray.typeOf atype = ty) (ht : (tyW ct)[t]? = some (ct.1 t, ty)) (hra : va_RA s (ct.1 t) ty → s.vm.findClass ("[" ++ ty.toString) = some (ct.1 t)) (hd : ∀ j, vSlot x j = defaultValue ty) (hcb : componentBytes ty ≤ 8) (hdg : decode cc pc = .ok (.newarray atype, 2))
    (kk : ∀ (q : Nat) (G1 : GS) (H1 : Heap), YW D clW ck ct N ad P A S w G0 G1 H1 → va_S A s.heap H1 locs → X p l e R s m args below meth c H1 locs (G1.2.1 - G0.2.1) (G1.2.2 - G0.2.2) Qf (kp q G1) (F0 m (pc + 2) ls (.ref q :: rest))) : X p l e R s m args below meth c H locs (G.2.1 - G0.2.1) (G.2.2 - G0.2.2) Qf (if n < 0 ∨ 67108864 < n.toNatClampNeg then none else newB ct G n.toNatClampNeg (.inl (t, n.toNatClampNeg, x)) kp) (F0 m pc ls (.int n :: rest)) := X.guard fun hn o ho => by
  unfold newB at ho
  split at ho
  · cases ho
  rename_i hb
  subst hty
  obtain ⟨⟨hx, hbb, hml, hown, hts⟩, hK, hJ⟩ := E
  obtain ⟨hM, hg1, hg2⟩ := hY
  have hz0 := hM.2.1
  refine va_newaK hx hbb harr rfl hdg rfl (fun q => hn (Or.inl q)) rfl (by
    have : ¬ 67108864 < n.toNatClampNeg := fun q => hn (Or.inr q)
    calc n.toNatClampNeg * componentBytes (newarray.typeOf atype) ≤ 67108864 * 8 := Nat.mul_le_mul (by omega) hcb
      _ ≤ 536870912 := by decide) (by rw [hC.2.1]; omega) (by rw [hC.2.2.1]; omega) rfl fun H1 cA e1 z1 o1 hAr hNm => ?_
  have hcA : cA = ct.1 t := Option.some.inj (hNm.symm.trans (hra (hK.2 t _ ht).2))
  subst hcA
  have hat : va_at D clW (H.size, wE ct (.inl (t, n.toNatClampNeg, x))) H1 := by
    show H1[H.size]? = some (vp_cell (ct.1 t) (n.toNatClampNeg, x))
    rw [vSlot_cell, e1]
    have : vSlot x = fun _ => defaultValue (newarray.typeOf atype) := funext hd
    dsimp only
    rw [this]
  have h1 := kk G.2.1 (hset G.1 G.2.1 (true, .inl (t, n.toNatClampNeg, x)), G.2.1 + 1, G.2.2 + n.toNatClampNeg) H1 ⟨hM.grow (fun q hq => hC.2.2.2 q (by omega)) z1 o1 hat hb, by show G0.2.1 ≤ G.2.1 + 1; omega, by show G0.2.2 ≤ G.2.2 + n.toNatClampNeg; omega⟩ ⟨Nat.le_trans hS.1 (by omega), fun x h1 h2 => (o1 x (Nat.lt_of_lt_of_le h1 hS.1)).trans (hS.2.1 x h1 h2), hS.2.2⟩ o ho
  dsimp only at h1
  rw [show G.2.1 + 1 - G0.2.1 = G.2.1 - G0.2.1 + 1 by omega, show G.2.2 + n.toNatClampNeg - G0.2.2 = G.2.2 - G0.2.2 + n.toNatClampNeg by omega] at h1
  rw [hz0]
  exact h1
/-- a new array of references -/
theorem gy_newq {C : String} {t index : Nat} {n : Int32} {kp : Nat → GS → Option ρ} (E : ME p m c cc nL s args own D clW ct) (hC : YC ct R s A G0) (hY : YW D clW ck ct N ad P A S w G0 G H) (hS : va_S A s.heap H locs) (hcl : (Cond.classLink own index C).before args s = true) (hao : va_AO C s) (ht : (tyW ct)[t]? = some (ct.1 t, .object C)) (hdg : decode cc pc = .ok (.anewarray index, 3))
    (kk : ∀ (q : Nat) (G1 : GS) (H1 : Heap), YW D clW ck ct N ad P A S w G0 G1 H1 → va_S A s.heap H1 locs → X p l e R s m args below meth c H1 locs (G1.2.1 - G0.2.1) (G1.2.2 - G0.2.2) Qf (kp q G1) (F0 m (pc + 3) ls (.ref q :: rest))) : X p l e R s m args below meth c H locs (G.2.1 - G0.2.1) (G.2.2 - G0.2.2) Qf (if n < 0 ∨ 67108864 < n.toNatClampNeg then none else newB ct G n.toNatClampNeg (.inl (t, n.toNatClampNeg, .inr (.inr (.inr (.inr (fun _ => none)))))) kp) (F0 m pc ls (.int n :: rest)) := X.guard fun hn o ho => by
  unfold newB at ho
  split at ho
  · cases ho
  rename_i hb
  obtain ⟨⟨hx, hbb, hml, hown, hts⟩, hK, hJ⟩ := E
  obtain ⟨hM, hg1, hg2⟩ := hY
  have hz0 := hM.2.1
  have hn2 : ¬ 67108864 < n.toNatClampNeg := fun q => hn (Or.inr q)
  refine W.anew hx hbb hown hcl (va_AO.use hao) rfl hdg rfl (fun q => hn (Or.inl q)) (by omega) (by rw [hC.2.1]; omega) (by rw [hC.2.2.1]; omega) fun cA kA comp f1 f2 f3 f4 => ?_
  obtain ⟨kA', comp', g1, g2, g3, g4⟩ := (hK.2 t _ ht).2
  have hcA : cA = ct.1 t := Option.some.inj (f1.symm.trans g4)
  subst hcA
  generalize hH1 : H.push ({ cls := ct.1 t, slots := Array.replicate n.toNatClampNeg .null, vm := .none } : Cell) = H1
  have z1 : H1.size = H.size + 1 := by rw [← hH1, Array.size_push]
  have e1 : H1[H.size]? = some (arrV (ct.1 t) n.toNatClampNeg (fun _ => .null)) := by rw [← hH1, Array.getElem?_push_size, ← arrV_new]
  have o1 : ∀ q : Nat, q < H.size → H1[q]? = H[q]? := fun q hq => by rw [← hH1, Array.getElem?_push, if_neg (Nat.ne_of_lt hq)]
  have h1 := kk G.2.1 (hset G.1 G.2.1 (true, .inl (t, n.toNatClampNeg, .inr (.inr (.inr (.inr (fun _ => none)))))), G.2.1 + 1, G.2.2 + n.toNatClampNeg) H1 ⟨hM.grow (fun q hq => hC.2.2.2 q (by omega)) z1 o1 e1 hb, by show G0.2.1 ≤ G.2.1 + 1; omega, by show G0.2.2 ≤ G.2.2 + n.toNatClampNeg; omega⟩ ⟨Nat.le_trans hS.1 (by omega), fun x h1 h2 => (o1 x (Nat.lt_of_lt_of_le h1 hS.1)).trans (hS.2.1 x h1 h2), hS.2.2⟩ o ho
  dsimp only at h1
  rw [show G.2.1 + 1 - G0.2.1 = G.2.1 - G0.2.1 + 1 by omega, show G.2.2 + n.toNatClampNeg - G0.2.2 = G.2.2 - G0.2.2 + n.toNatClampNeg by omega] at h1
  rw [hz0]
  exact h1
end YR
section YR2
variable {ρ ρ' : Type} {p : Program} {l : Launch} {e : Env} {R : Room} {s : State} {m : MethodId} {args : Array Value} {below : List Frame} {meth : Method} {c : Code} {H : Heap} {locs : List Loc} {Qf : ρ → State → Prop} {sp a b : Option ρ} {g : JFrame} {cells slots : Nat}
variable {cc : ByteArray} {pc nL : Nat} {ls : Array Slot} {rest : List Value} {own : String}
variable {D : va_G} {ck : Nat → UC} {ct : CT} {N : Nat} {ad : Nat → Nat} {P : Nat → Nat → Option Nat} {A : Nat → Prop} {S : US} {w : Int64} {G0 G : GS}
theorem YW.put {H1 : Heap} {q : Nat} {x0 x : AX} (hY : YW D clW ck ct N ad P A S w G0 G H) (ha : G.1 q = some (true, x0)) (hz : H1.size = H.size) (hq : ∀ r : Nat, r ≠ q → H1[r]? = H[r]?) (hat : va_at D clW (q, wE ct x) H1) : YW D clW ck ct N ad P A S w G0 (hset G.1 q (true, x), G.2) H1 := ⟨hY.1.put ha hz hq hat, hY.2⟩
theorem w_putc {Q : State → Prop} (E : ME p m c cc nL s args own D clW ct) {q ci n : Nat} {C ref : String} {T : u_T} {index : Nat} {ty0 : Nat → FieldType} {fs : List Value} {v : Value} (hat : va_at D clW (q, .inr (ci, fs)) H) (hc : clW[ci]? = some (C, T, n)) (hin : ∀ w ∈ u_ws C T n, w ∈ lw_all) (hty : ∀ k, k < n → parseFieldDescriptor (T k).2.2.1 = some (ty0 k)) (hnm : ∀ a, a < n → ∀ b, b < n → a ≠ b → (T a).2.1 ≠ (T b).2.1) (k : Nat) (hk : k < n) (hl : k < fs.length)
    (hlink : (Cond.fieldLink own index ref (T k).2.1 (T k).2.2.1).before args s = true) (hsame : ∀ x, s.fieldFound? (T k).1 (T k).2.1 (T k).2.2.1 = some x → s.fieldFound? ref (T k).2.1 (T k).2.2.1 = some x) (hfin : (T k).2.2.2 = false ∨ ((T k).2.2.2 = true ∧ meth.name = "<init>" ∧ (T k).1 = own)) (hn : narrow (ty0 k) v = v) (hfit : fits (ty0 k) v = true) (hdg : decode cc pc = .ok (.putfield index, 3))
    (kk : ∀ (H1 : Heap) (loc : Loc), loc.base = q → H1.size = H.size → (∀ r : Nat, r ≠ q → H1[r]? = H[r]?) → va_at D clW (q, .inr (ci, fs.set k v)) H1 → W p l e R s m args below meth c H1 (locs ++ [loc]) cells slots Q (F0 m (pc + 3) ls rest)) : W p l e R s m args below meth c H locs cells slots Q (F0 m pc ls (v :: .ref q :: rest)) := by
  obtain ⟨⟨hx, hb, hml, hown, hts⟩, hK, hJ⟩ := E
  have hap := va_apart (own := own) hts hin ty0 hty hnm hK hc
  obtain ⟨r, h1, cell, q1, q2, q3, q4⟩ := hat
  have hr : r = (C, T, n) := Option.some.inj (h1.symm.trans hc)
  subst hr
  obtain ⟨hS', hfc, kC, hkC, hkind⟩ := hK.1 ci _ hc
  obtain ⟨cf, kf, fi, f, hi', hsl⟩ := hS' k hk
  have hst := (u_facts hfc hkC (u_lays hts hin hk) hi').1
  have hlay := hts _ (hin _ (u_in_lay hk))
  unfold u_lay at hlay
  have fin : ∀ (H' : Heap), H'[q]? = some (cell.setSlot f.slot v) → H'.size = H.size → (∀ r, r ≠ q → H'[r]? = H[r]?) → W p l e R s m args below meth c H' (locs ++ [⟨q, f.slot⟩]) cells slots Q (F0 m (pc + 3) ls rest) := fun H' e1 e2 e3 => by
    refine kk H' _ rfl e2 e3 ⟨_, hc, t_OB.to (V := updV (vp_V fs) k v) ⟨_, e1, q2, q3, ?_⟩ (fun j _ => vp_updV_set hl v j)⟩
    rw [hsl]
    exact t_set q4 hap hk v
  rcases hfin with hfin | ⟨hfin, hin2, hdecl⟩
  · rw [if_neg (by rw [hfin]; decide)] at hlay
    have h6 := u_store hfc hkC hkind hlay hi' (hty k hk) hn hfit
    exact W.putK hx hb (f := f) ⟨hown, hlink, ⟨_, _, _, hsame _ hi'⟩, hst⟩ (by rw [q2]; exact h6) q1 q3 (by rw [hsl]; exact k2_hasslot (q4 k hk)) rfl rfl hdg fin
  · rw [if_pos hfin] at hlay
    have hcf : m.cls = cf := by
      obtain ⟨_, _, c', _, _, _, -, -, hf', -, -, -, hown2, -⟩ := Cond.laysFinal_spec hlay
      have e1 : c' = cf := by have := hi'.symm.trans hf'; simp at this; exact this.1.symm
      rw [hdecl] at hown2
      rw [← e1]; exact Option.some.inj (hown.symm.trans hown2)
    have h6 := u_fits hfc hkC hkind (Or.inr hlay) hi' (hty k hk) hn hfit
    exact W.putFinK hx hb hown hlink (hsame _ hi') hst hcf hin2 (by rw [q2]; exact h6) q1 q3 (by rw [hsl]; exact k2_hasslot (q4 k hk)) rfl rfl hdg fin
/-- a field of a free object of ours is written -/
theorem gy_put {q ci n : Nat} {C ref : String} {T : u_T} {index : Nat} {ty0 : Nat → FieldType} {v : Value} {kp : GS → Option ρ} (E : ME p m c cc nL s args own D clW ct) (hY : YW D clW ck ct N ad P A S w G0 G H) (hS : va_S A s.heap H locs) (hc : clW[ci]? = some (C, T, n)) (hin : ∀ w ∈ u_ws C T n, w ∈ lw_all) (hty : ∀ k, k < n → parseFieldDescriptor (T k).2.2.1 = some (ty0 k)) (hnm : ∀ a, a < n → ∀ b, b < n → a ≠ b → (T a).2.1 ≠ (T b).2.1) (k : Nat) (hk : k < n)
    (hlink : (Cond.fieldLink own index ref (T k).2.1 (T k).2.2.1).before args s = true) (hsame : ∀ x, s.fieldFound? (T k).1 (T k).2.1 (T k).2.2.1 = some x → s.fieldFound? ref (T k).2.1 (T k).2.2.1 = some x) (hfin : (T k).2.2.2 = false ∨ ((T k).2.2.2 = true ∧ meth.name = "<init>" ∧ (T k).1 = own)) (hn : narrow (ty0 k) v = v) (hfit : fits (ty0 k) v = true) (hdg : decode cc pc = .ok (.putfield index, 3))
    (kk : ∀ (G1 : GS) (H1 : Heap) (locs1 : List Loc), YW D clW ck ct N ad P A S w G0 G1 H1 → va_S A s.heap H1 locs1 → X p l e R s m args below meth c H1 locs1 (G1.2.1 - G0.2.1) (G1.2.2 - G0.2.2) Qf (kp G1) (F0 m (pc + 3) ls rest)) : X p l e R s m args below meth c H locs (G.2.1 - G0.2.1) (G.2.2 - G0.2.2) Qf (hPut G q ci k v kp) (F0 m pc ls (v :: .ref q :: rest)) := fun o ho => by
  obtain ⟨fs, h1, hl, h3⟩ := hPut_some ho
  exact w_putc E ((hY.1.1.2.1 q _ h1).2 rfl) hc hin hty hnm k hk hl hlink hsame hfin hn hfit hdg fun H1 loc hb e2 e3 hat => kk (hset G.1 q (true, .inr (ci, fs.set k v)), G.2) H1 _ (hY.put h1 e2 e3 hat) (by
    have := hS.put (k := loc.slot) e2 e3 (hY.1.2.2.1 q _ h1)
    rw [show (⟨q, loc.slot⟩ : Loc) = loc by rw [← hb]] at this
    exact this) o h3
/-- a place of a free array of objects is written -/
theorem gy_aast {q : Nat} {j : Int32} {r : Option Nat} {kp : GS → Option ρ} (E : ME p m c cc nL s args own D clW ct) (hY : YW D clW ck ct N ad P A S w G0 G H) (hS : va_S A s.heap H locs) (hdg : decode cc pc = .ok (.aastore, 1))
    (kk : ∀ (G1 : GS) (H1 : Heap) (locs1 : List Loc), YW D clW ck ct N ad P A S w G0 G1 H1 → va_S A s.heap H1 locs1 → X p l e R s m args below meth c H1 locs1 (G1.2.1 - G0.2.1) (G1.2.2 - G0.2.2) Qf (kp G1) (F0 m (pc + 1) ls rest)) : X p l e R s m args below meth c H locs (G.2.1 - G0.2.1) (G.2.2 - G0.2.2) Qf (if okR G.1 r = true then hPutQ G q 4 j r kp else none) (F0 m pc ls (va_rf r :: .int j :: .ref q :: rest)) := X.ite (fun hok o ho => by
  obtain ⟨n, f, h1, hin, h3⟩ := hPutQ_some ho
  obtain ⟨⟨hx, hb, hml, hown, hts⟩, hK, hJ⟩ := E
  have hat : va_at D clW (q, .inl (ct.1 4, n, .inr (.inr (.inr (.inr f))))) H := (hY.1.1.2.1 q _ h1).2 rfl
  have fin : ∀ (H1 : Heap) (locs1 : List Loc), va_P D clW ([(q, .inl (ct.1 4, n, .inr (.inr (.inr (.inr (va_up f j.toNatClampNeg r))))))]) H1 → H1.size = H.size → (∀ r, r ≠ q → H1[r]? = H[r]?) → va_S A s.heap H1 locs1 → X p l e R s m args below meth c H1 locs1 (G.2.1 - G0.2.1) (G.2.2 - G0.2.2) Qf (kp (hset G.1 q (true, .inl (4, n, .inr (.inr (.inr (.inr (va_up f j.toNatClampNeg r)))))), G.2)) (F0 m (pc + 1) ls rest) := fun H1 locs1 p1 e2 e3 s1 => kk _ H1 locs1 (hY.put h1 e2 e3 (p1 0 _ rfl)) s1
  have hlt : j.toNatClampNeg < n := Nat.not_le.mp fun z => hin (Or.inr z)
  have h0 : ¬ j < 0 := fun z => hin (Or.inl z)
  have hcell : H[q]? = some (vp_cell (ct.1 4) (n, .inr (.inr (.inr (.inr f))))) := hat
  have hAq := hY.1.2.2.1 q _ h1
  cases r with
  | none =>
    refine va_WaastN (C := "java/lang/Object") hx hb hcell ((hK.2 4 _ rfl).1 n (fun j => va_rf (f j))) (fun h => by cases h) (by show ¬ (j < 0 ∨ (arrV _ _ _).slots.size ≤ _); rw [arrV_size]; exact hin) rfl rfl hdg fun H1 e z oq => ?_
    refine fin H1 _ (fun k x hk => ?_) z oq (hS.put z oq hAq) o h3
    cases k with
    | succ k => simp at hk
    | zero =>
      cases hk
      show H1[q]? = some (vp_cell _ _)
      rw [e]
      rw [vp_cell_q, vp_cell_q, arrV_store]
      congr 2
      funext x
      by_cases hq : x = j.toNatClampNeg
      · subst hq
        simp [updV, va_up, va_rf]
      · simp [updV, va_up, hq]
  | some v =>
    obtain ⟨cellV, g1, g3, ⟨kC, hkC⟩, hasg⟩ := any_of hK hJ hY.1.1.2.1 hok
    obtain ⟨kA, comp, k1, k2, k3, -⟩ := (hK.2 4 _ rfl).2
    obtain ⟨kE, hkE, -⟩ := Vm.findClass_spec k3
    refine W.aast hx hb hcell (fun q => by show (arrV _ _ _).vm ≠ _; exact fun h => by cases h) (fun h => by cases h) k1 k2 rfl hkE ⟨h0, by show _ < (arrV _ _ _).slots.size; rw [arrV_size]; exact hlt⟩ g1 (fun q h => by rw [h] at g3; exact absurd g3 (by simp [VmData.isStatics])) hkC (hasg _ k3) rfl rfl hdg fun H1 e z oq => ?_
    refine fin H1 _ (fun k x hk => ?_) z oq (hS.put z oq hAq) o h3
    cases k with
    | succ k => simp at hk
    | zero =>
      cases hk
      show H1[q]? = some (vp_cell _ _)
      rw [e]
      rw [vp_cell_q, vp_cell_q, arrV_store]
      congr 2
      funext x
      by_cases hq : x = j.toNatClampNeg
      · subst hq
        simp [updV, va_up, va_rf]
      · simp [updV, va_up, hq]) (fun _ => X.none)
/-- a place of a free array of ints, of bytes -/
theorem gy_iast {q : Nat} {j v : Int32} {kp : GS → Option ρ} (E : ME p m c cc nL s args own D clW ct) (hY : YW D clW ck ct N ad P A S w G0 G H) (hS : va_S A s.heap H locs) (hdg : decode cc pc = .ok (.iastore, 1))
    (kk : ∀ (G1 : GS) (H1 : Heap) (locs1 : List Loc), YW D clW ck ct N ad P A S w G0 G1 H1 → va_S A s.heap H1 locs1 → X p l e R s m args below meth c H1 locs1 (G1.2.1 - G0.2.1) (G1.2.2 - G0.2.2) Qf (kp G1) (F0 m (pc + 1) ls rest)) : X p l e R s m args below meth c H locs (G.2.1 - G0.2.1) (G.2.2 - G0.2.2) Qf (hPutZ G q 0 j v kp) (F0 m pc ls (.int v :: .int j :: .ref q :: rest)) := fun o ho => by
  obtain ⟨n, f, h1, hin, h3⟩ := hPutZ_some ho
  obtain ⟨⟨hx, hb, hml, hown, hts⟩, hK, hJ⟩ := E
  have hat : va_at D clW (q, .inl (ct.1 0, n, .inl f)) H := (hY.1.1.2.1 q _ h1).2 rfl
  have hcell : H[q]? = some (vp_cell (ct.1 0) (n, .inl f)) := hat
  refine W.iast hx hb hcell ((hK.2 0 _ rfl).1 n (fun j => .int (f j))) (fun q => by cases q) (by show ¬ (j < 0 ∨ (arrV _ _ _).slots.size ≤ _); rw [arrV_size]; exact hin) rfl rfl hdg fun H1 e z oq => ?_
  refine kk _ H1 _ (hY.put h1 z oq ?_) (hS.put z oq (hY.1.2.2.1 q _ h1)) o h3
  show H1[q]? = some (vp_cell _ _)
  rw [e]
  rw [vp_cell_i, vp_cell_i, arrV_store]
  congr 2
  funext x
  by_cases hq : x = j.toNatClampNeg
  · subst hq
    simp [updV, upd]
  · simp [updV, upd, hq]
theorem gy_bast {q : Nat} {j v : Int32} {kp : GS → Option ρ} (E : ME p m c cc nL s args own D clW ct) (hY : YW D clW ck ct N ad P A S w G0 G H) (hS : va_S A s.heap H locs) (hdg : decode cc pc = .ok (.bastore, 1))
    (kk : ∀ (G1 : GS) (H1 : Heap) (locs1 : List Loc), YW D clW ck ct N ad P A S w G0 G1 H1 → va_S A s.heap H1 locs1 → X p l e R s m args below meth c H1 locs1 (G1.2.1 - G0.2.1) (G1.2.2 - G0.2.2) Qf (kp G1) (F0 m (pc + 1) ls rest)) : X p l e R s m args below meth c H locs (G.2.1 - G0.2.1) (G.2.2 - G0.2.2) Qf (hPutZ G q 2 j (vp_nar .byte v) kp) (F0 m pc ls (.int v :: .int j :: .ref q :: rest)) := fun o ho => by
  obtain ⟨n, f, h1, hin, h3⟩ := hPutZ_some ho
  obtain ⟨⟨hx, hb, hml, hown, hts⟩, hK, hJ⟩ := E
  have hat : va_at D clW (q, .inl (ct.1 2, n, .inl f)) H := (hY.1.1.2.1 q _ h1).2 rfl
  have hcell : H[q]? = some (vp_cell (ct.1 2) (n, .inl f)) := hat
  refine W.bast hx hb hcell ((hK.2 2 _ rfl).1 n (fun j => .int (f j))) (fun q => by cases q) (by show ¬ (j < 0 ∨ (arrV _ _ _).slots.size ≤ _); rw [arrV_size]; exact hin) rfl rfl hdg fun H1 e z oq => ?_
  refine kk _ H1 _ (hY.put h1 z oq ?_) (hS.put z oq (hY.1.2.2.1 q _ h1)) o h3
  show H1[q]? = some (vp_cell _ _)
  rw [e]
  rw [vp_cell_i, vp_cell_i, arrV_store]
  congr 2
  funext x
  by_cases hq : x = j.toNatClampNeg
  · subst hq
    simp [updV, upd]
    rfl
  · simp [updV, upd, hq]
end YR2
theorem GW.after {D : va_G} {cl : List vw_C} {ck : Nat → UC} {ct : CT} {N : Nat} {ad : Nat → Nat} {P : Nat → Nat → Option Nat} {A : Nat → Prop} {S S1 : US} {w : Int64} {h : AH} {H H1 : Heap} (hG : GW D cl ck ct N ad P A S w h H) (hB : UW D cl ck ct N ad P (fun _ => True) S1 w H1) (hz : H.size ≤ H1.size) (hk : ∀ q : Nat, q < H.size → ¬ uA N ad H.size q → H1[q]? = H[q]?) : GW D cl ck ct N ad P A S1 w h H1 :=
  ⟨hB.to fun j hj => hG.1.inA hj, hG.2.1.kept fun a' e' ha => hk a' (hG.2.1.lt ha) (fun hq => by
      rcases hq with ⟨j, hj, rfl⟩ | hq
      · exact hG.2.2.1 _ _ j ha hj rfl
      · exact absurd (hG.2.1.lt ha) (Nat.not_lt.mpr hq)), hG.2.2.1, fun q hlt => (hk q (Nat.lt_of_lt_of_le hlt hG.2.2.2.2.1) (fun hq => by
      rcases hq with ⟨j, hj, rfl⟩ | hq
      · exact absurd hlt (Nat.not_lt.mpr (hG.2.2.2.2.2.1 j hj))
      · exact absurd (Nat.lt_of_lt_of_le hlt hG.2.2.2.2.1) (Nat.not_lt.mpr hq))).trans (hG.2.2.2.1 q hlt), Nat.le_trans hG.2.2.2.2.1 hz, hG.2.2.2.2.2⟩
section YR3
variable {ρ ρ' : Type} {p : Program} {l : Launch} {e : Env} {R : Room} {s : State} {m : MethodId} {args : Array Value} {below : List Frame} {meth : Method} {c : Code} {H : Heap} {locs : List Loc} {Qf : ρ → State → Prop} {sp a b : Option ρ} {g : JFrame} {cells slots : Nat}
variable {cc : ByteArray} {pc nL : Nat} {ls : Array Slot} {rest : List Value} {own : String}
variable {D : va_G} {ck : Nat → UC} {ct : CT} {N : Nat} {ad : Nat → Nat} {P : Nat → Nat → Option Nat} {A : Nat → Prop} {S : US} {w : Int64} {G0 G : GS}
variable {sp' : Option ρ'} {kp : ρ' → Option ρ} {val' : ρ' → Option Value} {len : Nat} {st0 : List Value} {val : ρ → Option Value} {Go : ρ → GS} {Bt : ρ → Heap → Prop}
/-- a call that changes nothing -/
theorem gy_ro (hC : YC ct R s A G0) (hY : YW D clW ck ct N ad P A S w G0 G H) (hS : va_S A s.heap H locs) (hr : ∀ o, sp' = some o → ∃ arr, RunL len p l e R s m args below meth c H locs (G.2.1 - G0.2.1) (G.2.2 - G0.2.2) 0 0 (F0 m pc ls st0) rest (mC (val' o) (fun _ => True) (nA H.size) arr) (nA H.size))
    (kk : ∀ (o : ρ') (H1 : Heap) (locs1 : List Loc), YW D clW ck ct N ad P A S w G0 G H1 → va_S A s.heap H1 locs1 → X p l e R s m args below meth c H1 locs1 (G.2.1 - G0.2.1) (G.2.2 - G0.2.2) Qf (kp o) (F0 m (pc + len) ls ((val' o).toList ++ rest))) : X p l e R s m args below meth c H locs (G.2.1 - G0.2.1) (G.2.2 - G0.2.2) Qf (callK sp' kp) (F0 m pc ls st0) :=
  x_afterL (Bt' := fun _ _ => True) hS (fun q hq => hC.2.2.2 q (Nat.le_trans (by rw [← hC.1]; exact hS.1) hq)) hr fun o H1 locs1 _ _ hz hk hS1 oo hoo => W.know fun k1 k2 k3 k4 => kk o H1 locs1 ⟨hY.1.of_gw (hY.1.1.kept hz fun q hq => hk q hq (Nat.not_le.mpr hq)) (by
    have h1 := hY.1.2.1
    have h2 := hC.1
    have h3 := hY.2.1
    omega), hY.2⟩ hS1 oo hoo
/-- a call that changes the numbered world alone -/
theorem gy_mod {So : ρ' → US} (hC : YC ct R s A G0) (hY : YW D clW ck ct N ad P A S w G0 G H) (hS : va_S A s.heap H locs) (hr : ∀ o, sp' = some o → ∃ arr, RunL len p l e R s m args below meth c H locs (G.2.1 - G0.2.1) (G.2.2 - G0.2.2) 0 0 (F0 m pc ls st0) rest (mC (val' o) (UW D clW ck ct N ad P (fun _ => True) (So o) w) (uA N ad H.size) arr) (uA N ad H.size))
    (kk : ∀ (o : ρ') (H1 : Heap) (locs1 : List Loc), YW D clW ck ct N ad P A (So o) w G0 G H1 → va_S A s.heap H1 locs1 → X p l e R s m args below meth c H1 locs1 (G.2.1 - G0.2.1) (G.2.2 - G0.2.2) Qf (kp o) (F0 m (pc + len) ls ((val' o).toList ++ rest))) : X p l e R s m args below meth c H locs (G.2.1 - G0.2.1) (G.2.2 - G0.2.2) Qf (callK sp' kp) (F0 m pc ls st0) :=
  x_afterL (Bt' := fun o => UW D clW ck ct N ad P (fun _ => True) (So o) w) hS (fun q hq => by
      rcases hq with ⟨j, hj, rfl⟩ | hq
      · exact hY.1.1.1.inA hj
      · exact hC.2.2.2 q (Nat.le_trans (by rw [← hC.1]; exact hS.1) hq)) hr fun o H1 locs1 _ hB hz hk hS1 oo hoo => W.know fun k1 k2 k3 k4 => kk o H1 locs1 ⟨hY.1.of_gw (GW.after hY.1.1 hB hz hk) (by
    have h1 := hY.1.2.1
    have h2 := hC.1
    have h3 := hY.2.1
    omega), hY.2⟩ hS1 oo hoo
/-- a call that makes cells -/
theorem gy_mx {So : ρ' → US} {Po : ρ' → Nat → Nat → Option Nat} {Gn : ρ' → GS} (hC : YC ct R s A G0) (hY : YW D clW ck ct N ad P A S w G0 G H) (hS : va_S A s.heap H locs) (hr : ∀ o, sp' = some o → ∃ arr, RunL len p l e R s m args below meth c H locs (G.2.1 - G0.2.1) (G.2.2 - G0.2.2) (nmax ct - G.2.1) (zmax ct - G.2.2) (F0 m pc ls st0) rest (yC (val' o) (MW D clW ck ct N ad (Po o) (mA N ad G) (So o) w (Gn o)) G (Gn o) (mA N ad G) arr) (mA N ad G))
    (kk : ∀ (o : ρ') (H1 : Heap) (locs1 : List Loc), YW D clW ck ct N ad (Po o) A (So o) w G0 (Gn o) H1 → va_S A s.heap H1 locs1 → X p l e R s m args below meth c H1 locs1 ((Gn o).2.1 - G0.2.1) ((Gn o).2.2 - G0.2.2) Qf (kp o) (F0 m (pc + len) ls ((val' o).toList ++ rest))) : X p l e R s m args below meth c H locs (G.2.1 - G0.2.1) (G.2.2 - G0.2.2) Qf (callK sp' kp) (F0 m pc ls st0) := fun oo hoo => W.know fun b1 b2 b3 b4 => by
  obtain ⟨o, h1, h2⟩ := callK_some hoo
  obtain ⟨arr, hr⟩ := hr o h1
  have hA : ∀ q, mA N ad G q → A q := fun q hq => by
    rcases hq with ⟨j, hj, rfl⟩ | ⟨x, hx⟩ | hq
    · exact hY.1.1.1.inA hj
    · exact hY.1.2.2.1 q x hx
    · exact hC.2.2.2 q (Nat.le_trans hY.2.1 hq)
  intro T hT X
  obtain ⟨v, st₀, t, T', L, h0, X', hL, e1, e2, ⟨hv, ⟨hb, hn1, hn2, hn3, hn4⟩, hz, hk⟩, st⟩ := hr T hT X
  cases hv
  rw [h0] at hz hk hn4
  have hsz := hC.1
  have hsz2 := hY.1.2.1
  obtain ⟨t2, a1, b1⟩ := W.tight (k := (Gn o).2.1 - G0.2.1) (n := (Gn o).2.2 - G0.2.2) (by rw [e1, hn3, hsz]; have := hY.2.1; omega) (by rw [e1]; have := hY.2.2; omega) (kk o T'.heap (locs ++ L) ⟨by rw [e1]; exact hb.to fun q hq _ => hA q hq, Nat.le_trans hY.2.1 hn1, Nat.le_trans hY.2.2 hn2⟩
    ⟨Nat.le_trans hS.1 (by rw [e1]; exact hz), fun q h1 h2 => by rw [e1, hk q (Nat.lt_of_lt_of_le h1 hS.1) (fun z => h2 (hA q z))]; exact hS.2.1 q h1 h2, fun q hq => by
      rcases List.mem_append.mp hq with h | h
      · exact hS.2.2 q h
      · exact hA _ (hL q h)⟩ oo h2) T' rfl X'
  exact ⟨t2, st t2 a1, b1⟩
theorem yC_of {v : Option Value} {o : ρ} (hC : YC ct R s A G0) (hv : val o = v) (hg : Go o = G) (hB : Bt o H) (hY : YW D clW ck ct N ad P A S w G0 G H) (hS : va_S A s.heap H locs) (k3 : tSl H ≤ tSl s.heap + (G.2.2 - G0.2.2)) {t : State} (ht : t.heap = H) : yC (val o) (Bt o) G0 (Go o) A args s (.returned v) t :=
  ⟨by rw [hv], ⟨by rw [ht]; exact hB, by rw [hg]; exact hY.2.1, by rw [hg]; exact hY.2.2, by rw [ht, hg]; exact hY.1.2.1, by rw [ht, hg]; exact k3⟩, hS.F ht⟩
theorem y_iret (hexec : p.tables.exec = Jvm.exec) (hb : c.code = cc) (hr : meth.sig.returnType = some .int) (hlocks : meth.locks = false) (hC : YC ct R s A G0) (hY : YW D clW ck ct N ad P A S w G0 G H) (hS : va_S A s.heap H locs) {o : ρ} {v : Int32} (hv : val o = some (.int v)) (hg : Go o = G) (hB : Bt o H) (hdg : decode cc pc = .ok (.ireturn, 1)) : X p l e R s m args below meth c H locs (G.2.1 - G0.2.1) (G.2.2 - G0.2.2) (yQ below args s (nmax ct - G0.2.1) (zmax ct - G0.2.2) G0 A val Bt Go) (some o) (F0 m pc ls [.int v]) := fun o' ho => W.know fun k1 k2 k3 k4 => by
  cases ho
  exact W.widen (by have := hY.1.2.2.2.1; omega) (by have := hY.1.2.2.2.2; omega) (W.iret hexec hb hr (fun t ht hW => yC_of hC hv hg hB hY hS k3 ht) hS.2.2 hdg hlocks)
theorem y_zret (hexec : p.tables.exec = Jvm.exec) (hb : c.code = cc) {ty : FieldType} (hr : meth.sig.returnType = some ty) (hlocks : meth.locks = false) (hC : YC ct R s A G0) (hY : YW D clW ck ct N ad P A S w G0 G H) (hS : va_S A s.heap H locs) {o : ρ} {v : Int32} (hn : narrow ty (.int v) = .int v) (hv : val o = some (.int v)) (hg : Go o = G) (hB : Bt o H) (hdg : decode cc pc = .ok (.ireturn, 1)) : X p l e R s m args below meth c H locs (G.2.1 - G0.2.1) (G.2.2 - G0.2.2) (yQ below args s (nmax ct - G0.2.1) (zmax ct - G0.2.2) G0 A val Bt Go) (some o) (F0 m pc ls [.int v]) := fun o' ho => W.know fun k1 k2 k3 k4 => by
  cases ho
  exact W.widen (by have := hY.1.2.2.2.1; omega) (by have := hY.1.2.2.2.2; omega) (W.zret hexec hb hr hn (fun t ht hW => yC_of hC hv hg hB hY hS k3 ht) hS.2.2 hdg hlocks)
theorem y_vret (hexec : p.tables.exec = Jvm.exec) (hb : c.code = cc) (hr : meth.sig.returnType = none) (hlocks : meth.locks = false) (hC : YC ct R s A G0) (hY : YW D clW ck ct N ad P A S w G0 G H) (hS : va_S A s.heap H locs) {o : ρ} (hv : val o = none) (hg : Go o = G) (hB : Bt o H) (hdg : decode cc pc = .ok (.return_, 1)) : X p l e R s m args below meth c H locs (G.2.1 - G0.2.1) (G.2.2 - G0.2.2) (yQ below args s (nmax ct - G0.2.1) (zmax ct - G0.2.2) G0 A val Bt Go) (some o) (F0 m pc ls []) := fun o' ho => W.know fun k1 k2 k3 k4 => by
  cases ho
  exact W.widen (by have := hY.1.2.2.2.1; omega) (by have := hY.1.2.2.2.2; omega) (W.vret hexec hb hr (fun t ht hW => yC_of hC hv hg hB hY hS k3 ht) hS.2.2 hdg hlocks)
theorem y_aret (hexec : p.tables.exec = Jvm.exec) (hb : c.code = cc) {rt : FieldType} (hr : meth.sig.returnType = some rt ∧ ((∃ n, rt = .object n) ∨ ∃ t, rt = .array t)) (hlocks : meth.locks = false) (hC : YC ct R s A G0) (hY : YW D clW ck ct N ad P A S w G0 G H) (hS : va_S A s.heap H locs) {o : ρ} {r : Option Nat} (hv : val o = some (va_rf r)) (hg : Go o = G) (hB : Bt o H) (hdg : decode cc pc = .ok (.areturn, 1)) : X p l e R s m args below meth c H locs (G.2.1 - G0.2.1) (G.2.2 - G0.2.2) (yQ below args s (nmax ct - G0.2.1) (zmax ct - G0.2.2) G0 A val Bt Go) (some o) (F0 m pc ls [va_rf r]) := fun o' ho => W.know fun k1 k2 k3 k4 => by
  cases ho
  exact W.widen (by have := hY.1.2.2.2.1; omega) (by have := hY.1.2.2.2.2; omega) (W.aret hexec hb hr.1 hr.2 (by cases r; exact Or.inl rfl; exact Or.inr ⟨_, rfl⟩) (fun t ht hW => yC_of hC hv hg hB hY hS k3 ht) hS.2.2 hdg hlocks)
/-- a contract of a method that makes cells, out of its walk -/
theorem Y.start {y : MethodName} {maxL fr lo : Nat} {ret : Option FieldType} {As : List Value} {lv : List (Nat × Value)} {o : ρ} (ho : sp = some o) (hy : plainName y.cls = true) (hlen : (lg_sl As).length ≤ maxL) (hlv : lv_args 0 As = lv)
    (body : ∀ (p : Program) (e : Env) (s : State) (m : MethodId) (args : Array Value) (below : List Frame) (meth : Method) (c : Code), ME p m c cc maxL s args y.cls D clW ct → meth.sig.returnType = ret → meth.locks = false → meth.name = y.name → YC ct { frames := fr, cells := nmax ct - G0.2.1, slots := zmax ct - G0.2.2, locals := lo } s (mA N ad G0) G0 → YW D clW ck ct N ad P (mA N ad G0) S w G0 G0 s.heap → va_S (mA N ad G0) s.heap s.heap [] → ∀ ls : Array Slot, lv_has ls maxL lv → X p l e { frames := fr, cells := nmax ct - G0.2.1, slots := zmax ct - G0.2.2, locals := lo } s m args below meth c s.heap [] (G0.2.1 - G0.2.1) (G0.2.2 - G0.2.2) (yQ below args s (nmax ct - G0.2.1) (zmax ct - G0.2.2) G0 (mA N ad G0) val Bt Go) sp (F0 m 0 ls [])) :
    Met l y (ws_ y cc maxL ret) { frames := fr, cells := nmax ct - G0.2.1, slots := zmax ct - G0.2.2, locals := lo } (mP D clW ct As G0.2.1 (MW D clW ck ct N ad P (fun _ => True) S w G0)) (yC (val o) (Bt o) G0 (Go o) (mA N ad G0)) (nmax ct - G0.2.1) (zmax ct - G0.2.2) (mA N ad G0) := by
  refine Met.ofW (cc := cc) (maxL := maxL) (ret := ret) hy rfl ?_
  intro p e s m args below meth c s₁ BB hml hv
  obtain ⟨rfl, hsz, hBh, hK, hJ⟩ := hv
  have hts := atoms_spec (ws := ws_ y cc maxL ret) BB.pre
  have hts : ∀ w ∈ lw_all, w.before _ s = true := fun w h => hts w (List.mem_cons_of_mem _ h)
  have hown : s.vm.findClass y.cls = some m.cls := findClass_of_methodNamed BB.named
  have hl := lv_entry As (n := maxL) hlen
  rw [lg_entry_eq]
  rw [hlv] at hl
  have hb := body p e s m _ below meth c ⟨⟨BB.exec, BB.bytes, hml, hown, hts⟩, hK, hJ⟩ BB.returns BB.notSynchronized (name_of_methodNamed BB.named BB.method).1 ⟨hsz, rfl, rfl, fun q hq => Or.inr (Or.inr hq)⟩ ⟨hBh.start, Nat.le_refl _, Nat.le_refl _⟩ va_S.rf _ hl o ho
  rw [Nat.sub_self, Nat.sub_self] at hb
  exact hb
end YR3
