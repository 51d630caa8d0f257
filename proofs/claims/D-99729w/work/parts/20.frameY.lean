set_option maxRecDepth 100000
/-! THE FRAME, fourth part: loops and joins while cells are made; System.arraycopy, class objects, constructors -/
section YL
variable {ρ σ α : Type} {p : Program} {l : Launch} {e : Env} {R : Room} {s : State} {m : MethodId} {args : Array Value} {below : List Frame} {meth : Method} {c : Code} {H : Heap} {locs : List Loc} {cells slots cells2 slots2 : Nat} {Qf : ρ → State → Prop} {sp a b : Option ρ} {g : JFrame}
theorem X.cs (h1 : cells = cells2) (h2 : slots = slots2) (k : X p l e R s m args below meth c H locs cells2 slots2 Qf sp g) : X p l e R s m args below meth c H locs cells slots Qf sp g := by
  subst h1
  subst h2
  exact k
theorem X.loopY {body : (σ → Option ρ) → σ → Option ρ} {I : σ → JFrame → Heap → List Loc → Prop} {cf sf : σ → Nat} (hb : ∀ rc : σ → Option ρ, (∀ (x : σ) (g : JFrame) (H : Heap) (locs : List Loc), I x g H locs → X p l e R s m args below meth c H locs (cf x) (sf x) Qf (rc x) g) → ∀ (x : σ) (g : JFrame) (H : Heap) (locs : List Loc), I x g H locs → X p l e R s m args below meth c H locs (cf x) (sf x) Qf (body rc x) g) :
    ∀ (n : Nat) (x : σ) (g : JFrame) (H : Heap) (locs : List Loc), I x g H locs → X p l e R s m args below meth c H locs (cf x) (sf x) Qf (loopK body n x) g := by
  intro n
  induction n with
  | zero => intro x g H locs _ o ho; cases ho
  | succ n ih => intro x g H locs hI; exact hb (loopK body n) ih x g H locs hI
theorem X.join2Y {f : σ → Option ρ} {b : (σ → Option ρ) → Option ρ} (I : σ → JFrame → Heap → List Loc → Prop) (cf sf : σ → Nat) (h1 : ∀ (x : σ) (g : JFrame) (H : Heap) (locs : List Loc), I x g H locs → X p l e R s m args below meth c H locs (cf x) (sf x) Qf (f x) g) (h2 : ∀ j : σ → Option ρ, (∀ (x : σ) (g : JFrame) (H : Heap) (locs : List Loc), I x g H locs → X p l e R s m args below meth c H locs (cf x) (sf x) Qf (j x) g) → X p l e R s m args below meth c H locs cells slots Qf (b j) g) : X p l e R s m args below meth c H locs cells slots Qf (joinB f b) g := h2 f h1
end YL
/-- System.arraycopy of references -/
def hCpyQ {ρ : Type} (G : GS) (a0 : Nat) (sp : Int32) (a : Nat) (dp n : Int32) (kp : GS → Option ρ) : Option ρ := match G.1 a0, G.1 a with
  | some (_, .inl (t0, n0, .inr (.inr (.inr (.inr f))))), some (true, .inl (t1, n1, .inr (.inr (.inr (.inr g))))) =>
    if t0 = 4 ∧ t1 = 4 then (if sp < 0 ∨ dp < 0 ∨ n < 0 ∨ n0 < sp.toNatClampNeg + n.toNatClampNeg ∨ n1 < dp.toNatClampNeg + n.toNatClampNeg then none
      else if (List.range n.toNatClampNeg).all (fun i => okR G.1 (f (sp.toNatClampNeg + i))) = true then kp (hset G.1 a (true, .inl (4, n1, .inr (.inr (.inr (.inr (va_cpy f g sp.toNatClampNeg dp.toNatClampNeg n.toNatClampNeg)))))), G.2) else none) else none
  | _, _ => none
theorem hCpyQ_some {ρ : Type} {G : GS} {a0 a : Nat} {sp dp n : Int32} {kp : GS → Option ρ} {o : ρ} (ho : hCpyQ G a0 sp a dp n kp = some o) : ∃ (bw : Bool) (n0 n1 : Nat) (f g : Nat → Option Nat), G.1 a0 = some (bw, .inl (4, n0, .inr (.inr (.inr (.inr f))))) ∧ G.1 a = some (true, .inl (4, n1, .inr (.inr (.inr (.inr g))))) ∧ ¬ (sp < 0 ∨ dp < 0 ∨ n < 0 ∨ n0 < sp.toNatClampNeg + n.toNatClampNeg ∨ n1 < dp.toNatClampNeg + n.toNatClampNeg) ∧ (∀ i, i < n.toNatClampNeg → okR G.1 (f (sp.toNatClampNeg + i)) = true) ∧ kp (hset G.1 a (true, .inl (4, n1, .inr (.inr (.inr (.inr (va_cpy f g sp.toNatClampNeg dp.toNatClampNeg n.toNatClampNeg)))))), G.2) = some o := by
  unfold hCpyQ at ho
  split at ho
  · rename_i bw t0 n0 f t1 n1 g e0 e1
    split at ho
    · rename_i ht
      split at ho
      · cases ho
      · rename_i hg
        split at ho
        · rename_i hok
          exact ⟨bw, n0, n1, f, g, by rw [e0, ht.1], by rw [e1, ht.2], hg, fun i hi => List.all_eq_true.mp hok i (List.mem_range.mpr hi), ho⟩
        · cases ho
    · cases ho
  · cases ho
/-- System.arraycopy of bytes -/
def hCpyB {ρ : Type} (G : GS) (a0 : Nat) (sp : Int32) (a : Nat) (dp n : Int32) (kp : GS → Option ρ) : Option ρ := match G.1 a0, G.1 a with
  | some (_, .inl (t0, n0, .inl f)), some (true, .inl (t1, n1, .inl g)) =>
    if t0 = 2 ∧ t1 = 2 then (if sp < 0 ∨ dp < 0 ∨ n < 0 ∨ n0 < sp.toNatClampNeg + n.toNatClampNeg ∨ n1 < dp.toNatClampNeg + n.toNatClampNeg then none
      else if (List.range n.toNatClampNeg).all (fun i => fits .byte (.int (f (sp.toNatClampNeg + i)))) = true then kp (hset G.1 a (true, .inl (2, n1, .inl (va_cpy f g sp.toNatClampNeg dp.toNatClampNeg n.toNatClampNeg))), G.2) else none) else none
  | _, _ => none
theorem hCpyB_some {ρ : Type} {G : GS} {a0 a : Nat} {sp dp n : Int32} {kp : GS → Option ρ} {o : ρ} (ho : hCpyB G a0 sp a dp n kp = some o) : ∃ (bw : Bool) (n0 n1 : Nat) (f g : Nat → Int32), G.1 a0 = some (bw, .inl (2, n0, .inl f)) ∧ G.1 a = some (true, .inl (2, n1, .inl g)) ∧ ¬ (sp < 0 ∨ dp < 0 ∨ n < 0 ∨ n0 < sp.toNatClampNeg + n.toNatClampNeg ∨ n1 < dp.toNatClampNeg + n.toNatClampNeg) ∧ (∀ i, i < n.toNatClampNeg → fits .byte (.int (f (sp.toNatClampNeg + i))) = true) ∧ kp (hset G.1 a (true, .inl (2, n1, .inl (va_cpy f g sp.toNatClampNeg dp.toNatClampNeg n.toNatClampNeg))), G.2) = some o := by
  unfold hCpyB at ho
  split at ho
  · rename_i bw t0 n0 f t1 n1 g e0 e1
    split at ho
    · rename_i ht
      split at ho
      · cases ho
      · rename_i hg
        split at ho
        · rename_i hok
          exact ⟨bw, n0, n1, f, g, by rw [e0, ht.1], by rw [e1, ht.2], hg, fun i hi => List.all_eq_true.mp hok i (List.mem_range.mpr hi), ho⟩
        · cases ho
    · cases ho
  · cases ho
theorem clamp_nn : ∀ z : Int32, ¬ z < 0 → z.toInt = (z.toNatClampNeg : Int) := by
  intro z hz
  have hz0 : (0 : Int) ≤ z.toInt := by
    have := Int32.not_lt.mp hz
    simpa using Int32.le_iff_toInt_le.mp this
  show z.toInt = ((z.toInt.toNat : Nat) : Int)
  omega
section YR4
variable {ρ ρ' : Type} {p : Program} {l : Launch} {e : Env} {R : Room} {s : State} {m : MethodId} {args : Array Value} {below : List Frame} {meth : Method} {c : Code} {H : Heap} {locs : List Loc} {Qf : ρ → State → Prop} {sp a b : Option ρ} {g : JFrame} {cells slots : Nat}
variable {cc : ByteArray} {pc nL : Nat} {ls : Array Slot} {rest : List Value} {own : String}
variable {D : va_G} {ck : Nat → UC} {ct : CT} {N : Nat} {ad : Nat → Nat} {P : Nat → Nat → Option Nat} {A : Nat → Prop} {S : US} {w : Int64} {G0 G : GS}
/-- the copy itself, of whatever kind -/
theorem w_copy {Q : State → Prop} {α : Type} (mk : α → Value) {t n0 n1 : Nat} {ty : FieldType} {f g : Nat → α} {cs : Cell} {a0 a1 : Nat} {index : Nat} {sp dp n : Int32} (E : ME p m c cc nL s args own D clW ct) (hS : va_S A s.heap H locs) (hA : A a1)
    (ht : (tyW ct)[t]? = some (ct.1 t, ty)) (hlink : (Cond.methodLink own index arraycopyName).before args s = true) (hnat : (Cond.native arraycopyName).before args s = true) (hstat : (Cond.static arraycopyName).before args s = true) (hini : (Cond.initialized "java/lang/System").before args s = true)
    (hcs : H[a0]? = some cs) (hs1 : cs.cls = ct.1 t) (hs2 : cs.vm ≠ .unknown) (hs3 : cs.vm.isStatics = false) (hs4 : cs.slots.size = n0) (hs5 : ∀ j, j < n0 → cs.slots[j]? = some (mk (f j)))
    (hcd : H[a1]? = some (arrV (ct.1 t) n1 (fun j => mk (g j)))) (hgd : ¬ (sp < 0 ∨ dp < 0 ∨ n < 0 ∨ n0 < sp.toNatClampNeg + n.toNatClampNeg ∨ n1 < dp.toNatClampNeg + n.toNatClampNeg))
    (hvals : ∀ (T : State) (vm₁ : Vm) (kA : Class) (comp : ClassId), T.heap = H → s.vm.Alike vm₁ → s.vm.classes[ct.1 t]? = some kA → kA.kind = .array comp ty → ∀ i, i < n.toNatClampNeg → fits ty (mk (f (sp.toNatClampNeg + i))) = true ∧ (T.setVm vm₁).takes comp (mk (f (sp.toNatClampNeg + i))))
    (hR : 1 ≤ R.frames ∧ 8 + (nativeFrameWords "java/lang/System" "arraycopy" 5 + 11) ≤ R.locals) (hsize : ls.size = nL) (hW : (rest.map fun v => v.category).sum ≤ 8) (hdg : decode cc pc = .ok (.invokestatic index, 3))
    (kk : ∀ (H1 : Heap) (locs1 : List Loc), H1.size = H.size → (∀ q : Nat, q ≠ a1 → H1[q]? = H[q]?) → H1[a1]? = some (arrV (ct.1 t) n1 (fun j => mk (va_cpy f g sp.toNatClampNeg dp.toNatClampNeg n.toNatClampNeg j))) → va_S A s.heap H1 locs1 → W p l e R s m args below meth c H1 locs1 cells slots Q (F0 m (pc + 3) ls rest)) : W p l e R s m args below meth c H locs cells slots Q (F0 m pc ls (.int n :: .int dp :: .ref a1 :: .int sp :: .ref a0 :: rest)) := by
  obtain ⟨⟨hx, hb, hml, hown, hts⟩, hK, hJ⟩ := E
  have g1 : ¬ sp < 0 := fun z => hgd (Or.inl z)
  have g2 : ¬ dp < 0 := fun z => hgd (Or.inr (Or.inl z))
  have g3 : ¬ n < 0 := fun z => hgd (Or.inr (Or.inr (Or.inl z)))
  have g4 : sp.toNatClampNeg + n.toNatClampNeg ≤ n0 := Nat.le_of_not_lt fun z => hgd (Or.inr (Or.inr (Or.inr (Or.inl z))))
  have g5 : dp.toNatClampNeg + n.toNatClampNeg ≤ n1 := Nat.le_of_not_lt fun z => hgd (Or.inr (Or.inr (Or.inr (Or.inr z))))
  intro T hT X
  obtain ⟨-, k1, hk1, cm1, hkk1⟩ := (hK.2 t _ ht).1 n1 (fun j => mk (g j))
  have hk1 : s.vm.classes[ct.1 t]? = some k1 := hk1
  obtain ⟨vm', X', step⟩ := X.arraycopy hx hown hlink hnat hstat hini (src := a0) (dst := a1) (cs := cs) (cd := arrV (ct.1 t) n1 (fun j => mk (g j))) (srcPos := sp) (destPos := dp) (n := n) (by rw [hT]; exact hcs) (by rw [hT]; exact hcd)
    (fun k h => by rw [h] at hs3; exact absurd hs3 (by simp [VmData.isStatics])) (fun _ h => by cases h) hs2 (fun h => by cases h) (by rw [hs1]; exact hk1) hk1 hkk1 hkk1 (by simp) g1 g2 g3
    (by rw [clamp_nn sp g1, clamp_nn n g3, hs4]; omega)
    (by rw [clamp_nn dp g2, clamp_nn n g3]; rw [arrV_size]; omega)
    (fun vm₁ hal i hi => by
      have e : cs.slots.getD (sp.toNatClampNeg + i) .null = mk (f (sp.toNatClampNeg + i)) := by
        rw [Array.getD_eq_getD_getElem?, hs5 _ (by omega)]
        rfl
      rw [e]
      exact hvals T vm₁ k1 cm1 hT hal hk1 hkk1 i hi)
    (g := F0 m pc ls (.int n :: .int dp :: .ref a1 :: .int sp :: .ref a0 :: rest)) rfl (hsize.trans hml.symm) (rest := rest) rfl (by rw [hb]; exact hdg) hR.1 (by show 2 * 0 + _ + _ ≤ _; omega)
  have e1 : copied cs (arrV (ct.1 t) n1 (fun j => mk (g j))) sp dp n = arrV (ct.1 t) n1 (fun j => mk (va_cpy f g sp.toNatClampNeg dp.toNatClampNeg n.toNatClampNeg j)) := va_copiedX mk cs (ct.1 t) f g hs5 g4
  rw [e1] at X' step
  have hl : a1 < H.size := (Array.getElem?_eq_some_iff.mp hcd).1
  have hheap : ((T.setVm vm').setCell a1 (arrV (ct.1 t) n1 (fun j => mk (va_cpy f g sp.toNatClampNeg dp.toNatClampNeg n.toNatClampNeg j)))).heap = H.setIfInBounds a1 (arrV (ct.1 t) n1 (fun j => mk (va_cpy f g sp.toNatClampNeg dp.toNatClampNeg n.toNatClampNeg j))) := by rw [← hT]; rfl
  have oq : ∀ q : Nat, q ≠ a1 → (H.setIfInBounds a1 (arrV (ct.1 t) n1 (fun j => mk (va_cpy f g sp.toNatClampNeg dp.toNatClampNeg n.toNatClampNeg j))))[q]? = H[q]? := fun q hq => by simp [Array.getElem?_setIfInBounds, Ne.symm hq]
  obtain ⟨t, a1, b1⟩ := kk _ _ (by simp) oq (by simp [Array.getElem?_setIfInBounds, hl]) ⟨by simp; exact hS.1, fun q g1 g2 => by
      rw [oq q (fun e => g2 (by rw [e]; exact hA))]
      exact hS.2.1 q g1 g2, fun q hq => by
      rcases List.mem_append.mp hq with h | h
      · exact hS.2.2 q h
      · obtain ⟨z, -, hz⟩ := List.mem_map.mp h
        rw [← hz]
        exact hA⟩ _ hheap X'
  exact ⟨t, step t a1, b1⟩
theorem gy_copyQ {a0 a1 index : Nat} {sp dp n : Int32} {kp : GS → Option ρ} (E : ME p m c cc nL s args own D clW ct) (hY : YW D clW ck ct N ad P A S w G0 G H) (hS : va_S A s.heap H locs) (hlink : (Cond.methodLink own index arraycopyName).before args s = true) (hnat : (Cond.native arraycopyName).before args s = true) (hstat : (Cond.static arraycopyName).before args s = true) (hini : (Cond.initialized "java/lang/System").before args s = true)
    (hR : 1 ≤ R.frames ∧ 8 + (nativeFrameWords "java/lang/System" "arraycopy" 5 + 11) ≤ R.locals) (hsize : ls.size = nL) (hW : (rest.map fun v => v.category).sum ≤ 8) (hdg : decode cc pc = .ok (.invokestatic index, 3))
    (kk : ∀ (G1 : GS) (H1 : Heap) (locs1 : List Loc), YW D clW ck ct N ad P A S w G0 G1 H1 → va_S A s.heap H1 locs1 → X p l e R s m args below meth c H1 locs1 (G1.2.1 - G0.2.1) (G1.2.2 - G0.2.2) Qf (kp G1) (F0 m (pc + 3) ls rest)) : X p l e R s m args below meth c H locs (G.2.1 - G0.2.1) (G.2.2 - G0.2.2) Qf (hCpyQ G a0 sp a1 dp n kp) (F0 m pc ls (.int n :: .int dp :: .ref a1 :: .int sp :: .ref a0 :: rest)) := fun o ho => by
  obtain ⟨bw, n0, n1, f, g, h0, h1, hgd, hok, hk⟩ := hCpyQ_some ho
  obtain ⟨cs, r1, r2, r3, r4, r5, r6⟩ := (hY.1.1.2.1 _ _ h0).1
  have hat : va_at D clW (a1, .inl (ct.1 4, n1, .inr (.inr (.inr (.inr g))))) H := (hY.1.1.2.1 _ _ h1).2 rfl
  have hcd : H[a1]? = some (vp_cell (ct.1 4) (n1, .inr (.inr (.inr (.inr g))))) := hat
  rw [vp_cell_q] at hcd
  refine w_copy (ty := .object "java/lang/Object") va_rf E hS (hY.1.2.2.1 _ _ h1) (t := 4) rfl hlink hnat hstat hini r1 r2 r3 r4 r5 r6 hcd hgd (fun T vm₁ kA comp hT hal hkA hkk i hi => ?_) hR hsize hW hdg fun H1 locs1 z oq e1 s1 => kk _ H1 locs1 (hY.put h1 z oq (by
    show H1[a1]? = some (vp_cell _ _)
    rw [vp_cell_q]
    exact e1)) s1 o hk
  have ho := hok i hi
  cases hy : f (sp.toNatClampNeg + i) with
  | none => exact ⟨rfl, trivial⟩
  | some y =>
    rw [hy] at ho
    obtain ⟨cellV, g1, g3, ⟨kC, hkC⟩, hasg⟩ := any_of E.2.1 E.2.2 hY.1.1.2.1 ho
    obtain ⟨kA', comp', q1, q2, q3, -⟩ := (E.2.1.2 4 _ rfl).2
    cases hkA.symm.trans q1
    cases hkk.symm.trans q2
    obtain ⟨kE, hkE, -⟩ := Vm.findClass_spec q3
    obtain ⟨kC', hkC', -⟩ := hal.2.2 _ _ hkC
    obtain ⟨kE', hkE', -⟩ := hal.2.2 _ _ hkE
    refine ⟨rfl, cellV, (show T.heap[y]? = some cellV by rw [hT]; exact g1), (fun q h => by rw [h] at g3; cases g3), ⟨kC', hkC'⟩, ?_, ?_⟩
    · exact ⟨kE', hkE'⟩
    · show vm₁.assignable _ _ = true
      rw [hal.assignable]
      exact hasg _ q3
theorem gy_copyB {a0 a1 index : Nat} {sp dp n : Int32} {kp : GS → Option ρ} (E : ME p m c cc nL s args own D clW ct) (hY : YW D clW ck ct N ad P A S w G0 G H) (hS : va_S A s.heap H locs) (hlink : (Cond.methodLink own index arraycopyName).before args s = true) (hnat : (Cond.native arraycopyName).before args s = true) (hstat : (Cond.static arraycopyName).before args s = true) (hini : (Cond.initialized "java/lang/System").before args s = true)
    (hR : 1 ≤ R.frames ∧ 8 + (nativeFrameWords "java/lang/System" "arraycopy" 5 + 11) ≤ R.locals) (hsize : ls.size = nL) (hW : (rest.map fun v => v.category).sum ≤ 8) (hdg : decode cc pc = .ok (.invokestatic index, 3))
    (kk : ∀ (G1 : GS) (H1 : Heap) (locs1 : List Loc), YW D clW ck ct N ad P A S w G0 G1 H1 → va_S A s.heap H1 locs1 → X p l e R s m args below meth c H1 locs1 (G1.2.1 - G0.2.1) (G1.2.2 - G0.2.2) Qf (kp G1) (F0 m (pc + 3) ls rest)) : X p l e R s m args below meth c H locs (G.2.1 - G0.2.1) (G.2.2 - G0.2.2) Qf (hCpyB G a0 sp a1 dp n kp) (F0 m pc ls (.int n :: .int dp :: .ref a1 :: .int sp :: .ref a0 :: rest)) := fun o ho => by
  obtain ⟨bw, n0, n1, f, g, h0, h1, hgd, hok, hk⟩ := hCpyB_some ho
  obtain ⟨cs, r1, r2, r3, r4, r5, r6⟩ := (hY.1.1.2.1 _ _ h0).1
  have hat : va_at D clW (a1, .inl (ct.1 2, n1, .inl g)) H := (hY.1.1.2.1 _ _ h1).2 rfl
  have hcd : H[a1]? = some (vp_cell (ct.1 2) (n1, .inl g)) := hat
  rw [vp_cell_i] at hcd
  refine w_copy (ty := .byte) (fun v : Int32 => .int v) E hS (hY.1.2.2.1 _ _ h1) (t := 2) rfl hlink hnat hstat hini r1 r2 r3 r4 r5 r6 hcd hgd (fun T vm₁ kA comp hT hal hkA hkk i hi => ⟨hok i hi, trivial⟩) hR hsize hW hdg fun H1 locs1 z oq e1 s1 => kk _ H1 locs1 (hY.put h1 z oq (by
    show H1[a1]? = some (vp_cell _ _)
    rw [vp_cell_i]
    exact e1)) s1 o hk
/-- getClass of an array of objects -/
def hK4 {ρ : Type} (G : GS) (a : Nat) (k : Option ρ) : Option ρ := match G.1 a with
  | some (_, .inl q) => if q.1 = 4 then k else none
  | _ => none
theorem gy_getC {q index : Nat} (E : ME p m c cc nL s args own D clW ct) (hh : AP D clW ct G.1 H) (hlink : (Cond.methodLink own index ⟨"java/lang/Object", "getClass", "()Ljava/lang/Class;"⟩).before args s = true) (hdecl : (Cond.declares ⟨"java/lang/Object", "getClass", "()Ljava/lang/Class;"⟩).before args s = true)
    (hsel : (Cond.selects "[Ljava/lang/Object;" ⟨"java/lang/Object", "getClass", "()Ljava/lang/Class;"⟩ ⟨"java/lang/Object", "getClass", "()Ljava/lang/Class;"⟩).before args s = true) (hinst : (Cond.instanceMethod ⟨"java/lang/Object", "getClass", "()Ljava/lang/Class;"⟩).before args s = true) (hnat : (Cond.native ⟨"java/lang/Object", "getClass", "()Ljava/lang/Class;"⟩).before args s = true)
    (hR : 1 ≤ R.frames ∧ 22 ≤ R.locals) (hsize : ls.size = nL) (hW : (rest.map fun v => v.category).sum ≤ 8) (hdg : decode cc pc = .ok (.invokevirtual index, 3))
    (kk : X p l e R s m args below meth c H locs cells slots Qf sp (F0 m (pc + 3) ls (.ref (ct.2.1 6) :: rest))) : X p l e R s m args below meth c H locs cells slots Qf (hK4 G q sp) (F0 m pc ls (.ref q :: rest)) := fun o ho => by
  unfold hK4 at ho
  split at ho
  · rename_i bw x e
    split at ho
    · rename_i h4
      obtain ⟨cs, r1, r2, r3, r4, r5, r6⟩ := (hh _ _ e).1
      have hnm : s.vm.findClass "[Ljava/lang/Object;" = some (ct.1 4) := va_nmO (E.2.1.2 4 _ rfl).2 rfl
      exact va_getC E.1.1 E.1.2.1 (E.1.2.2.1.trans hsize.symm) E.1.2.2.2.1 hlink hdecl hsel hinst hnat E.2.2.2.1.1.2 ⟨cs, r1, r4, by rw [r2, h4]; exact hnm⟩ hR.1 (by omega) hdg (kk o ho)
    · cases ho
  · cases ho
theorem gx_ldcM {C : String} {index mi : Nat} (E : ME p m c cc nL s args own D clW ct) (hlink : (Cond.classLink own index C).before args s = true) (hM : va_Mi C mi s) (hdg : decode cc pc = .ok (.ldc index, 2))
    (kk : X p l e R s m args below meth c H locs cells slots Qf sp (F0 m (pc + 2) ls (.ref mi :: rest))) : X p l e R s m args below meth c H locs cells slots Qf sp (F0 m pc ls rest) := fun o ho => va_ldcM E.1.1 E.1.2.1 E.1.2.2.2.1 hlink hM hdg (kk o ho)
theorem gx_objInit {idx a0 : Nat} (E : ME p m c cc nL s args own D clW ct) (hlink : (Cond.methodLink own idx Lib.objectInit).before args s = true) (hinst : (Cond.instanceMethod Lib.objectInit).before args s = true) (hcode : (Cond.code Lib.objectInit ⟨#[0xb1]⟩ 1 none).before args s = true) (hR : 1 ≤ R.frames ∧ 20 ≤ R.locals) (hsize : ls.size = nL) (hW : (rest.map fun v => v.category).sum ≤ 8) (hdg : decode cc pc = .ok (.invokespecial idx, 3))
    (kk : X p l e R s m args below meth c H locs cells slots Qf sp (F0 m (pc + 3) ls rest)) : X p l e R s m args below meth c H locs cells slots Qf sp (F0 m pc ls (.ref a0 :: rest)) := fun o ho =>
  W.objInit E.1.1 E.1.2.1 E.1.2.2.2.1 hlink hinst hcode rfl (hsize.trans E.1.2.2.1.symm) rfl hdg hR.1 (by show 2 * 0 + _ + _ ≤ _; omega) (kk o ho)
theorem YW.gw {H1 : Heap} {S1 : US} (hY : YW D clW ck ct N ad P A S w G0 G H) (hG : GW D clW ck ct N ad P A S1 w G.1 H1) (hz : H1.size = H.size) : YW D clW ck ct N ad P A S1 w G0 G H1 := ⟨hY.1.of_gw hG hz, hY.2⟩
theorem YW.room (hC : YC ct R s A G0) (hY : YW D clW ck ct N ad P A S w G0 G H) : G.2.1 - G0.2.1 + (nmax ct - G.2.1) ≤ R.cells ∧ G.2.2 - G0.2.2 + (zmax ct - G.2.2) ≤ R.slots := by
  obtain ⟨h1, h2, h3⟩ := hY
  have a1 := h1.2.2.2.1
  have a2 := h1.2.2.2.2
  have b1 := hC.2.1
  have b2 := hC.2.2.1
  omega
theorem YW.room0 (hC : YC ct R s A G0) (hY : YW D clW ck ct N ad P A S w G0 G H) : G.2.1 - G0.2.1 ≤ R.cells ∧ G.2.2 - G0.2.2 ≤ R.slots := by
  have := hY.room hC
  omega
end YR4
section XHq
variable {ρ ρ' : Type} {p : Program} {l : Launch} {e : Env} {R : Room} {s : State} {m : MethodId} {args : Array Value} {below : List Frame} {meth : Method} {c : Code} {H : Heap} {locs : List Loc} {cells slots : Nat} {Qf : ρ → State → Prop} {sp a b : Option ρ} {g : JFrame}
variable {cc : ByteArray} {pc nL : Nat} {ls : Array Slot} {rest : List Value} {own : String}
variable {D : va_G} {cl : List vw_C} {ct : CT}
variable {k index maxL b0 len mc ms n : Nat} {st0 As : List Value} {y : MethodName} {bytes : ByteArray} {ret : Option FieldType} {rm : Room} {ws : List Cond} {C : String} {B : Heap → Prop} {A1 : Nat → Prop} {Qc : Array Value → State → Outcome → State → Prop}
theorem rqV (E : ME p m c cc nL s args own D cl ct) (hB : B H) (hrecv : ∃ cellB : Cell, H[b0]? = some cellB ∧ cellB.vm.isStatics = false ∧ s.vm.findClass C = some cellB.cls) (hM : Met l y ws rm (mP D cl ct (.ref b0 :: As) H.size B) Qc mc ms A1) (cw : CallW R s args own C index y bytes maxL ret ws rm mc ms n)
    (hn : As.length = n) (hsize : ls.size = nL) (hst : st0 = As.reverse ++ .ref b0 :: rest) (hW : (rest.map fun v => v.category).sum ≤ 8) (hdg : decode cc pc = .ok (.invokevirtual index, 3)) (hf : cells + mc ≤ R.cells ∧ slots + ms ≤ R.slots) : ∃ arr, RunL 3 p l e R s m args below meth c H locs cells slots mc ms (F0 m pc ls st0) rest (Qc arr) A1 :=
  ⟨_, va_runV E.1 hM cw ⟨mP_blind, hrecv, fun U hU hWm => ⟨rfl, by rw [hU], by rw [hU]; exact hB, va_K.moved hWm.alike E.2.1, JW.warm hWm E.2.2⟩⟩ rfl hn hsize hst (lv_room hW) hdg hf⟩
theorem rqS (E : ME p m c cc nL s args own D cl ct) (hB : B H) (hM : Met l y ws rm (mP D cl ct As H.size B) Qc mc ms A1) (cw : CallB R s args own index y bytes maxL ret ws rm mc ms n ∧ (Cond.static y).before args s = true)
    (hn : As.length = n) (hsize : ls.size = nL) (hst : st0 = As.reverse ++ rest) (hW : (rest.map fun v => v.category).sum ≤ 8) (hdg : decode cc pc = .ok (.invokestatic index, 3)) (hf : cells + mc ≤ R.cells ∧ slots + ms ≤ R.slots) : ∃ arr, RunL 3 p l e R s m args below meth c H locs cells slots mc ms (F0 m pc ls st0) rest (Qc arr) A1 :=
  ⟨_, va_runS E.1 hM cw ⟨mP_blind, fun U hU hWm => ⟨rfl, by rw [hU], by rw [hU]; exact hB, va_K.moved hWm.alike E.2.1, JW.warm hWm E.2.2⟩⟩ rfl hn hsize hst (lv_room hW) hdg hf⟩
theorem rqI (E : ME p m c cc nL s args own D cl ct) (hB : B H) (hM : Met l y ws rm (mP D cl ct (.ref b0 :: As) H.size B) Qc mc ms A1) (cw : CallB R s args own index y bytes maxL none ws rm mc ms n ∧ y.name = "<init>" ∧ (Cond.instanceMethod y).before args s = true)
    (hn : As.length = n) (hsize : ls.size = nL) (hst : st0 = As.reverse ++ .ref b0 :: rest) (hW : (rest.map fun v => v.category).sum ≤ 8) (hdg : decode cc pc = .ok (.invokespecial index, 3)) (hf : cells + mc ≤ R.cells ∧ slots + ms ≤ R.slots) : ∃ arr, RunL 3 p l e R s m args below meth c H locs cells slots mc ms (F0 m pc ls st0) rest (Qc arr) A1 :=
  ⟨_, va_runI E.1 hM cw ⟨mP_blind, fun U hU hWm => ⟨rfl, by rw [hU], by rw [hU]; exact hB, va_K.moved hWm.alike E.2.1, JW.warm hWm E.2.2⟩⟩ rfl hn hsize hst (lv_room hW) hdg hf⟩
theorem rqVN {host : String} (E : ME p m c cc nL s args own D cl ct) (hB : B H) (hrecv : ∃ cellB : Cell, H[b0]? = some cellB ∧ cellB.vm.isStatics = false ∧ s.vm.findClass C = some cellB.cls) (hM : Met l y ws rm (mP D cl ct (.ref b0 :: As) H.size B) Qc mc ms A1) (cw : va_CN R s args own index y host bytes maxL ret ws rm mc ms n ∧ (Cond.instanceMethod y).before args s = true ∧ (Cond.selects C y y).before args s = true)
    (hn : As.length = n) (hsize : ls.size = nL) (hst : st0 = As.reverse ++ .ref b0 :: rest) (hW : (rest.map fun v => v.category).sum ≤ 8) (hdg : decode cc pc = .ok (.invokevirtual index, 3)) (hf : cells + mc ≤ R.cells ∧ slots + ms ≤ R.slots) : ∃ arr, RunL 3 p l e R s m args below meth c H locs cells slots mc ms (F0 m pc ls st0) rest (Qc arr) A1 :=
  ⟨_, va_runVN E.1 hM cw ⟨mP_blind, hrecv, fun U hU hWm => ⟨rfl, by rw [hU], by rw [hU]; exact hB, va_K.moved hWm.alike E.2.1, JW.warm hWm E.2.2⟩⟩ rfl hn hsize hst (lv_room hW) hdg hf⟩
theorem rqSN {host : String} (E : ME p m c cc nL s args own D cl ct) (hB : B H) (hM : Met l y ws rm (mP D cl ct As H.size B) Qc mc ms A1) (cw : va_CN R s args own index y host bytes maxL ret ws rm mc ms n ∧ (Cond.static y).before args s = true)
    (hn : As.length = n) (hsize : ls.size = nL) (hst : st0 = As.reverse ++ rest) (hW : (rest.map fun v => v.category).sum ≤ 8) (hdg : decode cc pc = .ok (.invokestatic index, 3)) (hf : cells + mc ≤ R.cells ∧ slots + ms ≤ R.slots) : ∃ arr, RunL 3 p l e R s m args below meth c H locs cells slots mc ms (F0 m pc ls st0) rest (Qc arr) A1 :=
  ⟨_, va_runSN E.1 hM ⟨cw.1, cw.2, trivial⟩ ⟨mP_blind, fun U hU hWm => ⟨rfl, by rw [hU], by rw [hU]; exact hB, va_K.moved hWm.alike E.2.1, JW.warm hWm E.2.2⟩⟩ rfl hn hsize hst (lv_room hW) hdg hf⟩
theorem rqSU {cC : ClassId} (E : ME p m c cc nL s args own D cl ct) (hB : B H) (hat : ClassAt s C cC) (hrecv : ∃ cellB : Cell, H[b0]? = some cellB ∧ cellB.vm.isStatics = false ∧ s.vm.findClass C = some cellB.cls) (hM : Met l y ws rm (mP D cl ct (.ref b0 :: As) H.size B) Qc mc ms A1) (cw : va_CS R s args own index y bytes maxL ret ws rm mc ms n)
    (hn : As.length = n) (hsize : ls.size = nL) (hst : st0 = As.reverse ++ .ref b0 :: rest) (hW : (rest.map fun v => v.category).sum ≤ 8) (hdg : decode cc pc = .ok (.invokespecial index, 3)) (hf : cells + mc ≤ R.cells ∧ slots + ms ≤ R.slots) : ∃ arr, RunL 3 p l e R s m args below meth c H locs cells slots mc ms (F0 m pc ls st0) rest (Qc arr) A1 :=
  ⟨_, va_runSU hat E.1 hM cw ⟨mP_blind, hrecv, fun U hU hWm => ⟨rfl, by rw [hU], by rw [hU]; exact hB, va_K.moved hWm.alike E.2.1, JW.warm hWm E.2.2⟩⟩ rfl hn hsize hst (lv_room hW) hdg hf⟩
theorem rqF {x : MethodName} {count : Nat} {cC : ClassId} (E : ME p m c cc nL s args own D cl ct) (hB : B H) (hat : ClassAt s C cC) (hrecv : ∃ cellB : Cell, H[b0]? = some cellB ∧ cellB.vm.isStatics = false ∧ s.vm.findClass C = some cellB.cls) (hM : Met l y ws rm (mP D cl ct (.ref b0 :: As) H.size B) Qc mc ms A1) (cw : va_CI R s args own C index x y bytes maxL ret ws rm mc ms n)
    (hn : As.length = n) (hsize : ls.size = nL) (hst : st0 = As.reverse ++ .ref b0 :: rest) (hW : (rest.map fun v => v.category).sum ≤ 8) (hdg : decode cc pc = .ok (.invokeinterface index count, 5)) (hf : cells + mc ≤ R.cells ∧ slots + ms ≤ R.slots) : ∃ arr, RunL 5 p l e R s m args below meth c H locs cells slots mc ms (F0 m pc ls st0) rest (Qc arr) A1 :=
  ⟨_, va_runF hat E.1 hM cw ⟨mP_blind, hrecv, fun U hU hWm => ⟨rfl, by rw [hU], by rw [hU]; exact hB, va_K.moved hWm.alike E.2.1, JW.warm hWm E.2.2⟩⟩ rfl hn hsize hst (lv_room hW) hdg hf⟩theorem rqU {x : MethodName} {owner : String} (E : ME p m c cc nL s args own D cl ct) (hB : B H) (hrecv : ∃ cellB : Cell, H[b0]? = some cellB ∧ cellB.vm.isStatics = false ∧ s.vm.findClass C = some cellB.cls) (hM : Met l y ws rm (mP D cl ct (.ref b0 :: As) H.size B) Qc mc ms A1) (cw : va_CU R s args own C owner index x y bytes maxL ret ws rm mc ms n)
    (hn : As.length = n) (hsize : ls.size = nL) (hst : st0 = As.reverse ++ .ref b0 :: rest) (hW : (rest.map fun v => v.category).sum ≤ 8) (hdg : decode cc pc = .ok (.invokevirtual index, 3)) (hf : cells + mc ≤ R.cells ∧ slots + ms ≤ R.slots) : ∃ arr, RunL 3 p l e R s m args below meth c H locs cells slots mc ms (F0 m pc ls st0) rest (Qc arr) A1 :=
  ⟨_, va_runU E.1 hM cw ⟨mP_blind, hrecv, fun U hU hWm => ⟨rfl, by rw [hU], by rw [hU]; exact hB, va_K.moved hWm.alike E.2.1, JW.warm hWm E.2.2⟩⟩ rfl hn hsize hst (lv_room hW) hdg hf⟩
end XHq
section YR5
variable {ρ ρ' : Type} {p : Program} {l : Launch} {e : Env} {R : Room} {s : State} {m : MethodId} {args : Array Value} {below : List Frame} {meth : Method} {c : Code} {H : Heap} {locs : List Loc} {Qf : ρ → State → Prop} {sp a b : Option ρ} {g : JFrame} {cells slots : Nat}
variable {cc : ByteArray} {pc nL : Nat} {ls : Array Slot} {rest : List Value} {own : String}
variable {D : va_G} {ck : Nat → UC} {ct : CT} {N : Nat} {ad : Nat → Nat} {P : Nat → Nat → Option Nat} {A : Nat → Prop} {S : US} {w : Int64} {h : AH}
/-- a place of the cache of small Integers -/
theorem gx_cacheL {j : Int32} (E : ME p m c cc nL s args own D clW ct) (hG : GW D clW ck ct N ad P A S w h H) (hdg : decode cc pc = .ok (.aaload, 1))
    (kk : X p l e R s m args below meth c H locs cells slots Qf sp (F0 m (pc + 1) ls (.ref (ct.2.1 (1000 + j.toNatClampNeg)) :: rest))) : X p l e R s m args below meth c H locs cells slots Qf (if j < 0 ∨ 256 ≤ j.toNatClampNeg then none else sp) (F0 m pc ls (.int j :: .ref (ct.2.1 2) :: rest)) := X.guard fun hj o ho => by
  obtain ⟨⟨hx, hb, hml, hown, hts⟩, hK, hJ⟩ := E
  obtain ⟨h0, scr, h1, h2, h3, h4, h5⟩ := hJ.2.1.2.2
  have hc : H[ct.2.1 2]? = some scr := (hG.2.2.2.1 _ h0).trans h1
  exact W.aald (v := .ref (ct.2.1 (1000 + j.toNatClampNeg))) (ty := .object "java/lang/Integer") hx hb hc h2 rfl h3 (by rw [h4]; exact hj) (h5 _ (by omega)) rfl rfl hdg (kk o ho)
end YR5
section YR6
variable {ρ ρ' : Type} {p : Program} {l : Launch} {e : Env} {R : Room} {s : State} {m : MethodId} {args : Array Value} {below : List Frame} {meth : Method} {c : Code} {H : Heap} {locs : List Loc} {Qf : ρ → State → Prop} {sp a b : Option ρ} {g : JFrame} {cells slots : Nat}
variable {cc : ByteArray} {pc nL : Nat} {ls : Array Slot} {rest : List Value} {own : String}
variable {D : va_G} {ct : CT} {h : AH}
/-- instanceof of a free object's own class -/
theorem fx_inst (E : ME p m c cc nL s args own D clW ct) (hh : AP D clW ct h H) {q ci n index : Nat} {nm : String} {T : u_T} (hc : clW[ci]? = some (nm, T, n)) (hlink : (Cond.classLink own index nm).before args s = true) (hdg : decode cc pc = .ok (.instanceof index, 3))
    (kk : X p l e R s m args below meth c H locs cells slots Qf sp (F0 m (pc + 3) ls (.int 1 :: rest))) : X p l e R s m args below meth c H locs cells slots Qf (hC h q ci sp) (F0 m pc ls (.ref q :: rest)) := fun o ho => by
  obtain ⟨fs, bw, hq, ho⟩ := hC_some ho
  exact va_instE E.1.1 E.1.2.1 E.1.2.2.2.1 hlink (recvA E.2.1 hh hq hc) hdg (kk o ho)
/-- a String constant -/
theorem gx_ldcS {index : Nat} {tx : String} {z : Nat} (E : ME p m c cc nL s args own D clW ct) (hz : (own, index, tx, z) ∈ scL) (hdg : decode cc pc = .ok (.ldc index, 2))
    (kk : X p l e R s m args below meth c H locs cells slots Qf sp (F0 m (pc + 2) ls (.ref (ct.2.1 z) :: rest))) : X p l e R s m args below meth c H locs cells slots Qf sp (F0 m pc ls rest) := fun o ho => va_ldcS (q := ct.2.1 z) (tx := tx) E.1.1 E.1.2.1 E.1.2.2.2.1 (show vk_R own index tx (ct.2.1 z) s from E.2.2.2.1.2.1 (own, index, tx, z) hz) hdg (kk o ho)
end YR6
