/-! THE FRAME: a plain program beside the walk. X: if the plain program sp answers o, the machine comes to a state of Qf o. UW: a world of numbered cells, its numbers in one table S. -/
set_option maxRecDepth 100000
/-- what a run rests on: the classes of arrays; addresses of old cells that are named; the first new cell; the heap at the start -/
abbrev CT : Type := (Nat → ClassId) × (Nat → Nat) × Nat × Heap
def loopK {σ ρ : Type} (body : (σ → Option ρ) → σ → Option ρ) : Nat → σ → Option ρ
  | 0, _ => none
  | n + 1, s => body (loopK body n) s
def joinB {σ ρ : Type} (f : σ → Option ρ) (b : (σ → Option ρ) → Option ρ) : Option ρ := b f
def letB {α ρ : Type} (v : α) (k : α → Option ρ) : Option ρ := k v
def callK {α ρ : Type} (a : Option α) (k : α → Option ρ) : Option ρ := match a with
  | none => none
  | some x => k x
def FUEL : Nat := 5000
theorem callK_some {α ρ : Type} {a : Option α} {k : α → Option ρ} {o : ρ} (h : callK a k = some o) : ∃ x, a = some x ∧ k x = some o := by
  cases a with
  | none => cases h
  | some x => exact ⟨x, rfl, h⟩
/-- kinds of cells: an object (place of its class, number of its fields, kinds of fields: 0 whole number, 1 the long, 2 a free reference, j+3 the cell j); an array (place of its class, length) -/
abbrev UC : Type := (Nat × Nat × (Nat → Nat)) ⊕ (Nat × Nat)
abbrev US : Type := Nat → Nat → Int32
def u2 (S : US) (i k : Nat) (v : Int32) : US := fun a b => if a = i ∧ b = k then v else S a b
theorem u2_self (S : US) (i k : Nat) (v : Int32) : u2 S i k v i k = v := by simp [u2]
theorem u2_row (S : US) (i k : Nat) (v : Int32) {a : Nat} (h : a ≠ i) : u2 S i k v a = S a := by funext b; simp [u2, h]
theorem u2_ne (S : US) (i k : Nat) (v : Int32) {a b : Nat} (h : ¬ (a = i ∧ b = k)) : u2 S i k v a b = S a b := by simp only [u2, if_neg h]
theorem u2_upd (S : US) (i k : Nat) (v : Int32) : u2 S i k v i = upd (S i) k v := by funext b; simp [u2, upd]
def uV (fk : Nat → Nat) (ad : Nat → Nat) (f : Nat → Int32) (w : Int64) (P : Nat → Option Nat) (k : Nat) : Value :=
  match fk k with
  | 0 => .int (f k)
  | 1 => .long w
  | 2 => va_rf (P k)
  | j + 3 => .ref (ad j)
def uE (ck : Nat → UC) (ct : CT) (ad : Nat → Nat) (P : Nat → Nat → Option Nat) (S : US) (w : Int64) (i : Nat) : va_E :=
  match ck i with
  | .inl q => .inr (q.1, (List.range q.2.1).map (uV q.2.2 ad (S i) w (P i)))
  | .inr q => .inl (ct.1 q.1, q.2, .inl (S i))
def uws (ck : Nat → UC) (ct : CT) (N : Nat) (ad : Nat → Nat) (P : Nat → Nat → Option Nat) (S : US) (w : Int64) : va_W := (List.range N).map (fun i => (ad i, uE ck ct ad P S w i))
def UW (D : va_G) (cl : List vw_C) (ck : Nat → UC) (ct : CT) (N : Nat) (ad : Nat → Nat) (P : Nat → Nat → Option Nat) (A : Nat → Prop) (S : US) (w : Int64) (H : Heap) : Prop :=
  va_P D cl (uws ck ct N ad P S w) H ∧ va_D A (uws ck ct N ad P S w)
/-- which cells a method of the world may change -/
def uA (N : Nat) (ad : Nat → Nat) (sz : Nat) : Nat → Prop := fun q => (∃ i, i < N ∧ q = ad i) ∨ sz ≤ q
/-- the new cells alone -/
def nA (sz : Nat) : Nat → Prop := fun q => sz ≤ q
theorem uws_at {ck : Nat → UC} {ct : CT} {N : Nat} {ad : Nat → Nat} {P : Nat → Nat → Option Nat} {S : US} {w : Int64} {i : Nat} (h : i < N) : (uws ck ct N ad P S w)[i]? = some (ad i, uE ck ct ad P S w i) := by
  simp [uws, h]
theorem uws_in {ck : Nat → UC} {ct : CT} {N : Nat} {ad : Nat → Nat} {P : Nat → Nat → Option Nat} {S : US} {w : Int64} {k : Nat} {q : Nat × va_E} (h : (uws ck ct N ad P S w)[k]? = some q) : k < N ∧ q = (ad k, uE ck ct ad P S w k) := by
  have h1 : k < N := by
    have := (List.getElem?_eq_some_iff.mp h).1
    simpa [uws] using this
  rw [uws_at h1] at h
  exact ⟨h1, (Option.some.inj h).symm⟩
theorem uE_obj {ck : Nat → UC} {ct : CT} {ad : Nat → Nat} {P : Nat → Nat → Option Nat} {S : US} {w : Int64} {i ci n : Nat} {fk : Nat → Nat} (h : ck i = .inl (ci, n, fk)) : uE ck ct ad P S w i = .inr (ci, (List.range n).map (uV fk ad (S i) w (P i))) := by
  unfold uE; rw [h]
theorem uE_arr {ck : Nat → UC} {ct : CT} {ad : Nat → Nat} {P : Nat → Nat → Option Nat} {S : US} {w : Int64} {i t n : Nat} (h : ck i = .inr (t, n)) : uE ck ct ad P S w i = .inl (ct.1 t, n, .inl (S i)) := by
  unfold uE; rw [h]
theorem uE_row {ck : Nat → UC} {ct : CT} {ad : Nat → Nat} {P : Nat → Nat → Option Nat} {S S' : US} {w : Int64} {i : Nat} (h : S' i = S i) : uE ck ct ad P S' w i = uE ck ct ad P S w i := by
  unfold uE; rw [h]
theorem uws_set {ck : Nat → UC} {ct : CT} {N : Nat} {ad : Nat → Nat} {P : Nat → Nat → Option Nat} {S : US} {w : Int64} {i k : Nat} {v : Int32} {e : va_E} (hi : i < N) (he : e = uE ck ct ad P (u2 S i k v) w i) : (uws ck ct N ad P S w).set i (ad i, e) = uws ck ct N ad P (u2 S i k v) w := by
  subst he
  apply List.ext_getElem?
  intro j
  by_cases hj : j < N
  · rw [uws_at hj]
    by_cases hij : i = j
    · subst hij
      rw [List.getElem?_set_self (by simpa [uws] using hi)]
    · rw [List.getElem?_set_ne hij, uws_at hj, uE_row (u2_row S i k v (fun h => hij h.symm))]
  · rw [List.getElem?_eq_none (by simpa [uws] using Nat.le_of_not_lt hj), List.getElem?_eq_none (by simpa [uws] using Nat.le_of_not_lt hj)]
theorem uV_map_at {fk ad : Nat → Nat} {f : Nat → Int32} {w : Int64} {P : Nat → Option Nat} {n k : Nat} (hk : k < n) : ((List.range n).map (uV fk ad f w P))[k]? = some (uV fk ad f w P k) := by
  simp [hk]
theorem uV_set {fk ad : Nat → Nat} {S : US} {w : Int64} {P : Nat → Option Nat} {n i k : Nat} {v : Int32} (hk : k < n) (hf : fk k = 0) : ((List.range n).map (uV fk ad (S i) w P)).set k (.int v) = (List.range n).map (uV fk ad (u2 S i k v i) w P) := by
  apply List.ext_getElem?
  intro j
  by_cases hj : j < n
  · rw [uV_map_at hj]
    by_cases hkj : k = j
    · subst hkj
      rw [List.getElem?_set_self (by simpa using hk)]
      simp [uV, hf, u2]
    · rw [List.getElem?_set_ne hkj, uV_map_at hj]
      have : u2 S i k v i j = S i j := by simp [u2]; intro h; exact absurd h.symm hkj
      unfold uV
      rw [this]
  · rw [List.getElem?_eq_none (by simpa using Nat.le_of_not_lt hj), List.getElem?_eq_none (by simpa using Nat.le_of_not_lt hj)]
theorem UW.kept {D : va_G} {cl : List vw_C} {ck : Nat → UC} {ct : CT} {N : Nat} {ad : Nat → Nat} {P : Nat → Nat → Option Nat} {A : Nat → Prop} {S : US} {w : Int64} {H H1 : Heap} (h : UW D cl ck ct N ad P A S w H) (hq : ∀ i, i < N → H1[ad i]? = H[ad i]?) : UW D cl ck ct N ad P A S w H1 :=
  ⟨h.1.kept (fun k q hk => by obtain ⟨h1, rfl⟩ := uws_in hk; exact hq k h1), h.2⟩
theorem UW.lt {D : va_G} {cl : List vw_C} {ck : Nat → UC} {ct : CT} {N : Nat} {ad : Nat → Nat} {P : Nat → Nat → Option Nat} {A : Nat → Prop} {S : US} {w : Int64} {H : Heap} (h : UW D cl ck ct N ad P A S w H) {i : Nat} (hi : i < N) : ad i < H.size := (h.1 i _ (uws_at hi)).lt
theorem UW.inA {D : va_G} {cl : List vw_C} {ck : Nat → UC} {ct : CT} {N : Nat} {ad : Nat → Nat} {P : Nat → Nat → Option Nat} {A : Nat → Prop} {S : US} {w : Int64} {H : Heap} (h : UW D cl ck ct N ad P A S w H) {i : Nat} (hi : i < N) : A (ad i) := h.2.2 i _ (uws_at hi)
theorem UW.to {D : va_G} {cl : List vw_C} {ck : Nat → UC} {ct : CT} {N : Nat} {ad : Nat → Nat} {P : Nat → Nat → Option Nat} {A B : Nat → Prop} {S : US} {w : Int64} {H : Heap} (h : UW D cl ck ct N ad P A S w H) (hB : ∀ i, i < N → B (ad i)) : UW D cl ck ct N ad P B S w H :=
  ⟨h.1, h.2.1, fun k q hk => by obtain ⟨h1, rfl⟩ := uws_in hk; exact hB k h1⟩
/-- the kinds of arrays -/
def tyW (ct : CT) : List (ClassId × FieldType) := [(ct.1 0, .int), (ct.1 1, .boolean), (ct.1 2, .byte), (ct.1 3, .long), (ct.1 4, .object "java/lang/Object"), (ct.1 5, .object "java/lang/String"), (ct.1 6, .array .int)]
/-- words of the tables that ride in no list: links of nest mates, castable pairs, declared methods; what interface calls ask; arrays of references -/
def jwOk (w : Cond) : Bool := match w with
  | .fieldLinkNest .. => true
  | .methodLinkNest .. => true
  | .castable .. => true
  | .declares .. => true
  | .privateMethod .. => true
  | _ => false
def jwN : List Cond := lw_tbl.filter jwOk
def jwF : List (String × MethodName × MethodName) := [
  ("java/util/ArrayList", ⟨"java/util/List", "add", "(Ljava/lang/Object;)Z"⟩, ⟨"java/util/ArrayList", "add", "(Ljava/lang/Object;)Z"⟩),
  ("java/util/ArrayList", ⟨"java/util/List", "size", "()I"⟩, ⟨"java/util/ArrayList", "size", "()I"⟩),
  ("java/util/ArrayList", ⟨"java/util/List", "remove", "(I)Ljava/lang/Object;"⟩, ⟨"java/util/ArrayList", "remove", "(I)Ljava/lang/Object;"⟩),
  ("java/util/ArrayList", ⟨"java/util/List", "get", "(I)Ljava/lang/Object;"⟩, ⟨"java/util/ArrayList", "get", "(I)Ljava/lang/Object;"⟩),
  ("java/util/ArrayList", ⟨"java/util/List", "isEmpty", "()Z"⟩, ⟨"java/util/ArrayList", "isEmpty", "()Z"⟩),
  ("java/util/ArrayList", ⟨"java/util/Collection", "toArray", "()[Ljava/lang/Object;"⟩, ⟨"java/util/ArrayList", "toArray", "()[Ljava/lang/Object;"⟩),
  ("HorizonSeam$Chain", ⟨"HorizonSeam$Form", "of", "([I)I"⟩, ⟨"HorizonSeam$Chain", "of", "([I)I"⟩),
  ("HorizonSeam$Not", ⟨"HorizonSeam$Form", "of", "([I)I"⟩, ⟨"HorizonSeam$Not", "of", "([I)I"⟩),
  ("HorizonSeam$Number", ⟨"HorizonSeam$Form", "of", "([I)I"⟩, ⟨"HorizonSeam$Number", "of", "([I)I"⟩),
  ("HorizonSeam$Value", ⟨"HorizonSeam$Form", "of", "([I)I"⟩, ⟨"HorizonSeam$Value", "of", "([I)I"⟩)]
/-- statics of old cells, with their values -/
def rfZ (ct : CT) : Option Nat := if ct.2.1 7 = 0 then none else some (ct.2.1 8)
def rfN (ct : CT) (k : Nat) : Option Nat := if ct.2.1 k = 0 then none else some (ct.2.1 (k + 1))
def szL (ct : CT) : List (String × String × String × Value) := [("java/lang/String", "COMPACT_STRINGS", "Z", .int 1), ("java/util/ArrayList", "DEFAULTCAPACITY_EMPTY_ELEMENTDATA", "[Ljava/lang/Object;", .ref (ct.2.1 0)), ("java/util/ArrayList", "EMPTY_ELEMENTDATA", "[Ljava/lang/Object;", .ref (ct.2.1 1)), ("java/lang/Integer$IntegerCache", "cache", "[Ljava/lang/Integer;", .ref (ct.2.1 2)), ("java/lang/Integer$IntegerCache", "high", "I", .int 127), ("java/lang/Integer", "DigitTens", "[B", .ref (ct.2.1 3)), ("java/lang/Integer", "DigitOnes", "[B", .ref (ct.2.1 4)), ("jdk/internal/util/Preconditions", "SIOOBE_FORMATTER", "Ljava/util/function/BiFunction;", va_rf (rfZ ct)), ("jdk/internal/misc/Unsafe", "ARRAY_BYTE_BASE_OFFSET", "I", .int 16), ("jdk/internal/util/ArraysSupport", "LOG2_ARRAY_BYTE_INDEX_SCALE", "I", .int 0), ("java/lang/Throwable", "UNASSIGNED_STACK", "[Ljava/lang/StackTraceElement;", va_rf (rfN ct 9)), ("java/lang/Throwable", "SUPPRESSED_SENTINEL", "Ljava/util/List;", va_rf (rfN ct 11))]
def SZ (ct : CT) (U : State) : Prop := ∀ q ∈ szL ct, va_Z q.1 q.2.1 q.2.2.1 q.2.2.2 (fun a => ct.2.2.1 ≤ a) U ct.2.2.2
def MZ (ct : CT) (U : State) : Prop := va_Mi "java/util/ArrayList" (ct.2.1 5) U ∧ va_Mi "[Ljava/lang/Object;" (ct.2.1 6) U
theorem SZ.moved {ct : CT} {u U : State} (hvm : u.vm.Alike U.vm) (h : SZ ct u) : SZ ct U := fun q hq => (h q hq).moved hvm
theorem MZ.moved {ct : CT} {u U : State} (hvm : u.vm.Alike U.vm) (h : MZ ct u) : MZ ct U := ⟨h.1.moved hvm, h.2.moved hvm⟩
/-- String constants: whose pool, which entry, the text, which named address -/
def scL : List (String × Nat × String × Nat) := [("HorizonSeam$Reader", 33, "knots", 40), ("HorizonSeam$Reader", 35, "week", 41), ("HorizonSeam$Reader", 37, "frays", 42), ("HorizonSeam$Reader", 39, "pulls", 43), ("HorizonSeam$Reader", 45, "strain", 44), ("HorizonSeam$Reader", 47, "seam", 45), ("HorizonSeam$Reader", 49, "stitch", 46), ("HorizonSeam$Reader", 51, "beside", 47), ("HorizonSeam$Reader", 53, "women", 48), ("HorizonSeam$Reader", 55, "day", 49), ("HorizonSeam$Reader", 102, ";()+-*/<=", 50), ("HorizonSeam$Reader", 180, "not", 51), ("HorizonSeam$Reader", 190, "and", 52), ("HorizonSeam$Reader", 197, "or", 53), ("HorizonSeam$Reader", 276, "stretch", 54), ("HorizonSeam$Reader", 280, "woman", 55)]
def SC (ct : CT) (U : State) : Prop := ∀ q ∈ scL, vk_R q.1 q.2.1 q.2.2.1 (ct.2.1 q.2.2.2) U
/-- the cache of small Integers: its places name the addresses from 1000 on -/
def IC (ct : CT) (U : State) : Prop := ct.2.1 2 < ct.2.2.1 ∧ ∃ scr : Cell, ct.2.2.2[ct.2.1 2]? = some scr ∧ U.isArrayOf scr (.object "java/lang/Integer") ∧ scr.vm ≠ .unknown ∧ scr.slots.size = 256 ∧ ∀ j : Nat, j < 256 → scr.slots[j]? = some (.ref (ct.2.1 (1000 + j)))
theorem IC.moved {ct : CT} {u U : State} (hvm : u.vm.Alike U.vm) (h : IC ct u) : IC ct U := by
  obtain ⟨h0, scr, h1, h2, h3⟩ := h
  exact ⟨h0, scr, h1, State.isArrayOf_alike hvm h2, h3⟩
/-- where a static field lies, its class's statics cell in H -/
def vx_L (C n d : String) (A : Nat → Prop) (U : State) (H : Heap) : Prop := ∃ (c : ClassId) (k : Class) (i : Nat) (f : Field) (a : Nat) (cell : Cell), U.vm.findClass C = some c ∧ U.fieldFound? C n d = some (c, k, i, f) ∧ f.isStatic = true ∧ k.statics = some a ∧ H[a]? = some cell ∧ cell.vm.isStatics = true ∧ cell.cls = c ∧ f.slot < cell.slots.size ∧ k.staticTypes[f.slot]? = some f.type ∧ ¬ A a
theorem vx_L.moved {C n d : String} {A : Nat → Prop} {u U : State} {H : Heap} (hvm : u.vm.Alike U.vm) (h : vx_L C n d A u H) : vx_L C n d A U H := by
  obtain ⟨c, k, i, f, a, cell, h1, h2, h3, h4, h5, h6, h7, h8, h9, h10⟩ := h
  obtain ⟨k', hi', he⟩ := State.fieldFound?_setVm hvm h2
  exact ⟨c, k', i, f, a, cell, by rw [hvm.findClass]; exact h1, hi', h3, by rw [he]; exact h4, h5, h6, h7, h8, by rw [he]; exact h9, h10⟩
theorem vx_L.kept {C n d : String} {A : Nat → Prop} {U : State} {H H1 : Heap} (h : vx_L C n d A U H) (hq : ∀ a : Nat, a < H.size → ¬ A a → H1[a]? = H[a]?) : vx_L C n d A U H1 := by
  obtain ⟨c, k, i, f, a, cell, h1, h2, h3, h4, h5, h6, h7, h8, h9, h10⟩ := h
  exact ⟨c, k, i, f, a, cell, h1, h2, h3, h4, by rw [hq a (Array.getElem?_eq_some_iff.mp h5).1 h10]; exact h5, h6, h7, h8, h9, h10⟩
theorem vx_L.narrow {C n d : String} {A B : Nat → Prop} {U : State} {H : Heap} (h : vx_L C n d A U H) (hAB : ∀ q, B q → A q) : vx_L C n d B U H := by
  obtain ⟨c, k, i, f, a, cell, h1, h2, h3, h4, h5, h6, h7, h8, h9, h10⟩ := h
  exact ⟨c, k, i, f, a, cell, h1, h2, h3, h4, h5, h6, h7, h8, h9, fun z => h10 (hAB _ z)⟩
theorem vx_L.word {C n d : String} {A : Nat → Prop} {s : State} {args : Array Value} (h : vx_L C n d A s s.heap) : (Cond.laysStatic C n d).before args s = true := by
  obtain ⟨c, k, i, f, a, cell, h1, h2, h3, h4, h5, h6, h7, h8, h9, -⟩ := h
  show (Cond.laysStatic C n d).holds args s none s [] = true
  exact Cond.laysStatic_of h1 h2 h3 h4 h5 h6 h7 h8 h9
/-- .. and what it holds: null or some reference -/
def vx_Zq (C n d : String) (A : Nat → Prop) (U : State) (H : Heap) : Prop := va_Zq C n d A U H ∧ vx_L C n d A U H
theorem vx_Zq.moved {C n d : String} {A : Nat → Prop} {u U : State} {H : Heap} (hvm : u.vm.Alike U.vm) (h : vx_Zq C n d A u H) : vx_Zq C n d A U H := ⟨va_Zq.moved hvm h.1, vx_L.moved hvm h.2⟩
theorem vx_Zq.kept {C n d : String} {A : Nat → Prop} {U : State} {H H1 : Heap} (h : vx_Zq C n d A U H) (hq : ∀ a : Nat, a < H.size → ¬ A a → H1[a]? = H[a]?) : vx_Zq C n d A U H1 := ⟨va_Zq.kept h.1 hq, vx_L.kept h.2 hq⟩
theorem vx_Zq.narrow {C n d : String} {A B : Nat → Prop} {U : State} {H : Heap} (h : vx_Zq C n d A U H) (hAB : ∀ q, B q → A q) : vx_Zq C n d B U H := ⟨va_Zq.narrow h.1 hAB, vx_L.narrow h.2 hAB⟩
/-- further words that ride in no list: what interface calls of Object's methods, arrays of arrays ask -/
def jxOk (w : Cond) : Bool := match w with
  | .publicMethod .. => true
  | .unhidden .. => true
  | .interfaceMethod .. => true
  | _ => false
def jxN : List Cond := lw_tbl.filter jxOk
theorem jx_tab {w : Cond} (h : w ∈ jxN) : w.onTables = true := by
  have := (List.mem_filter.mp h).2
  cases w <;> first | rfl | (simp [jxOk] at this)
def jxAO (U : State) : Prop := (Cond.arrayOver (.array .int)).before #[] U = true
theorem jxAO.moved {u U : State} (hvm : u.vm.Alike U.vm) (h : jxAO u) : jxAO U := by
  have h1 : (Cond.arrayOver (.array .int)).before #[] (u.setVm U.vm) = true := by rw [Cond.arrayOver_setVmC hvm]; exact h
  exact h1
def jxZ : List (String × String) := [("UNASSIGNED_STACK", Bundle.steD), ("SUPPRESSED_SENTINEL", Bundle.listD)]
def jxC : List (String × String) := [("java/lang/IllegalArgumentException", "java/util/NoSuchElementException")]
def JX (ct : CT) (U : State) : Prop := (∀ w ∈ jxN, va_Nw w U) ∧ jxAO U ∧ (∀ q ∈ jxZ, vx_L Bundle.tN q.1 q.2 (fun a => ct.2.2.1 ≤ a) U ct.2.2.2) ∧ ∀ q ∈ jxC, va_Nc q.1 q.2 U
theorem jx_iface {r o n d : String} {s U : State} (hW : s.vm.Alike U.vm) (hZ : va_Nw (.interfaceMethod r o n d) s) : va_Nw (.interfaceMethod r o n d) U := by
  have h1 : (Cond.interfaceMethod r o n d).before #[] (s.setVm U.vm) = (Cond.interfaceMethod r o n d).before #[] s := by
    simp only [Cond.before, Cond.holds, Cond.value, State.vm_setVm, hW.findClass, State.methodFound?_setVm hW, State.methodNamed?_setVm hW, arm_isInterface_setVm hW]
  exact va_tabs rfl (rfl : (s.setVm U.vm).vm = U.vm) (by rw [h1]; exact hZ)
theorem JX.warm {ct : CT} {s U : State} (hW : s.vm.Alike U.vm) (h : JX ct s) : JX ct U := by
  refine ⟨fun w hw => ?_, h.2.1.moved hW, fun q hq => (h.2.2.1 q hq).moved hW, fun q hq => (h.2.2.2 q hq).moved hW⟩
  have h1 := h.1 w hw
  have := (List.mem_filter.mp hw).2
  cases w <;> first | exact jx_iface hW h1 | exact va_tabs rfl (rfl : (s.setVm U.vm).vm = U.vm) (by rw [Cond.publicMethod_setVm hW]; exact h1) | exact va_tabs rfl (rfl : (s.setVm U.vm).vm = U.vm) (by rw [Cond.unhidden_setVm hW]; exact h1) | (simp [jxOk] at this)
def JW (ct : CT) (U : State) : Prop := SZ ct U ∧ (MZ ct U ∧ SC ct U ∧ IC ct U) ∧ (∀ w ∈ jwN, va_Nw w U) ∧ (∀ q ∈ jwF, va_Fw q.1 q.2.1 q.2.2 U) ∧ va_AO "java/lang/Object" U ∧ va_AO "java/lang/String" U ∧ JX ct U
theorem va_Nw.warmPv {x : MethodName} {s U : State} (hW : s.WarmedH U.vm) (hZ : va_Nw (.privateMethod x) s) : va_Nw (.privateMethod x) U := va_tabs rfl (rfl : (s.setVm U.vm).vm = U.vm) (by rw [Cond.privateMethod_setVm hW.alike]; exact hZ)
theorem jw_tab {w : Cond} (h : w ∈ jwN) : w.onTables = true := by
  have := (List.mem_filter.mp h).2
  cases w <;> first | rfl | (simp [jwOk] at this)
theorem jwF_ok : ∀ q ∈ jwF, q.2.1.cls ≠ "java/lang/invoke/MethodHandle" ∧ q.2.1.cls ≠ "java/lang/invoke/VarHandle" := by decide +kernel
theorem JW.warm {ct : CT} {s U : State} (hW : s.WarmedH U.vm) (h : JW ct s) : JW ct U := by
  refine ⟨h.1.moved hW.alike, ⟨h.2.1.1.moved hW.alike, fun q hq => (h.2.1.2.1 q hq).warm hW, h.2.1.2.2.moved hW.alike⟩, fun w hw => ?_, fun q hq => (h.2.2.2.1 q hq).moved (jwF_ok q hq) hW.alike, h.2.2.2.2.1.moved hW.alike, h.2.2.2.2.2.1.moved hW.alike, h.2.2.2.2.2.2.warm hW.alike⟩
  have h1 := h.2.2.1 w hw
  have := (List.mem_filter.mp hw).2
  cases w <;> first | exact h1.warmF hW | exact h1.warmM hW | exact h1.warmC hW | exact h1.warmD hW | exact va_Nw.warmPv hW h1 | (simp [jwOk] at this)
theorem JW.same {ct : CT} {u U : State} (hv : u.vm = U.vm) (h : JW ct u) : JW ct U := by
  have ha : u.vm.Alike U.vm := by rw [← hv]; exact Vm.Alike.refl _
  exact ⟨h.1.moved ha, ⟨h.2.1.1.moved ha, fun q hq => (h.2.1.2.1 q hq).same hv.symm, h.2.1.2.2.moved ha⟩, fun w hw => (h.2.2.1 w hw).same (jw_tab hw) hv, fun q hq => (h.2.2.2.1 q hq).moved (jwF_ok q hq) ha, h.2.2.2.2.1.moved ha, h.2.2.2.2.2.1.moved ha, h.2.2.2.2.2.2.warm ha⟩
/-- a word of the tables that rides in JW, at its place -/
theorem JW.at {ct : CT} {s : State} {args : Array Value} (h : JW ct s) {w : Cond} (hw : w ∈ lw_tbl) (hk : jwOk w = true) : w.before args s = true := (h.2.2.1 w (List.mem_filter.mpr ⟨hw, hk⟩)).use (jw_tab (List.mem_filter.mpr ⟨hw, hk⟩))
theorem JW.nw {ct : CT} {s : State} (h : JW ct s) {w : Cond} (hw : w ∈ lw_tbl) (hk : jwOk w = true) : va_Nw w s := h.2.2.1 w (List.mem_filter.mpr ⟨hw, hk⟩)
theorem JW.xw {ct : CT} {s : State} {args : Array Value} (h : JW ct s) {w : Cond} (hw : w ∈ lw_tbl) (hk : jxOk w = true) : w.before args s = true := (h.2.2.2.2.2.2.1 w (List.mem_filter.mpr ⟨hw, hk⟩)).use (jx_tab (List.mem_filter.mpr ⟨hw, hk⟩))
theorem JW.ax {ct : CT} {s : State} {args : Array Value} (h : JW ct s) : (Cond.arrayOver (.array .int)).before args s = true := h.2.2.2.2.2.2.2.1
theorem JW.zl {ct : CT} {s : State} (h : JW ct s) : ∀ q ∈ jxZ, vx_L Bundle.tN q.1 q.2 (fun a => ct.2.2.1 ≤ a) s ct.2.2.2 := h.2.2.2.2.2.2.2.2.1
theorem JW.nc {ct : CT} {s : State} (h : JW ct s) : ∀ q ∈ jxC, va_Nc q.1 q.2 s := h.2.2.2.2.2.2.2.2.2
/-- what stays through a method: the machine, the code, the classes -/
def ME (p : Program) (m : MethodId) (c : Code) (cc : ByteArray) (nL : Nat) (s : State) (args : Array Value) (own : String) (D : va_G) (cl : List vw_C) (ct : CT) : Prop :=
  CallFix p m c cc nL s args lw_all own ∧ va_K D cl (tyW ct) s ∧ JW ct s
def X {ρ : Type} (p : Program) (l : Launch) (e : Env) (R : Room) (s : State) (m : MethodId) (args : Array Value) (below : List Frame) (meth : Method) (c : Code) (H : Heap) (locs : List Loc) (cells slots : Nat) (Qf : ρ → State → Prop) (sp : Option ρ) (g : JFrame) : Prop :=
  ∀ o, sp = some o → W p l e R s m args below meth c H locs cells slots (Qf o) g
section XS
variable {ρ σ α : Type} {p : Program} {l : Launch} {e : Env} {R : Room} {s : State} {m : MethodId} {args : Array Value} {below : List Frame} {meth : Method} {c : Code} {H : Heap} {locs : List Loc} {cells slots : Nat} {Qf : ρ → State → Prop} {sp a b : Option ρ} {g : JFrame}
variable {cc : ByteArray} {pc nL : Nat} {ls : Array Slot} {rest : List Value} {own : String}
variable {D : va_G} {cl : List vw_C} {ck : Nat → UC} {ct : CT} {N : Nat} {ad : Nat → Nat} {P : Nat → Nat → Option Nat} {A : Nat → Prop} {S : US} {w : Int64} {H0 : Heap}
theorem X.none : X p l e R s m args below meth c H locs cells slots Qf (Option.none : Option ρ) g := fun o ho => by cases ho
theorem X.eqs {sp2 : Option ρ} (h : sp = sp2) (k : X p l e R s m args below meth c H locs cells slots Qf sp2 g) : X p l e R s m args below meth c H locs cells slots Qf sp g := h ▸ k
theorem X.guard {q : Prop} [Decidable q] (k : ¬ q → X p l e R s m args below meth c H locs cells slots Qf sp g) : X p l e R s m args below meth c H locs cells slots Qf (if q then Option.none else sp) g := fun o ho => by
  by_cases h : q
  · rw [if_pos h] at ho; cases ho
  · rw [if_neg h] at ho; exact k h o ho
theorem X.letB {v : α} {k : α → Option ρ} (h : ∀ y, y = v → X p l e R s m args below meth c H locs cells slots Qf (k y) g) : X p l e R s m args below meth c H locs cells slots Qf (letB v k) g := h v rfl
theorem X.join {f : σ → Option ρ} {b : (σ → Option ρ) → Option ρ} (h : ∀ j : σ → Option ρ, j = f → X p l e R s m args below meth c H locs cells slots Qf (b j) g) : X p l e R s m args below meth c H locs cells slots Qf (joinB f b) g := h f rfl
theorem X.loop {body : (σ → Option ρ) → σ → Option ρ} {I : σ → JFrame → Heap → List Loc → Prop} (hb : ∀ rc : σ → Option ρ, (∀ (x : σ) (g : JFrame) (H : Heap) (locs : List Loc), I x g H locs → X p l e R s m args below meth c H locs cells slots Qf (rc x) g) → ∀ (x : σ) (g : JFrame) (H : Heap) (locs : List Loc), I x g H locs → X p l e R s m args below meth c H locs cells slots Qf (body rc x) g) :
    ∀ (n : Nat) (x : σ) (g : JFrame) (H : Heap) (locs : List Loc), I x g H locs → X p l e R s m args below meth c H locs cells slots Qf (loopK body n x) g := by
  intro n
  induction n with
  | zero => intro x g H locs _ o ho; cases ho
  | succ n ih => intro x g H locs hI; exact hb (loopK body n) ih x g H locs hI
theorem x_iconst (hexec : p.tables.exec = Jvm.exec) (hb : c.code = cc) {n : Int} {v : Int32} (hdg : decode cc pc = .ok (.iconst n, 1)) (hv : Int32.ofInt n = v) (k : X p l e R s m args below meth c H locs cells slots Qf sp (F0 m (pc + 1) ls (.int v :: rest))) : X p l e R s m args below meth c H locs cells slots Qf sp (F0 m pc ls (rest)) := fun oo hoo => lv_iconst hexec hb hdg hv (k oo hoo)
theorem x_bipush (hexec : p.tables.exec = Jvm.exec) (hb : c.code = cc) {n : Int} {v : Int32} (hdg : decode cc pc = .ok (.bipush n, 2)) (hv : (Int8.ofInt n).toInt32 = v) (k : X p l e R s m args below meth c H locs cells slots Qf sp (F0 m (pc + 2) ls (.int v :: rest))) : X p l e R s m args below meth c H locs cells slots Qf sp (F0 m pc ls (rest)) := fun oo hoo => lv_bipush hexec hb hdg hv (k oo hoo)
theorem x_sipush (hexec : p.tables.exec = Jvm.exec) (hb : c.code = cc) {n : Int} {v : Int32} (hdg : decode cc pc = .ok (.sipush n, 3)) (hv : (Int16.ofInt n).toInt32 = v) (k : X p l e R s m args below meth c H locs cells slots Qf sp (F0 m (pc + 3) ls (.int v :: rest))) : X p l e R s m args below meth c H locs cells slots Qf sp (F0 m pc ls (rest)) := fun oo hoo => lv_sipush hexec hb hdg hv (k oo hoo)
theorem x_lconst (hexec : p.tables.exec = Jvm.exec) (hb : c.code = cc) {n : Fin 2} {v : Int64} (hdg : decode cc pc = .ok (.lconst n, 1)) (hv : Int64.ofNat (n : Nat) = v) (k : X p l e R s m args below meth c H locs cells slots Qf sp (F0 m (pc + 1) ls (.long v :: rest))) : X p l e R s m args below meth c H locs cells slots Qf sp (F0 m pc ls (rest)) := fun oo hoo => lv_lconst hexec hb hdg hv (k oo hoo)
theorem x_iload_n (hexec : p.tables.exec = Jvm.exec) (hb : c.code = cc) {k : Fin 4} {i : Nat} {x : Int32} (hdg : decode cc pc = .ok (.iload_n k, 1)) (hi : (k : Nat) = i) (hl : ls[i]? = some (.val (.int x))) (k : X p l e R s m args below meth c H locs cells slots Qf sp (F0 m (pc + 1) ls (.int x :: rest))) : X p l e R s m args below meth c H locs cells slots Qf sp (F0 m pc ls (rest)) := fun oo hoo => lv_iload_n hexec hb hdg hi hl (k oo hoo)
theorem x_iload (hexec : p.tables.exec = Jvm.exec) (hb : c.code = cc) {i : Nat} {x : Int32} (hdg : decode cc pc = .ok (.iload i, 2)) (hl : ls[i]? = some (.val (.int x))) (k : X p l e R s m args below meth c H locs cells slots Qf sp (F0 m (pc + 2) ls (.int x :: rest))) : X p l e R s m args below meth c H locs cells slots Qf sp (F0 m pc ls (rest)) := fun oo hoo => lv_iload hexec hb hdg hl (k oo hoo)
theorem x_lload_n (hexec : p.tables.exec = Jvm.exec) (hb : c.code = cc) {k : Fin 4} {i : Nat} {x : Int64} (hdg : decode cc pc = .ok (.lload_n k, 1)) (hi : (k : Nat) = i) (hl : ls[i]? = some (.val (.long x))) (k : X p l e R s m args below meth c H locs cells slots Qf sp (F0 m (pc + 1) ls (.long x :: rest))) : X p l e R s m args below meth c H locs cells slots Qf sp (F0 m pc ls (rest)) := fun oo hoo => lv_lload_n hexec hb hdg hi hl (k oo hoo)
theorem x_lload (hexec : p.tables.exec = Jvm.exec) (hb : c.code = cc) {i : Nat} {x : Int64} (hdg : decode cc pc = .ok (.lload i, 2)) (hl : ls[i]? = some (.val (.long x))) (k : X p l e R s m args below meth c H locs cells slots Qf sp (F0 m (pc + 2) ls (.long x :: rest))) : X p l e R s m args below meth c H locs cells slots Qf sp (F0 m pc ls (rest)) := fun oo hoo => lv_lload hexec hb hdg hl (k oo hoo)
theorem x_aload_n (hexec : p.tables.exec = Jvm.exec) (hb : c.code = cc) {k : Fin 4} {i : Nat} {x : Nat} (hdg : decode cc pc = .ok (.aload_n k, 1)) (hi : (k : Nat) = i) (hl : ls[i]? = some (.val (.ref x))) (k : X p l e R s m args below meth c H locs cells slots Qf sp (F0 m (pc + 1) ls (.ref x :: rest))) : X p l e R s m args below meth c H locs cells slots Qf sp (F0 m pc ls (rest)) := fun oo hoo => lv_aload_n hexec hb hdg hi hl (k oo hoo)
theorem x_aload (hexec : p.tables.exec = Jvm.exec) (hb : c.code = cc) {i : Nat} {x : Nat} (hdg : decode cc pc = .ok (.aload i, 2)) (hl : ls[i]? = some (.val (.ref x))) (k : X p l e R s m args below meth c H locs cells slots Qf sp (F0 m (pc + 2) ls (.ref x :: rest))) : X p l e R s m args below meth c H locs cells slots Qf sp (F0 m pc ls (rest)) := fun oo hoo => lv_aload hexec hb hdg hl (k oo hoo)
theorem x_istore_n (hexec : p.tables.exec = Jvm.exec) (hb : c.code = cc) {k : Fin 4} {i nL : Nat} {x : Int32} {lv lv' : List (Nat × Value)} (hdg : decode cc pc = .ok (.istore_n k, 1)) (hi : (k : Nat) = i) (h : lv_has ls nL lv) (hn : i < nL) (hl : (i, Value.int x) :: lv.filter (fun q => !(q.1 == i) && !(q.1 + 1 == i && q.2.category == 2)) = lv') (kk : ∀ ls' : Array Slot, lv_has ls' nL lv' → X p l e R s m args below meth c H locs cells slots Qf sp (F0 m (pc + 1) ls' rest)) : X p l e R s m args below meth c H locs cells slots Qf sp (F0 m pc ls (.int x :: rest)) := fun oo hoo => lv_istore_n hexec hb hdg hi h hn hl (fun q1 q2 => kk q1 q2 oo hoo)
theorem x_istore (hexec : p.tables.exec = Jvm.exec) (hb : c.code = cc) {i nL : Nat} {x : Int32} {lv lv' : List (Nat × Value)} (hdg : decode cc pc = .ok (.istore i, 2)) (h : lv_has ls nL lv) (hn : i < nL) (hl : (i, Value.int x) :: lv.filter (fun q => !(q.1 == i) && !(q.1 + 1 == i && q.2.category == 2)) = lv') (kk : ∀ ls' : Array Slot, lv_has ls' nL lv' → X p l e R s m args below meth c H locs cells slots Qf sp (F0 m (pc + 2) ls' rest)) : X p l e R s m args below meth c H locs cells slots Qf sp (F0 m pc ls (.int x :: rest)) := fun oo hoo => lv_istore hexec hb hdg h hn hl (fun q1 q2 => kk q1 q2 oo hoo)
theorem x_lstore_n (hexec : p.tables.exec = Jvm.exec) (hb : c.code = cc) {k : Fin 4} {i nL : Nat} {x : Int64} {lv lv' : List (Nat × Value)} (hdg : decode cc pc = .ok (.lstore_n k, 1)) (hi : (k : Nat) = i) (h : lv_has ls nL lv) (hn : i + 1 < nL) (hl : (i, Value.long x) :: lv.filter (fun q => !(q.1 == i) && (!(q.1 == i + 1) && !(q.1 + 1 == i && q.2.category == 2))) = lv') (kk : ∀ ls' : Array Slot, lv_has ls' nL lv' → X p l e R s m args below meth c H locs cells slots Qf sp (F0 m (pc + 1) ls' rest)) : X p l e R s m args below meth c H locs cells slots Qf sp (F0 m pc ls (.long x :: rest)) := fun oo hoo => lv_lstore_n hexec hb hdg hi h hn hl (fun q1 q2 => kk q1 q2 oo hoo)
theorem x_lstore (hexec : p.tables.exec = Jvm.exec) (hb : c.code = cc) {i nL : Nat} {x : Int64} {lv lv' : List (Nat × Value)} (hdg : decode cc pc = .ok (.lstore i, 2)) (h : lv_has ls nL lv) (hn : i + 1 < nL) (hl : (i, Value.long x) :: lv.filter (fun q => !(q.1 == i) && (!(q.1 == i + 1) && !(q.1 + 1 == i && q.2.category == 2))) = lv') (kk : ∀ ls' : Array Slot, lv_has ls' nL lv' → X p l e R s m args below meth c H locs cells slots Qf sp (F0 m (pc + 2) ls' rest)) : X p l e R s m args below meth c H locs cells slots Qf sp (F0 m pc ls (.long x :: rest)) := fun oo hoo => lv_lstore hexec hb hdg h hn hl (fun q1 q2 => kk q1 q2 oo hoo)
theorem x_astore_n (hexec : p.tables.exec = Jvm.exec) (hb : c.code = cc) {k : Fin 4} {i nL : Nat} {x : Nat} {lv lv' : List (Nat × Value)} (hdg : decode cc pc = .ok (.astore_n k, 1)) (hi : (k : Nat) = i) (h : lv_has ls nL lv) (hn : i < nL) (hl : (i, Value.ref x) :: lv.filter (fun q => !(q.1 == i) && !(q.1 + 1 == i && q.2.category == 2)) = lv') (kk : ∀ ls' : Array Slot, lv_has ls' nL lv' → X p l e R s m args below meth c H locs cells slots Qf sp (F0 m (pc + 1) ls' rest)) : X p l e R s m args below meth c H locs cells slots Qf sp (F0 m pc ls (.ref x :: rest)) := fun oo hoo => lv_astore_n hexec hb hdg hi h hn hl (fun q1 q2 => kk q1 q2 oo hoo)
theorem x_astore (hexec : p.tables.exec = Jvm.exec) (hb : c.code = cc) {i nL : Nat} {x : Nat} {lv lv' : List (Nat × Value)} (hdg : decode cc pc = .ok (.astore i, 2)) (h : lv_has ls nL lv) (hn : i < nL) (hl : (i, Value.ref x) :: lv.filter (fun q => !(q.1 == i) && !(q.1 + 1 == i && q.2.category == 2)) = lv') (kk : ∀ ls' : Array Slot, lv_has ls' nL lv' → X p l e R s m args below meth c H locs cells slots Qf sp (F0 m (pc + 2) ls' rest)) : X p l e R s m args below meth c H locs cells slots Qf sp (F0 m pc ls (.ref x :: rest)) := fun oo hoo => lv_astore hexec hb hdg h hn hl (fun q1 q2 => kk q1 q2 oo hoo)
theorem x_iinc (hexec : p.tables.exec = Jvm.exec) (hb : c.code = cc) {i nL k : Nat} {n : Int} {x v : Int32} {lv lv' : List (Nat × Value)} (hdg : decode cc pc = .ok (.iinc i n, 3)) (h : lv_has ls nL lv) (hk : lv[k]? = some (i, .int x)) (hv : x + Int32.ofInt n = v) (hn : i < nL) (hl : (i, Value.int v) :: lv.filter (fun q => !(q.1 == i) && !(q.1 + 1 == i && q.2.category == 2)) = lv') (kk : ∀ ls' : Array Slot, lv_has ls' nL lv' → X p l e R s m args below meth c H locs cells slots Qf sp (F0 m (pc + 3) ls' rest)) : X p l e R s m args below meth c H locs cells slots Qf sp (F0 m pc ls rest) := fun oo hoo => lv_iinc hexec hb hdg h hk hv hn hl (fun q1 q2 => kk q1 q2 oo hoo)
theorem x_iadd (hexec : p.tables.exec = Jvm.exec) (hb : c.code = cc) {x y : Int32} (hdg : decode cc pc = .ok (.iadd, 1)) (k : X p l e R s m args below meth c H locs cells slots Qf sp (F0 m (pc + 1) ls (.int (x + y) :: rest))) : X p l e R s m args below meth c H locs cells slots Qf sp (F0 m pc ls (.int y :: .int x :: rest)) := fun oo hoo => lv_iadd hexec hb hdg (k oo hoo)
theorem x_isub (hexec : p.tables.exec = Jvm.exec) (hb : c.code = cc) {x y : Int32} (hdg : decode cc pc = .ok (.isub, 1)) (k : X p l e R s m args below meth c H locs cells slots Qf sp (F0 m (pc + 1) ls (.int (x - y) :: rest))) : X p l e R s m args below meth c H locs cells slots Qf sp (F0 m pc ls (.int y :: .int x :: rest)) := fun oo hoo => lv_isub hexec hb hdg (k oo hoo)
theorem x_imul (hexec : p.tables.exec = Jvm.exec) (hb : c.code = cc) {x y : Int32} (hdg : decode cc pc = .ok (.imul, 1)) (k : X p l e R s m args below meth c H locs cells slots Qf sp (F0 m (pc + 1) ls (.int (x * y) :: rest))) : X p l e R s m args below meth c H locs cells slots Qf sp (F0 m pc ls (.int y :: .int x :: rest)) := fun oo hoo => lv_imul hexec hb hdg (k oo hoo)
theorem x_iand (hexec : p.tables.exec = Jvm.exec) (hb : c.code = cc) {x y : Int32} (hdg : decode cc pc = .ok (.iand, 1)) (k : X p l e R s m args below meth c H locs cells slots Qf sp (F0 m (pc + 1) ls (.int (x &&& y) :: rest))) : X p l e R s m args below meth c H locs cells slots Qf sp (F0 m pc ls (.int y :: .int x :: rest)) := fun oo hoo => lv_iand hexec hb hdg (k oo hoo)
theorem x_ior (hexec : p.tables.exec = Jvm.exec) (hb : c.code = cc) {x y : Int32} (hdg : decode cc pc = .ok (.ior, 1)) (k : X p l e R s m args below meth c H locs cells slots Qf sp (F0 m (pc + 1) ls (.int (x ||| y) :: rest))) : X p l e R s m args below meth c H locs cells slots Qf sp (F0 m pc ls (.int y :: .int x :: rest)) := fun oo hoo => lv_ior hexec hb hdg (k oo hoo)
theorem x_ixor (hexec : p.tables.exec = Jvm.exec) (hb : c.code = cc) {x y : Int32} (hdg : decode cc pc = .ok (.ixor, 1)) (k : X p l e R s m args below meth c H locs cells slots Qf sp (F0 m (pc + 1) ls (.int (x ^^^ y) :: rest))) : X p l e R s m args below meth c H locs cells slots Qf sp (F0 m pc ls (.int y :: .int x :: rest)) := fun oo hoo => lv_ixor hexec hb hdg (k oo hoo)
theorem x_ineg (hexec : p.tables.exec = Jvm.exec) (hb : c.code = cc) {x : Int32} (hdg : decode cc pc = .ok (.ineg, 1)) (k : X p l e R s m args below meth c H locs cells slots Qf sp (F0 m (pc + 1) ls (.int (-x) :: rest))) : X p l e R s m args below meth c H locs cells slots Qf sp (F0 m pc ls (.int x :: rest)) := fun oo hoo => lv_ineg hexec hb hdg (k oo hoo)
theorem x_ladd (hexec : p.tables.exec = Jvm.exec) (hb : c.code = cc) {x y : Int64} (hdg : decode cc pc = .ok (.ladd, 1)) (k : X p l e R s m args below meth c H locs cells slots Qf sp (F0 m (pc + 1) ls (.long (x + y) :: rest))) : X p l e R s m args below meth c H locs cells slots Qf sp (F0 m pc ls (.long y :: .long x :: rest)) := fun oo hoo => lv_ladd hexec hb hdg (k oo hoo)
theorem x_lsub (hexec : p.tables.exec = Jvm.exec) (hb : c.code = cc) {x y : Int64} (hdg : decode cc pc = .ok (.lsub, 1)) (k : X p l e R s m args below meth c H locs cells slots Qf sp (F0 m (pc + 1) ls (.long (x - y) :: rest))) : X p l e R s m args below meth c H locs cells slots Qf sp (F0 m pc ls (.long y :: .long x :: rest)) := fun oo hoo => lv_lsub hexec hb hdg (k oo hoo)
theorem x_lmul (hexec : p.tables.exec = Jvm.exec) (hb : c.code = cc) {x y : Int64} (hdg : decode cc pc = .ok (.lmul, 1)) (k : X p l e R s m args below meth c H locs cells slots Qf sp (F0 m (pc + 1) ls (.long (x * y) :: rest))) : X p l e R s m args below meth c H locs cells slots Qf sp (F0 m pc ls (.long y :: .long x :: rest)) := fun oo hoo => lv_lmul hexec hb hdg (k oo hoo)
theorem x_land (hexec : p.tables.exec = Jvm.exec) (hb : c.code = cc) {x y : Int64} (hdg : decode cc pc = .ok (.land, 1)) (k : X p l e R s m args below meth c H locs cells slots Qf sp (F0 m (pc + 1) ls (.long (x &&& y) :: rest))) : X p l e R s m args below meth c H locs cells slots Qf sp (F0 m pc ls (.long y :: .long x :: rest)) := fun oo hoo => lv_land hexec hb hdg (k oo hoo)
theorem x_lor (hexec : p.tables.exec = Jvm.exec) (hb : c.code = cc) {x y : Int64} (hdg : decode cc pc = .ok (.lor, 1)) (k : X p l e R s m args below meth c H locs cells slots Qf sp (F0 m (pc + 1) ls (.long (x ||| y) :: rest))) : X p l e R s m args below meth c H locs cells slots Qf sp (F0 m pc ls (.long y :: .long x :: rest)) := fun oo hoo => lv_lor hexec hb hdg (k oo hoo)
theorem x_lxor (hexec : p.tables.exec = Jvm.exec) (hb : c.code = cc) {x y : Int64} (hdg : decode cc pc = .ok (.lxor, 1)) (k : X p l e R s m args below meth c H locs cells slots Qf sp (F0 m (pc + 1) ls (.long (x ^^^ y) :: rest))) : X p l e R s m args below meth c H locs cells slots Qf sp (F0 m pc ls (.long y :: .long x :: rest)) := fun oo hoo => lv_lxor hexec hb hdg (k oo hoo)
theorem x_ishl (hexec : p.tables.exec = Jvm.exec) (hb : c.code = cc) {x y : Int32} (hdg : decode cc pc = .ok (.ishl, 1)) (k : X p l e R s m args below meth c H locs cells slots Qf sp (F0 m (pc + 1) ls (.int (x <<< (y &&& 31)) :: rest))) : X p l e R s m args below meth c H locs cells slots Qf sp (F0 m pc ls (.int y :: .int x :: rest)) := fun oo hoo => lv_ishl hexec hb hdg (k oo hoo)
theorem x_ishr (hexec : p.tables.exec = Jvm.exec) (hb : c.code = cc) {x y : Int32} (hdg : decode cc pc = .ok (.ishr, 1)) (k : X p l e R s m args below meth c H locs cells slots Qf sp (F0 m (pc + 1) ls (.int (x >>> (y &&& 31)) :: rest))) : X p l e R s m args below meth c H locs cells slots Qf sp (F0 m pc ls (.int y :: .int x :: rest)) := fun oo hoo => lv_ishr hexec hb hdg (k oo hoo)
theorem x_i2l (hexec : p.tables.exec = Jvm.exec) (hb : c.code = cc) {x : Int32} {v : Int64} (hdg : decode cc pc = .ok (.i2l, 1)) (hv : x.toInt64 = v) (k : X p l e R s m args below meth c H locs cells slots Qf sp (F0 m (pc + 1) ls (.long v :: rest))) : X p l e R s m args below meth c H locs cells slots Qf sp (F0 m pc ls (.int x :: rest)) := fun oo hoo => lv_i2l hexec hb hdg hv (k oo hoo)
theorem x_l2i (hexec : p.tables.exec = Jvm.exec) (hb : c.code = cc) {x : Int64} {v : Int32} (hdg : decode cc pc = .ok (.l2i, 1)) (hv : x.toInt32 = v) (k : X p l e R s m args below meth c H locs cells slots Qf sp (F0 m (pc + 1) ls (.int v :: rest))) : X p l e R s m args below meth c H locs cells slots Qf sp (F0 m pc ls (.long x :: rest)) := fun oo hoo => lv_l2i hexec hb hdg hv (k oo hoo)
theorem x_i2b (hexec : p.tables.exec = Jvm.exec) (hb : c.code = cc) {x : Int32} {v : Int32} (hdg : decode cc pc = .ok (.i2b, 1)) (hv : x.toInt8.toInt32 = v) (k : X p l e R s m args below meth c H locs cells slots Qf sp (F0 m (pc + 1) ls (.int v :: rest))) : X p l e R s m args below meth c H locs cells slots Qf sp (F0 m pc ls (.int x :: rest)) := fun oo hoo => lv_i2b hexec hb hdg hv (k oo hoo)
theorem x_i2s (hexec : p.tables.exec = Jvm.exec) (hb : c.code = cc) {x : Int32} {v : Int32} (hdg : decode cc pc = .ok (.i2s, 1)) (hv : x.toInt16.toInt32 = v) (k : X p l e R s m args below meth c H locs cells slots Qf sp (F0 m (pc + 1) ls (.int v :: rest))) : X p l e R s m args below meth c H locs cells slots Qf sp (F0 m pc ls (.int x :: rest)) := fun oo hoo => lv_i2s hexec hb hdg hv (k oo hoo)
theorem x_i2c (hexec : p.tables.exec = Jvm.exec) (hb : c.code = cc) {x : Int32} {v : Int32} (hdg : decode cc pc = .ok (.i2c, 1)) (hv : (x.toUInt32 % 65536).toInt32 = v) (k : X p l e R s m args below meth c H locs cells slots Qf sp (F0 m (pc + 1) ls (.int v :: rest))) : X p l e R s m args below meth c H locs cells slots Qf sp (F0 m pc ls (.int x :: rest)) := fun oo hoo => lv_i2c hexec hb hdg hv (k oo hoo)
theorem x_iushr (hexec : p.tables.exec = Jvm.exec) (hb : c.code = cc) {x y v : Int32} (hdg : decode cc pc = .ok (.iushr, 1)) (hv : (x.toUInt32 >>> (y.toUInt32 &&& Int32.toUInt32 31)).toInt32 = v) (k : X p l e R s m args below meth c H locs cells slots Qf sp (F0 m (pc + 1) ls (.int v :: rest))) : X p l e R s m args below meth c H locs cells slots Qf sp (F0 m pc ls (.int y :: .int x :: rest)) := fun oo hoo => lv_iushr hexec hb hdg hv (k oo hoo)
theorem x_lushr (hexec : p.tables.exec = Jvm.exec) (hb : c.code = cc) {x v : Int64} {y : Int32} (hdg : decode cc pc = .ok (.lushr, 1)) (hv : (x.toUInt64 >>> (y.toInt64.toUInt64 &&& Int64.toUInt64 63)).toInt64 = v) (k : X p l e R s m args below meth c H locs cells slots Qf sp (F0 m (pc + 1) ls (.long v :: rest))) : X p l e R s m args below meth c H locs cells slots Qf sp (F0 m pc ls (.int y :: .long x :: rest)) := fun oo hoo => lv_lushr hexec hb hdg hv (k oo hoo)
theorem x_lshl (hexec : p.tables.exec = Jvm.exec) (hb : c.code = cc) {x v : Int64} {y : Int32} (hdg : decode cc pc = .ok (.lshl, 1)) (hv : x <<< (y.toInt64 &&& 63) = v) (k : X p l e R s m args below meth c H locs cells slots Qf sp (F0 m (pc + 1) ls (.long v :: rest))) : X p l e R s m args below meth c H locs cells slots Qf sp (F0 m pc ls (.int y :: .long x :: rest)) := fun oo hoo => lv_lshl hexec hb hdg hv (k oo hoo)
theorem x_lshr (hexec : p.tables.exec = Jvm.exec) (hb : c.code = cc) {x v : Int64} {y : Int32} (hdg : decode cc pc = .ok (.lshr, 1)) (hv : x >>> (y.toInt64 &&& 63) = v) (k : X p l e R s m args below meth c H locs cells slots Qf sp (F0 m (pc + 1) ls (.long v :: rest))) : X p l e R s m args below meth c H locs cells slots Qf sp (F0 m pc ls (.int y :: .long x :: rest)) := fun oo hoo => lv_lshr hexec hb hdg hv (k oo hoo)
theorem x_dup (hexec : p.tables.exec = Jvm.exec) (hb : c.code = cc) {va : Value} (hdg : decode cc pc = .ok (.dup, 1)) (hva : va.category = 1) (k : X p l e R s m args below meth c H locs cells slots Qf sp (F0 m (pc + 1) ls (va :: va :: rest))) : X p l e R s m args below meth c H locs cells slots Qf sp (F0 m pc ls (va :: rest)) := fun oo hoo => lv_dup hexec hb hdg hva (k oo hoo)
theorem x_pop (hexec : p.tables.exec = Jvm.exec) (hb : c.code = cc) {va : Value} (hdg : decode cc pc = .ok (.pop, 1)) (hva : va.category = 1) (k : X p l e R s m args below meth c H locs cells slots Qf sp (F0 m (pc + 1) ls (rest))) : X p l e R s m args below meth c H locs cells slots Qf sp (F0 m pc ls (va :: rest)) := fun oo hoo => lv_pop hexec hb hdg hva (k oo hoo)
theorem x_dup_x1 (hexec : p.tables.exec = Jvm.exec) (hb : c.code = cc) {va vb : Value} (hdg : decode cc pc = .ok (.dup_x1, 1)) (hva : va.category = 1) (hvb : vb.category = 1) (k : X p l e R s m args below meth c H locs cells slots Qf sp (F0 m (pc + 1) ls (va :: vb :: va :: rest))) : X p l e R s m args below meth c H locs cells slots Qf sp (F0 m pc ls (va :: vb :: rest)) := fun oo hoo => lv_dup_x1 hexec hb hdg hva hvb (k oo hoo)
theorem x_dup_x2 (hexec : p.tables.exec = Jvm.exec) (hb : c.code = cc) {va vb vd : Value} (hdg : decode cc pc = .ok (.dup_x2, 1)) (hva : va.category = 1) (hvb : vb.category = 1) (hvd : vd.category = 1) (k : X p l e R s m args below meth c H locs cells slots Qf sp (F0 m (pc + 1) ls (va :: vb :: vd :: va :: rest))) : X p l e R s m args below meth c H locs cells slots Qf sp (F0 m pc ls (va :: vb :: vd :: rest)) := fun oo hoo => lv_dup_x2 hexec hb hdg hva hvb hvd (k oo hoo)
theorem x_dup2_11 (hexec : p.tables.exec = Jvm.exec) (hb : c.code = cc) {va vb : Value} (hdg : decode cc pc = .ok (.dup2, 1)) (hva : va.category = 1) (hvb : vb.category = 1) (k : X p l e R s m args below meth c H locs cells slots Qf sp (F0 m (pc + 1) ls (va :: vb :: va :: vb :: rest))) : X p l e R s m args below meth c H locs cells slots Qf sp (F0 m pc ls (va :: vb :: rest)) := fun oo hoo => lv_dup2_11 hexec hb hdg hva hvb (k oo hoo)
theorem x_dup2_2 (hexec : p.tables.exec = Jvm.exec) (hb : c.code = cc) {va : Value} (hdg : decode cc pc = .ok (.dup2, 1)) (hva : va.category = 2) (k : X p l e R s m args below meth c H locs cells slots Qf sp (F0 m (pc + 1) ls (va :: va :: rest))) : X p l e R s m args below meth c H locs cells slots Qf sp (F0 m pc ls (va :: rest)) := fun oo hoo => lv_dup2_2 hexec hb hdg hva (k oo hoo)
theorem x_pop2_2 (hexec : p.tables.exec = Jvm.exec) (hb : c.code = cc) {va : Value} (hdg : decode cc pc = .ok (.pop2, 1)) (hva : va.category = 2) (k : X p l e R s m args below meth c H locs cells slots Qf sp (F0 m (pc + 1) ls (rest))) : X p l e R s m args below meth c H locs cells slots Qf sp (F0 m pc ls (va :: rest)) := fun oo hoo => lv_pop2_2 hexec hb hdg hva (k oo hoo)
theorem x_pop2_11 (hexec : p.tables.exec = Jvm.exec) (hb : c.code = cc) {va vb : Value} (hdg : decode cc pc = .ok (.pop2, 1)) (hva : va.category = 1) (hvb : vb.category = 1) (k : X p l e R s m args below meth c H locs cells slots Qf sp (F0 m (pc + 1) ls (rest))) : X p l e R s m args below meth c H locs cells slots Qf sp (F0 m pc ls (va :: vb :: rest)) := fun oo hoo => lv_pop2_11 hexec hb hdg hva hvb (k oo hoo)
theorem x_goto (hexec : p.tables.exec = Jvm.exec) (hb : c.code = cc) {off : Int} {tgt : Nat} (hdg : decode cc pc = .ok (.goto off, 3)) (ht : (pc : Int) + off = (tgt : Int)) (k : X p l e R s m args below meth c H locs cells slots Qf sp (F0 m tgt ls rest)) : X p l e R s m args below meth c H locs cells slots Qf sp (F0 m pc ls rest) := fun oo hoo => lv_goto hexec hb hdg ht (k oo hoo)
theorem x_ldc (hexec : p.tables.exec = Jvm.exec) (hb : c.code = cc) {own : String} {index : Nat} {v : Int32} (hown : s.vm.findClass own = some m.cls) (hconst : (Jvm.Cond.constant own index v).before args s = true) (hdg : decode cc pc = .ok (.ldc index, 2)) (k : X p l e R s m args below meth c H locs cells slots Qf sp (F0 m (pc + 2) ls (.int v :: rest))) : X p l e R s m args below meth c H locs cells slots Qf sp (F0 m pc ls rest) := fun oo hoo => lv_ldc hexec hb hown hconst hdg (k oo hoo)
theorem x_ldc2 (hexec : p.tables.exec = Jvm.exec) (hb : c.code = cc) {own : String} {index : Nat} {v : Int64} (hown : s.vm.findClass own = some m.cls) (hconst : (Jvm.Cond.constantLong own index v).before args s = true) (hdg : decode cc pc = .ok (.ldc2_w index, 3)) (k : X p l e R s m args below meth c H locs cells slots Qf sp (F0 m (pc + 3) ls (.long v :: rest))) : X p l e R s m args below meth c H locs cells slots Qf sp (F0 m pc ls rest) := fun oo hoo => lv_ldc2 hexec hb hown hconst hdg (k oo hoo)
theorem x_null (hexec : p.tables.exec = Jvm.exec) (hb : c.code = cc) (hdg : decode cc pc = .ok (.aconst_null, 1)) (k : X p l e R s m args below meth c H locs cells slots Qf sp (F0 m (pc + 1) ls (.null :: rest))) : X p l e R s m args below meth c H locs cells slots Qf sp (F0 m pc ls rest) := fun oo hoo => lv_null hexec hb hdg (k oo hoo)
theorem x_ldcw (hexec : p.tables.exec = Jvm.exec) (hb : c.code = cc) {own : String} {index : Nat} {v : Int32} (hown : s.vm.findClass own = some m.cls) (hconst : (Jvm.Cond.constant own index v).before args s = true) (hdg : decode cc pc = .ok (.ldc_w index, 3)) (k : X p l e R s m args below meth c H locs cells slots Qf sp (F0 m (pc + 3) ls (.int v :: rest))) : X p l e R s m args below meth c H locs cells slots Qf sp (F0 m pc ls rest) := fun oo hoo => lv_ldcw hexec hb hown hconst hdg (k oo hoo)
theorem x_ifnull (hexec : p.tables.exec = Jvm.exec) (hb : c.code = cc) {x : Nat} {off : Int} (hdg : decode cc pc = .ok (.ifnull off, 3)) (k : X p l e R s m args below meth c H locs cells slots Qf sp (F0 m (pc + 3) ls rest)) : X p l e R s m args below meth c H locs cells slots Qf sp (F0 m pc ls (.ref x :: rest)) := fun oo hoo => lv_ifnull hexec hb hdg (k oo hoo)
theorem x_ifnonnull (hexec : p.tables.exec = Jvm.exec) (hb : c.code = cc) {x : Nat} {off : Int} {tgt : Nat} (hdg : decode cc pc = .ok (.ifnonnull off, 3)) (ht : (pc : Int) + off = (tgt : Int)) (k : X p l e R s m args below meth c H locs cells slots Qf sp (F0 m tgt ls rest)) : X p l e R s m args below meth c H locs cells slots Qf sp (F0 m pc ls (.ref x :: rest)) := fun oo hoo => lv_ifnonnull hexec hb hdg ht (k oo hoo)
theorem x_ifnullN (hexec : p.tables.exec = Jvm.exec) (hb : c.code = cc) {off : Int} {tgt : Nat} (hdg : decode cc pc = .ok (.ifnull off, 3)) (ht : (pc : Int) + off = (tgt : Int)) (k : X p l e R s m args below meth c H locs cells slots Qf sp (F0 m tgt ls rest)) : X p l e R s m args below meth c H locs cells slots Qf sp (F0 m pc ls (.null :: rest)) := fun oo hoo => lv_ifnullN hexec hb hdg ht (k oo hoo)
theorem x_ifnonnullN (hexec : p.tables.exec = Jvm.exec) (hb : c.code = cc) {off : Int} (hdg : decode cc pc = .ok (.ifnonnull off, 3)) (k : X p l e R s m args below meth c H locs cells slots Qf sp (F0 m (pc + 3) ls rest)) : X p l e R s m args below meth c H locs cells slots Qf sp (F0 m pc ls (.null :: rest)) := fun oo hoo => lv_ifnonnullN hexec hb hdg (k oo hoo)
theorem x_aload_nN (hexec : p.tables.exec = Jvm.exec) (hb : c.code = cc) {k : Fin 4} {i : Nat} (hdg : decode cc pc = .ok (.aload_n k, 1)) (hi : (k : Nat) = i) (hl : ls[i]? = some (.val (.null))) (k : X p l e R s m args below meth c H locs cells slots Qf sp (F0 m (pc + 1) ls (.null :: rest))) : X p l e R s m args below meth c H locs cells slots Qf sp (F0 m pc ls (rest)) := fun oo hoo => lv_aload_nN hexec hb hdg hi hl (k oo hoo)
theorem x_aloadN (hexec : p.tables.exec = Jvm.exec) (hb : c.code = cc) {i : Nat} (hdg : decode cc pc = .ok (.aload i, 2)) (hl : ls[i]? = some (.val (.null))) (k : X p l e R s m args below meth c H locs cells slots Qf sp (F0 m (pc + 2) ls (.null :: rest))) : X p l e R s m args below meth c H locs cells slots Qf sp (F0 m pc ls (rest)) := fun oo hoo => lv_aloadN hexec hb hdg hl (k oo hoo)
theorem x_astore_nN (hexec : p.tables.exec = Jvm.exec) (hb : c.code = cc) {k : Fin 4} {i nL : Nat} {lv lv' : List (Nat × Value)} (hdg : decode cc pc = .ok (.astore_n k, 1)) (hi : (k : Nat) = i) (h : lv_has ls nL lv) (hn : i < nL) (hl : (i, Value.null) :: lv.filter (fun q => !(q.1 == i) && !(q.1 + 1 == i && q.2.category == 2)) = lv') (kk : ∀ ls' : Array Slot, lv_has ls' nL lv' → X p l e R s m args below meth c H locs cells slots Qf sp (F0 m (pc + 1) ls' rest)) : X p l e R s m args below meth c H locs cells slots Qf sp (F0 m pc ls (.null :: rest)) := fun oo hoo => lv_astore_nN hexec hb hdg hi h hn hl (fun q1 q2 => kk q1 q2 oo hoo)
theorem x_astoreN (hexec : p.tables.exec = Jvm.exec) (hb : c.code = cc) {i nL : Nat} {lv lv' : List (Nat × Value)} (hdg : decode cc pc = .ok (.astore i, 2)) (h : lv_has ls nL lv) (hn : i < nL) (hl : (i, Value.null) :: lv.filter (fun q => !(q.1 == i) && !(q.1 + 1 == i && q.2.category == 2)) = lv') (kk : ∀ ls' : Array Slot, lv_has ls' nL lv' → X p l e R s m args below meth c H locs cells slots Qf sp (F0 m (pc + 2) ls' rest)) : X p l e R s m args below meth c H locs cells slots Qf sp (F0 m pc ls (.null :: rest)) := fun oo hoo => lv_astoreN hexec hb hdg h hn hl (fun q1 q2 => kk q1 q2 oo hoo)
theorem x_tableIn (hexec : p.tables.exec = Jvm.exec) (hb : c.code = cc) {dflt lo hi : Int} {offs : Array Int} {len : Nat} {x : Int32} {off : Int} {tgt : Nat} (hdg : decode cc pc = .ok (.tableswitch dflt lo hi offs, len)) (h1 : ¬ x.toInt < lo) (h2 : ¬ hi < x.toInt) (ho : offs[(x.toInt - lo).toNat]? = some off) (ht : (pc : Int) + off = (tgt : Int)) (k : X p l e R s m args below meth c H locs cells slots Qf sp (F0 m tgt ls rest)) : X p l e R s m args below meth c H locs cells slots Qf sp (F0 m pc ls (.int x :: rest)) := fun oo hoo => lv_tableIn hexec hb hdg h1 h2 ho ht (k oo hoo)
theorem x_tableOut (hexec : p.tables.exec = Jvm.exec) (hb : c.code = cc) {dflt lo hi : Int} {offs : Array Int} {len : Nat} {x : Int32} {tgt : Nat} (hdg : decode cc pc = .ok (.tableswitch dflt lo hi offs, len)) (h : x.toInt < lo ∨ hi < x.toInt) (ht : (pc : Int) + dflt = (tgt : Int)) (k : X p l e R s m args below meth c H locs cells slots Qf sp (F0 m tgt ls rest)) : X p l e R s m args below meth c H locs cells slots Qf sp (F0 m pc ls (.int x :: rest)) := fun oo hoo => lv_tableOut hexec hb hdg h ht (k oo hoo)
theorem x_lookup (hexec : p.tables.exec = Jvm.exec) (hb : c.code = cc) {dflt : Int} {ps : Array (Int × Int)} {len : Nat} {x : Int32} {off : Int} {tgt : Nat} (hdg : decode cc pc = .ok (.lookupswitch dflt ps, len)) (hp : (ps.toList.zip (ps.toList.drop 1)).all (fun (a, next) => a.1 < next.1) = true) (ho : Op.lookupswitch.offset ps.toList dflt x.toInt = off) (ht : (pc : Int) + off = (tgt : Int)) (k : X p l e R s m args below meth c H locs cells slots Qf sp (F0 m tgt ls rest)) : X p l e R s m args below meth c H locs cells slots Qf sp (F0 m pc ls (.int x :: rest)) := fun oo hoo => lv_lookup hexec hb hdg hp ho ht (k oo hoo)
theorem x_idiv (hexec : p.tables.exec = Jvm.exec) (hb : c.code = cc) {x y : Int32} (hdg : decode cc pc = .ok (.idiv, 1)) (hne : ¬ y = 0) (k : X p l e R s m args below meth c H locs cells slots Qf sp (F0 m (pc + 1) ls (.int (x / y) :: rest))) : X p l e R s m args below meth c H locs cells slots Qf sp (F0 m pc ls (.int y :: .int x :: rest)) := fun oo hoo => lv_idiv hexec hb hdg hne (k oo hoo)
theorem x_irem (hexec : p.tables.exec = Jvm.exec) (hb : c.code = cc) {x y : Int32} (hdg : decode cc pc = .ok (.irem, 1)) (hne : ¬ y = 0) (k : X p l e R s m args below meth c H locs cells slots Qf sp (F0 m (pc + 1) ls (.int (x - x / y * y) :: rest))) : X p l e R s m args below meth c H locs cells slots Qf sp (F0 m pc ls (.int y :: .int x :: rest)) := fun oo hoo => lv_irem hexec hb hdg hne (k oo hoo)
theorem x_if_eq (hexec : p.tables.exec = Jvm.exec) (hb : c.code = cc) {x : Int32} {off : Int} {tgt : Nat} (hdg : decode cc pc = .ok (.ifCond .eq off, 3)) (ht : (pc : Int) + off = (tgt : Int)) (kt : x = 0 → X p l e R s m args below meth c H locs cells slots Qf a (F0 m tgt ls rest)) (kf : ¬ x = 0 → X p l e R s m args below meth c H locs cells slots Qf b (F0 m (pc + 3) ls rest)) : X p l e R s m args below meth c H locs cells slots Qf (if x = 0 then a else b) (F0 m pc ls (.int x :: rest)) := fun oo hoo => by
  by_cases hcz : x = 0
  · rw [if_pos hcz] at hoo
    exact lv_if_eq hexec hb hdg ht (fun _ => kt hcz oo hoo) (fun hz => absurd hcz hz)
  · rw [if_neg hcz] at hoo
    exact lv_if_eq hexec hb hdg ht (fun hz => absurd hz hcz) (fun _ => kf hcz oo hoo)
theorem x_icmp_eq (hexec : p.tables.exec = Jvm.exec) (hb : c.code = cc) {x y : Int32} {off : Int} {tgt : Nat} (hdg : decode cc pc = .ok (.if_icmp .eq off, 3)) (ht : (pc : Int) + off = (tgt : Int)) (kt : x = y → X p l e R s m args below meth c H locs cells slots Qf a (F0 m tgt ls rest)) (kf : ¬ x = y → X p l e R s m args below meth c H locs cells slots Qf b (F0 m (pc + 3) ls rest)) : X p l e R s m args below meth c H locs cells slots Qf (if x = y then a else b) (F0 m pc ls (.int y :: .int x :: rest)) := fun oo hoo => by
  by_cases hcz : x = y
  · rw [if_pos hcz] at hoo
    exact lv_icmp_eq hexec hb hdg ht (fun _ => kt hcz oo hoo) (fun hz => absurd hcz hz)
  · rw [if_neg hcz] at hoo
    exact lv_icmp_eq hexec hb hdg ht (fun hz => absurd hz hcz) (fun _ => kf hcz oo hoo)
theorem x_if_ne (hexec : p.tables.exec = Jvm.exec) (hb : c.code = cc) {x : Int32} {off : Int} {tgt : Nat} (hdg : decode cc pc = .ok (.ifCond .ne off, 3)) (ht : (pc : Int) + off = (tgt : Int)) (kt : ¬ x = 0 → X p l e R s m args below meth c H locs cells slots Qf a (F0 m tgt ls rest)) (kf : x = 0 → X p l e R s m args below meth c H locs cells slots Qf b (F0 m (pc + 3) ls rest)) : X p l e R s m args below meth c H locs cells slots Qf (if x = 0 then b else a) (F0 m pc ls (.int x :: rest)) := fun oo hoo => by
  by_cases hcz : x = 0
  · rw [if_pos hcz] at hoo
    exact lv_if_ne hexec hb hdg ht (fun hz => absurd hcz hz) (fun _ => kf hcz oo hoo)
  · rw [if_neg hcz] at hoo
    exact lv_if_ne hexec hb hdg ht (fun _ => kt hcz oo hoo) (fun hz => absurd hz hcz)
theorem x_icmp_ne (hexec : p.tables.exec = Jvm.exec) (hb : c.code = cc) {x y : Int32} {off : Int} {tgt : Nat} (hdg : decode cc pc = .ok (.if_icmp .ne off, 3)) (ht : (pc : Int) + off = (tgt : Int)) (kt : ¬ x = y → X p l e R s m args below meth c H locs cells slots Qf a (F0 m tgt ls rest)) (kf : x = y → X p l e R s m args below meth c H locs cells slots Qf b (F0 m (pc + 3) ls rest)) : X p l e R s m args below meth c H locs cells slots Qf (if x = y then b else a) (F0 m pc ls (.int y :: .int x :: rest)) := fun oo hoo => by
  by_cases hcz : x = y
  · rw [if_pos hcz] at hoo
    exact lv_icmp_ne hexec hb hdg ht (fun hz => absurd hcz hz) (fun _ => kf hcz oo hoo)
  · rw [if_neg hcz] at hoo
    exact lv_icmp_ne hexec hb hdg ht (fun _ => kt hcz oo hoo) (fun hz => absurd hz hcz)
theorem x_if_lt (hexec : p.tables.exec = Jvm.exec) (hb : c.code = cc) {x : Int32} {off : Int} {tgt : Nat} (hdg : decode cc pc = .ok (.ifCond .lt off, 3)) (ht : (pc : Int) + off = (tgt : Int)) (kt : x < 0 → X p l e R s m args below meth c H locs cells slots Qf a (F0 m tgt ls rest)) (kf : ¬ x < 0 → X p l e R s m args below meth c H locs cells slots Qf b (F0 m (pc + 3) ls rest)) : X p l e R s m args below meth c H locs cells slots Qf (if x < 0 then a else b) (F0 m pc ls (.int x :: rest)) := fun oo hoo => by
  by_cases hcz : x < 0
  · rw [if_pos hcz] at hoo
    exact lv_if_lt hexec hb hdg ht (fun _ => kt hcz oo hoo) (fun hz => absurd hcz hz)
  · rw [if_neg hcz] at hoo
    exact lv_if_lt hexec hb hdg ht (fun hz => absurd hz hcz) (fun _ => kf hcz oo hoo)
theorem x_icmp_lt (hexec : p.tables.exec = Jvm.exec) (hb : c.code = cc) {x y : Int32} {off : Int} {tgt : Nat} (hdg : decode cc pc = .ok (.if_icmp .lt off, 3)) (ht : (pc : Int) + off = (tgt : Int)) (kt : x < y → X p l e R s m args below meth c H locs cells slots Qf a (F0 m tgt ls rest)) (kf : ¬ x < y → X p l e R s m args below meth c H locs cells slots Qf b (F0 m (pc + 3) ls rest)) : X p l e R s m args below meth c H locs cells slots Qf (if x < y then a else b) (F0 m pc ls (.int y :: .int x :: rest)) := fun oo hoo => by
  by_cases hcz : x < y
  · rw [if_pos hcz] at hoo
    exact lv_icmp_lt hexec hb hdg ht (fun _ => kt hcz oo hoo) (fun hz => absurd hcz hz)
  · rw [if_neg hcz] at hoo
    exact lv_icmp_lt hexec hb hdg ht (fun hz => absurd hz hcz) (fun _ => kf hcz oo hoo)
theorem x_if_ge (hexec : p.tables.exec = Jvm.exec) (hb : c.code = cc) {x : Int32} {off : Int} {tgt : Nat} (hdg : decode cc pc = .ok (.ifCond .ge off, 3)) (ht : (pc : Int) + off = (tgt : Int)) (kt : 0 ≤ x → X p l e R s m args below meth c H locs cells slots Qf a (F0 m tgt ls rest)) (kf : ¬ 0 ≤ x → X p l e R s m args below meth c H locs cells slots Qf b (F0 m (pc + 3) ls rest)) : X p l e R s m args below meth c H locs cells slots Qf (if 0 ≤ x then a else b) (F0 m pc ls (.int x :: rest)) := fun oo hoo => by
  by_cases hcz : 0 ≤ x
  · rw [if_pos hcz] at hoo
    exact lv_if_ge hexec hb hdg ht (fun _ => kt hcz oo hoo) (fun hz => absurd hcz hz)
  · rw [if_neg hcz] at hoo
    exact lv_if_ge hexec hb hdg ht (fun hz => absurd hz hcz) (fun _ => kf hcz oo hoo)
theorem x_icmp_ge (hexec : p.tables.exec = Jvm.exec) (hb : c.code = cc) {x y : Int32} {off : Int} {tgt : Nat} (hdg : decode cc pc = .ok (.if_icmp .ge off, 3)) (ht : (pc : Int) + off = (tgt : Int)) (kt : y ≤ x → X p l e R s m args below meth c H locs cells slots Qf a (F0 m tgt ls rest)) (kf : ¬ y ≤ x → X p l e R s m args below meth c H locs cells slots Qf b (F0 m (pc + 3) ls rest)) : X p l e R s m args below meth c H locs cells slots Qf (if y ≤ x then a else b) (F0 m pc ls (.int y :: .int x :: rest)) := fun oo hoo => by
  by_cases hcz : y ≤ x
  · rw [if_pos hcz] at hoo
    exact lv_icmp_ge hexec hb hdg ht (fun _ => kt hcz oo hoo) (fun hz => absurd hcz hz)
  · rw [if_neg hcz] at hoo
    exact lv_icmp_ge hexec hb hdg ht (fun hz => absurd hz hcz) (fun _ => kf hcz oo hoo)
theorem x_if_gt (hexec : p.tables.exec = Jvm.exec) (hb : c.code = cc) {x : Int32} {off : Int} {tgt : Nat} (hdg : decode cc pc = .ok (.ifCond .gt off, 3)) (ht : (pc : Int) + off = (tgt : Int)) (kt : 0 < x → X p l e R s m args below meth c H locs cells slots Qf a (F0 m tgt ls rest)) (kf : ¬ 0 < x → X p l e R s m args below meth c H locs cells slots Qf b (F0 m (pc + 3) ls rest)) : X p l e R s m args below meth c H locs cells slots Qf (if 0 < x then a else b) (F0 m pc ls (.int x :: rest)) := fun oo hoo => by
  by_cases hcz : 0 < x
  · rw [if_pos hcz] at hoo
    exact lv_if_gt hexec hb hdg ht (fun _ => kt hcz oo hoo) (fun hz => absurd hcz hz)
  · rw [if_neg hcz] at hoo
    exact lv_if_gt hexec hb hdg ht (fun hz => absurd hz hcz) (fun _ => kf hcz oo hoo)
theorem x_icmp_gt (hexec : p.tables.exec = Jvm.exec) (hb : c.code = cc) {x y : Int32} {off : Int} {tgt : Nat} (hdg : decode cc pc = .ok (.if_icmp .gt off, 3)) (ht : (pc : Int) + off = (tgt : Int)) (kt : y < x → X p l e R s m args below meth c H locs cells slots Qf a (F0 m tgt ls rest)) (kf : ¬ y < x → X p l e R s m args below meth c H locs cells slots Qf b (F0 m (pc + 3) ls rest)) : X p l e R s m args below meth c H locs cells slots Qf (if y < x then a else b) (F0 m pc ls (.int y :: .int x :: rest)) := fun oo hoo => by
  by_cases hcz : y < x
  · rw [if_pos hcz] at hoo
    exact lv_icmp_gt hexec hb hdg ht (fun _ => kt hcz oo hoo) (fun hz => absurd hcz hz)
  · rw [if_neg hcz] at hoo
    exact lv_icmp_gt hexec hb hdg ht (fun hz => absurd hz hcz) (fun _ => kf hcz oo hoo)
theorem x_if_le (hexec : p.tables.exec = Jvm.exec) (hb : c.code = cc) {x : Int32} {off : Int} {tgt : Nat} (hdg : decode cc pc = .ok (.ifCond .le off, 3)) (ht : (pc : Int) + off = (tgt : Int)) (kt : x ≤ 0 → X p l e R s m args below meth c H locs cells slots Qf a (F0 m tgt ls rest)) (kf : ¬ x ≤ 0 → X p l e R s m args below meth c H locs cells slots Qf b (F0 m (pc + 3) ls rest)) : X p l e R s m args below meth c H locs cells slots Qf (if x ≤ 0 then a else b) (F0 m pc ls (.int x :: rest)) := fun oo hoo => by
  by_cases hcz : x ≤ 0
  · rw [if_pos hcz] at hoo
    exact lv_if_le hexec hb hdg ht (fun _ => kt hcz oo hoo) (fun hz => absurd hcz hz)
  · rw [if_neg hcz] at hoo
    exact lv_if_le hexec hb hdg ht (fun hz => absurd hz hcz) (fun _ => kf hcz oo hoo)
theorem x_icmp_le (hexec : p.tables.exec = Jvm.exec) (hb : c.code = cc) {x y : Int32} {off : Int} {tgt : Nat} (hdg : decode cc pc = .ok (.if_icmp .le off, 3)) (ht : (pc : Int) + off = (tgt : Int)) (kt : x ≤ y → X p l e R s m args below meth c H locs cells slots Qf a (F0 m tgt ls rest)) (kf : ¬ x ≤ y → X p l e R s m args below meth c H locs cells slots Qf b (F0 m (pc + 3) ls rest)) : X p l e R s m args below meth c H locs cells slots Qf (if x ≤ y then a else b) (F0 m pc ls (.int y :: .int x :: rest)) := fun oo hoo => by
  by_cases hcz : x ≤ y
  · rw [if_pos hcz] at hoo
    exact lv_icmp_le hexec hb hdg ht (fun _ => kt hcz oo hoo) (fun hz => absurd hcz hz)
  · rw [if_neg hcz] at hoo
    exact lv_icmp_le hexec hb hdg ht (fun hz => absurd hz hcz) (fun _ => kf hcz oo hoo)
theorem x_acmp_eq (hexec : p.tables.exec = Jvm.exec) (hb : c.code = cc) {rx ry : Option Nat} {off : Int} {tgt : Nat} (hdg : decode cc pc = .ok (.if_acmp .eq off, 3)) (ht : (pc : Int) + off = (tgt : Int)) (kt : rx = ry → X p l e R s m args below meth c H locs cells slots Qf a (F0 m tgt ls rest)) (kf : ¬ rx = ry → X p l e R s m args below meth c H locs cells slots Qf b (F0 m (pc + 3) ls rest)) : X p l e R s m args below meth c H locs cells slots Qf (if rx = ry then a else b) (F0 m pc ls (va_rf ry :: va_rf rx :: rest)) := fun oo hoo => by
  by_cases hcz : rx = ry
  · rw [if_pos hcz] at hoo
    exact lv_acmp_eq hexec hb hdg ht (fun _ => kt hcz oo hoo) (fun hz => absurd hcz hz)
  · rw [if_neg hcz] at hoo
    exact lv_acmp_eq hexec hb hdg ht (fun hz => absurd hz hcz) (fun _ => kf hcz oo hoo)
theorem x_acmp_ne (hexec : p.tables.exec = Jvm.exec) (hb : c.code = cc) {rx ry : Option Nat} {off : Int} {tgt : Nat} (hdg : decode cc pc = .ok (.if_acmp .ne off, 3)) (ht : (pc : Int) + off = (tgt : Int)) (kt : ¬ rx = ry → X p l e R s m args below meth c H locs cells slots Qf a (F0 m tgt ls rest)) (kf : rx = ry → X p l e R s m args below meth c H locs cells slots Qf b (F0 m (pc + 3) ls rest)) : X p l e R s m args below meth c H locs cells slots Qf (if rx = ry then b else a) (F0 m pc ls (va_rf ry :: va_rf rx :: rest)) := fun oo hoo => by
  by_cases hcz : rx = ry
  · rw [if_pos hcz] at hoo
    exact lv_acmp_ne hexec hb hdg ht (fun hz => absurd hcz hz) (fun _ => kf hcz oo hoo)
  · rw [if_neg hcz] at hoo
    exact lv_acmp_ne hexec hb hdg ht (fun _ => kt hcz oo hoo) (fun hz => absurd hz hcz)
theorem x_idivG (hexec : p.tables.exec = Jvm.exec) (hb : c.code = cc) {x y : Int32} (hdg : decode cc pc = .ok (.idiv, 1)) (k : X p l e R s m args below meth c H locs cells slots Qf sp (F0 m (pc + 1) ls (.int (x / y) :: rest))) : X p l e R s m args below meth c H locs cells slots Qf (if y = 0 then Option.none else sp) (F0 m pc ls (.int y :: .int x :: rest)) := X.guard fun h => x_idiv hexec hb hdg h k
theorem x_iremG (hexec : p.tables.exec = Jvm.exec) (hb : c.code = cc) {x y : Int32} (hdg : decode cc pc = .ok (.irem, 1)) (k : X p l e R s m args below meth c H locs cells slots Qf sp (F0 m (pc + 1) ls (.int (x - x / y * y) :: rest))) : X p l e R s m args below meth c H locs cells slots Qf (if y = 0 then Option.none else sp) (F0 m pc ls (.int y :: .int x :: rest)) := X.guard fun h => x_irem hexec hb hdg h k
theorem x_lcmp (hexec : p.tables.exec = Jvm.exec) (hb : c.code = cc) {x y : Int64} (hdg : decode cc pc = .ok (.lcmp, 1)) (k : X p l e R s m args below meth c H locs cells slots Qf sp (F0 m (pc + 1) ls (.int (lg_cmp x y) :: rest))) : X p l e R s m args below meth c H locs cells slots Qf sp (F0 m pc ls (.long y :: .long x :: rest)) := fun o ho => W.lcmp hexec hb hdg (k o ho)
/-- a world's object cell: a number field is read -/
theorem ux_get (E : ME p m c cc nL s args own D cl ct) (hU : UW D cl ck ct N ad P A S w H) {i ci n : Nat} {fk : Nat → Nat} {C ref : String} {T : u_T} {index : Nat} (hi : i < N) (hck : ck i = .inl (ci, n, fk)) (hc : cl[ci]? = some (C, T, n)) (hin : ∀ w ∈ u_ws C T n, w ∈ lw_all) (k : Nat) (hk : k < n) {v : Value} (hv : uV fk ad (S i) w (P i) k = v)
    (hlink : (Cond.fieldLink own index ref (T k).2.1 (T k).2.2.1).before args s = true) (hsame : ∀ x, s.fieldFound? (T k).1 (T k).2.1 (T k).2.2.1 = some x → s.fieldFound? ref (T k).2.1 (T k).2.2.1 = some x) (hdg : decode cc pc = .ok (.getfield index, 3))
    (kk : X p l e R s m args below meth c H locs cells slots Qf sp (F0 m (pc + 3) ls (v :: rest))) : X p l e R s m args below meth c H locs cells slots Qf sp (F0 m pc ls (.ref (ad i) :: rest)) := fun o ho => by
  obtain ⟨⟨hx, hb, hml, hown, hts⟩, hK, hJ⟩ := E
  subst hv
  exact va_get hx hb hts hin hown hK hU.1 i (by rw [uws_at hi, uE_obj hck]) hc k hk hlink hsame (uV_map_at hk) hdg (kk o ho)
theorem ux_getN (E : ME p m c cc nL s args own D cl ct) (hU : UW D cl ck ct N ad P A S w H) {i ci n : Nat} {fk : Nat → Nat} {C ref host : String} {T : u_T} {index : Nat} (hi : i < N) (hck : ck i = .inl (ci, n, fk)) (hc : cl[ci]? = some (C, T, n)) (hin : ∀ w ∈ u_ws C T n, w ∈ lw_all) (k : Nat) (hk : k < n) {v : Value} (hv : uV fk ad (S i) w (P i) k = v)
    (hlink : (Cond.fieldLinkNest own index ref (T k).2.1 (T k).2.2.1 host).before args s = true) (hsame : ∀ x, s.fieldFound? (T k).1 (T k).2.1 (T k).2.2.1 = some x → s.fieldFound? ref (T k).2.1 (T k).2.2.1 = some x) (hdg : decode cc pc = .ok (.getfield index, 3))
    (kk : X p l e R s m args below meth c H locs cells slots Qf sp (F0 m (pc + 3) ls (v :: rest))) : X p l e R s m args below meth c H locs cells slots Qf sp (F0 m pc ls (.ref (ad i) :: rest)) := fun o ho => by
  obtain ⟨⟨hx, hb, hml, hown, hts⟩, hK, hJ⟩ := E
  subst hv
  exact va_getN hx hb hts hin hown hK hU.1 i (by rw [uws_at hi, uE_obj hck]) hc k hk hlink hsame (uV_map_at hk) hdg (kk o ho)
theorem ux_put (E : ME p m c cc nL s args own D cl ct) (hU : UW D cl ck ct N ad P A S w H) (hS : va_S A H0 H locs) {i ci n : Nat} {fk : Nat → Nat} {C ref : String} {T : u_T} {index : Nat} {ty0 : Nat → FieldType} (hi : i < N) (hck : ck i = .inl (ci, n, fk)) (hc : cl[ci]? = some (C, T, n)) (hin : ∀ w ∈ u_ws C T n, w ∈ lw_all) (hty : ∀ k, k < n → parseFieldDescriptor (T k).2.2.1 = some (ty0 k)) (hnm : ∀ a, a < n → ∀ b, b < n → a ≠ b → (T a).2.1 ≠ (T b).2.1) (k : Nat) (hk : k < n) (hf : fk k = 0)
    (hlink : (Cond.fieldLink own index ref (T k).2.1 (T k).2.2.1).before args s = true) (hsame : ∀ x, s.fieldFound? (T k).1 (T k).2.1 (T k).2.2.1 = some x → s.fieldFound? ref (T k).2.1 (T k).2.2.1 = some x) (hfin : (T k).2.2.2 = false) {v : Int32} (hn : narrow (ty0 k) (.int v) = .int v) (hfit : fits (ty0 k) (.int v) = true) (hdg : decode cc pc = .ok (.putfield index, 3)) {kp : US → Option ρ}
    (kk : ∀ (S1 : US) (H1 : Heap) (locs1 : List Loc), UW D cl ck ct N ad P A S1 w H1 → va_S A H0 H1 locs1 → X p l e R s m args below meth c H1 locs1 cells slots Qf (kp S1) (F0 m (pc + 3) ls rest)) : X p l e R s m args below meth c H locs cells slots Qf (letB (u2 S i k v) kp) (F0 m pc ls (.int v :: .ref (ad i) :: rest)) := fun o ho => by
  obtain ⟨⟨hx, hb, hml, hown, hts⟩, hK, hJ⟩ := E
  refine va_put hx hb hts hin ty0 hty hnm hown hK hU.1 hU.2 hS i (by rw [uws_at hi, uE_obj hck]) hc k hk hlink hsame hfin (hty k hk) hn hfit (by simpa using hk) hdg fun H1 locs1 h1 h2 h3 => ?_
  rw [uV_set hk hf, uws_set hi (by rw [uE_obj hck])] at h1 h2
  exact kk _ H1 locs1 ⟨h1, h2⟩ h3 o ho
theorem ux_putN (E : ME p m c cc nL s args own D cl ct) (hU : UW D cl ck ct N ad P A S w H) (hS : va_S A H0 H locs) {i ci n : Nat} {fk : Nat → Nat} {C ref host : String} {T : u_T} {index : Nat} {ty0 : Nat → FieldType} (hi : i < N) (hck : ck i = .inl (ci, n, fk)) (hc : cl[ci]? = some (C, T, n)) (hin : ∀ w ∈ u_ws C T n, w ∈ lw_all) (hty : ∀ k, k < n → parseFieldDescriptor (T k).2.2.1 = some (ty0 k)) (hnm : ∀ a, a < n → ∀ b, b < n → a ≠ b → (T a).2.1 ≠ (T b).2.1) (k : Nat) (hk : k < n) (hf : fk k = 0)
    (hlink : (Cond.fieldLinkNest own index ref (T k).2.1 (T k).2.2.1 host).before args s = true) (hsame : ∀ x, s.fieldFound? (T k).1 (T k).2.1 (T k).2.2.1 = some x → s.fieldFound? ref (T k).2.1 (T k).2.2.1 = some x) (hfin : (T k).2.2.2 = false) {v : Int32} (hn : narrow (ty0 k) (.int v) = .int v) (hfit : fits (ty0 k) (.int v) = true) (hdg : decode cc pc = .ok (.putfield index, 3)) {kp : US → Option ρ}
    (kk : ∀ (S1 : US) (H1 : Heap) (locs1 : List Loc), UW D cl ck ct N ad P A S1 w H1 → va_S A H0 H1 locs1 → X p l e R s m args below meth c H1 locs1 cells slots Qf (kp S1) (F0 m (pc + 3) ls rest)) : X p l e R s m args below meth c H locs cells slots Qf (letB (u2 S i k v) kp) (F0 m pc ls (.int v :: .ref (ad i) :: rest)) := fun o ho => by
  obtain ⟨⟨hx, hb, hml, hown, hts⟩, hK, hJ⟩ := E
  refine va_putN hx hb hts hin ty0 hty hnm hown hK hU.1 hU.2 hS i (by rw [uws_at hi, uE_obj hck]) hc k hk hlink hsame hfin (hty k hk) hn hfit (by simpa using hk) hdg fun H1 locs1 h1 h2 h3 => ?_
  rw [uV_set hk hf, uws_set hi (by rw [uE_obj hck])] at h1 h2
  exact kk _ H1 locs1 ⟨h1, h2⟩ h3 o ho
theorem ux_ald (E : ME p m c cc nL s args own D cl ct) (hU : UW D cl ck ct N ad P A S w H) {i n : Nat} {j : Int32} (hi : i < N) (hck : ck i = .inr (0, n)) (hdg : decode cc pc = .ok (.iaload, 1))
    (kk : X p l e R s m args below meth c H locs cells slots Qf sp (F0 m (pc + 1) ls (.int (S i j.toNatClampNeg) :: rest))) : X p l e R s m args below meth c H locs cells slots Qf (if j < 0 ∨ n ≤ j.toNatClampNeg then Option.none else sp) (F0 m pc ls (.int j :: .ref (ad i) :: rest)) := X.guard fun hin o ho => by
  obtain ⟨⟨hx, hb, hml, hown, hts⟩, hK, hJ⟩ := E
  exact va_iald hx hb hK hU.1 i 0 (by rw [uws_at hi, uE_arr hck]) rfl hin hdg (kk o ho)
theorem ux_zald (E : ME p m c cc nL s args own D cl ct) (hU : UW D cl ck ct N ad P A S w H) {i n : Nat} {j : Int32} (hi : i < N) (hck : ck i = .inr (1, n)) (hdg : decode cc pc = .ok (.baload, 1))
    (kk : X p l e R s m args below meth c H locs cells slots Qf sp (F0 m (pc + 1) ls (.int (S i j.toNatClampNeg) :: rest))) : X p l e R s m args below meth c H locs cells slots Qf (if j < 0 ∨ n ≤ j.toNatClampNeg then Option.none else sp) (F0 m pc ls (.int j :: .ref (ad i) :: rest)) := X.guard fun hin o ho => by
  obtain ⟨⟨hx, hb, hml, hown, hts⟩, hK, hJ⟩ := E
  exact va_zald hx hb hK hU.1 i 1 (by rw [uws_at hi, uE_arr hck]) rfl hin hdg (kk o ho)
theorem ux_bald (E : ME p m c cc nL s args own D cl ct) (hU : UW D cl ck ct N ad P A S w H) {i n : Nat} {j : Int32} (hi : i < N) (hck : ck i = .inr (2, n)) (hdg : decode cc pc = .ok (.baload, 1))
    (kk : X p l e R s m args below meth c H locs cells slots Qf sp (F0 m (pc + 1) ls (.int (S i j.toNatClampNeg) :: rest))) : X p l e R s m args below meth c H locs cells slots Qf (if j < 0 ∨ n ≤ j.toNatClampNeg then Option.none else sp) (F0 m pc ls (.int j :: .ref (ad i) :: rest)) := X.guard fun hin o ho => by
  obtain ⟨⟨hx, hb, hml, hown, hts⟩, hK, hJ⟩ := E
  exact va_bald hx hb hK hU.1 i 2 (by rw [uws_at hi, uE_arr hck]) rfl hin hdg (kk o ho)
theorem ux_ast (E : ME p m c cc nL s args own D cl ct) (hU : UW D cl ck ct N ad P A S w H) (hS : va_S A H0 H locs) {i n : Nat} {j v : Int32} (hi : i < N) (hck : ck i = .inr (0, n)) (hdg : decode cc pc = .ok (.iastore, 1)) {kp : US → Option ρ}
    (kk : ∀ (S1 : US) (H1 : Heap) (locs1 : List Loc), UW D cl ck ct N ad P A S1 w H1 → va_S A H0 H1 locs1 → X p l e R s m args below meth c H1 locs1 cells slots Qf (kp S1) (F0 m (pc + 1) ls rest)) : X p l e R s m args below meth c H locs cells slots Qf (if j < 0 ∨ n ≤ j.toNatClampNeg then Option.none else letB (u2 S i j.toNatClampNeg v) kp) (F0 m pc ls (.int v :: .int j :: .ref (ad i) :: rest)) := X.guard fun hin o ho => by
  obtain ⟨⟨hx, hb, hml, hown, hts⟩, hK, hJ⟩ := E
  refine va_iast hx hb hK hU.1 hU.2 hS i 0 (by rw [uws_at hi, uE_arr hck]) rfl hin hdg fun H1 locs1 h1 h2 h3 => ?_
  rw [uws_set hi (by rw [uE_arr hck, u2_upd])] at h1 h2
  exact kk _ H1 locs1 ⟨h1, h2⟩ h3 o ho
theorem ux_zast (E : ME p m c cc nL s args own D cl ct) (hU : UW D cl ck ct N ad P A S w H) (hS : va_S A H0 H locs) {i n : Nat} {j v : Int32} (hi : i < N) (hck : ck i = .inr (1, n)) (hdg : decode cc pc = .ok (.bastore, 1)) {kp : US → Option ρ}
    (kk : ∀ (S1 : US) (H1 : Heap) (locs1 : List Loc), UW D cl ck ct N ad P A S1 w H1 → va_S A H0 H1 locs1 → X p l e R s m args below meth c H1 locs1 cells slots Qf (kp S1) (F0 m (pc + 1) ls rest)) : X p l e R s m args below meth c H locs cells slots Qf (if j < 0 ∨ n ≤ j.toNatClampNeg then Option.none else letB (u2 S i j.toNatClampNeg (vp_nar .boolean v)) kp) (F0 m pc ls (.int v :: .int j :: .ref (ad i) :: rest)) := X.guard fun hin o ho => by
  obtain ⟨⟨hx, hb, hml, hown, hts⟩, hK, hJ⟩ := E
  refine va_zast hx hb hK hU.1 hU.2 hS i 1 (by rw [uws_at hi, uE_arr hck]) rfl hin hdg fun H1 locs1 h1 h2 h3 => ?_
  rw [uws_set hi (by rw [uE_arr hck, u2_upd])] at h1 h2
  exact kk _ H1 locs1 ⟨h1, h2⟩ h3 o ho
theorem ux_bast (E : ME p m c cc nL s args own D cl ct) (hU : UW D cl ck ct N ad P A S w H) (hS : va_S A H0 H locs) {i n : Nat} {j v : Int32} (hi : i < N) (hck : ck i = .inr (2, n)) (hdg : decode cc pc = .ok (.bastore, 1)) {kp : US → Option ρ}
    (kk : ∀ (S1 : US) (H1 : Heap) (locs1 : List Loc), UW D cl ck ct N ad P A S1 w H1 → va_S A H0 H1 locs1 → X p l e R s m args below meth c H1 locs1 cells slots Qf (kp S1) (F0 m (pc + 1) ls rest)) : X p l e R s m args below meth c H locs cells slots Qf (if j < 0 ∨ n ≤ j.toNatClampNeg then Option.none else letB (u2 S i j.toNatClampNeg (vp_nar .byte v)) kp) (F0 m pc ls (.int v :: .int j :: .ref (ad i) :: rest)) := X.guard fun hin o ho => by
  obtain ⟨⟨hx, hb, hml, hown, hts⟩, hK, hJ⟩ := E
  refine va_bast hx hb hK hU.1 hU.2 hS i 2 (by rw [uws_at hi, uE_arr hck]) rfl hin hdg fun H1 locs1 h1 h2 h3 => ?_
  rw [uws_set hi (by rw [uE_arr hck, u2_upd])] at h1 h2
  exact kk _ H1 locs1 ⟨h1, h2⟩ h3 o ho
theorem ux_alen (E : ME p m c cc nL s args own D cl ct) (hU : UW D cl ck ct N ad P A S w H) {i t n : Nat} {ty : FieldType} (hi : i < N) (hck : ck i = .inr (t, n)) (ht : (tyW ct)[t]? = some (ct.1 t, ty)) (hdg : decode cc pc = .ok (.arraylength, 1))
    (kk : X p l e R s m args below meth c H locs cells slots Qf sp (F0 m (pc + 1) ls (.int (Int32.ofNat n) :: rest))) : X p l e R s m args below meth c H locs cells slots Qf sp (F0 m pc ls (.ref (ad i) :: rest)) := fun o ho => by
  obtain ⟨⟨hx, hb, hml, hown, hts⟩, hK, hJ⟩ := E
  exact va_alen hx hb hK hU.1 i t (by rw [uws_at hi, uE_arr hck]) ht rfl hdg (kk o ho)
end XS

theorem x_i32 {x : Int32} {z : Int} (e : x.toInt = z) (v : Int32) (hv : v.toInt = z) : x = v := Int32.toInt_inj.mp (e.trans hv.symm)
/-- how a method of a plain program ends -/
def mC (v : Option Value) (Bt : Heap → Prop) (A : Nat → Prop) : Array Value → State → Outcome → State → Prop := fun _ st oc t => oc = .returned v ∧ Bt t.heap ∧ va_F A st t
def mQ {ρ : Type} (below : List Frame) (args : Array Value) (s : State) (cells slots : Nat) (A : Nat → Prop) (val : ρ → Option Value) (Bt : ρ → Heap → Prop) : ρ → State → Prop := fun o => MQ below (mC (val o) (Bt o) A) args s cells slots A
/-- how it starts -/
def mP (D : va_G) (cl : List vw_C) (ct : CT) (As : List Value) (sz : Nat) (B : Heap → Prop) : Array Value → State → Prop := va_Pc As (fun U => U.heap.size = sz ∧ B U.heap ∧ va_K D cl (tyW ct) U ∧ JW ct U)
theorem mP_blind {D : va_G} {cl : List vw_C} {ct : CT} {As : List Value} {sz : Nat} {B : Heap → Prop} : FrameBlind (mP D cl ct As sz B) := fun a U g mk q => by
  obtain ⟨q0, q1, q2, qK, qJ⟩ := q
  exact ⟨q0, q1, q2, va_K.moved (u := U) (U := U.calling g mk a) (Vm.Alike.refl U.vm) qK, JW.same (u := U) (U := U.calling g mk a) rfl qJ⟩
section XR
variable {ρ ρ' : Type} {p : Program} {l : Launch} {e : Env} {R : Room} {s : State} {m : MethodId} {args : Array Value} {below : List Frame} {meth : Method} {c : Code} {H : Heap} {locs : List Loc} {cells slots : Nat} {Qf : ρ → State → Prop} {sp a b : Option ρ} {g : JFrame}
variable {cc : ByteArray} {pc nL : Nat} {ls : Array Slot} {rest : List Value} {own : String}
variable {D : va_G} {cl : List vw_C} {ct : CT} {A A1 : Nat → Prop} {H0 : Heap} {val : ρ → Option Value} {Bt : ρ → Heap → Prop}
theorem x_iret (hexec : p.tables.exec = Jvm.exec) (hb : c.code = cc) (hr : meth.sig.returnType = some .int) (hlocks : meth.locks = false) (hS : va_S A s.heap H locs) {o : ρ} {v : Int32} (hv : val o = some (.int v)) (hB : Bt o H) (hdg : decode cc pc = .ok (.ireturn, 1)) : X p l e R s m args below meth c H locs cells slots (mQ below args s cells slots A val Bt) (some o) (F0 m pc ls [.int v]) := fun o' ho => by
  cases ho
  exact W.iret hexec hb hr (fun t ht hW => ⟨by rw [hv], by rw [ht]; exact hB, hS.F ht⟩) hS.2.2 hdg hlocks
theorem x_zret (hexec : p.tables.exec = Jvm.exec) (hb : c.code = cc) {ty : FieldType} (hr : meth.sig.returnType = some ty) (hlocks : meth.locks = false) (hS : va_S A s.heap H locs) {o : ρ} {v : Int32} (hn : narrow ty (.int v) = .int v) (hv : val o = some (.int v)) (hB : Bt o H) (hdg : decode cc pc = .ok (.ireturn, 1)) : X p l e R s m args below meth c H locs cells slots (mQ below args s cells slots A val Bt) (some o) (F0 m pc ls [.int v]) := fun o' ho => by
  cases ho
  exact W.zret hexec hb hr hn (fun t ht hW => ⟨by rw [hv], by rw [ht]; exact hB, hS.F ht⟩) hS.2.2 hdg hlocks
theorem x_lret (hexec : p.tables.exec = Jvm.exec) (hb : c.code = cc) (hr : meth.sig.returnType = some .long) (hlocks : meth.locks = false) (hS : va_S A s.heap H locs) {o : ρ} {v : Int64} (hv : val o = some (.long v)) (hB : Bt o H) (hdg : decode cc pc = .ok (.lreturn, 1)) : X p l e R s m args below meth c H locs cells slots (mQ below args s cells slots A val Bt) (some o) (F0 m pc ls [.long v]) := fun o' ho => by
  cases ho
  exact W.lret hexec hb hr (fun t ht hW => ⟨by rw [hv], by rw [ht]; exact hB, hS.F ht⟩) hS.2.2 hdg hlocks
theorem x_vret (hexec : p.tables.exec = Jvm.exec) (hb : c.code = cc) (hr : meth.sig.returnType = none) (hlocks : meth.locks = false) (hS : va_S A s.heap H locs) {o : ρ} (hv : val o = none) (hB : Bt o H) (hdg : decode cc pc = .ok (.return_, 1)) : X p l e R s m args below meth c H locs cells slots (mQ below args s cells slots A val Bt) (some o) (F0 m pc ls []) := fun o' ho => by
  cases ho
  exact W.vret hexec hb hr (fun t ht hW => ⟨by rw [hv], by rw [ht]; exact hB, hS.F ht⟩) hS.2.2 hdg hlocks
/-- a method's contract out of its walk -/
theorem X.start {y : MethodName} {maxL mc ms sz : Nat} {ret : Option FieldType} {rm : Room} {As : List Value} {lv : List (Nat × Value)} {B : Heap → Prop} {o : ρ} (ho : sp = some o) (hy : plainName y.cls = true) (hlen : (lg_sl As).length ≤ maxL) (hlv : lv_args 0 As = lv)
    (body : ∀ (p : Program) (e : Env) (s : State) (m : MethodId) (args : Array Value) (below : List Frame) (meth : Method) (c : Code), ME p m c cc maxL s args y.cls D cl ct → meth.sig.returnType = ret → meth.locks = false → meth.name = y.name → s.heap.size = sz → B s.heap → ∀ ls : Array Slot, lv_has ls maxL lv → X p l e rm s m args below meth c s.heap [] 0 0 (mQ below args s mc ms A val Bt) sp (F0 m 0 ls [])) :
    Met l y (ws_ y cc maxL ret) rm (mP D cl ct As sz B) (mC (val o) (Bt o) A) mc ms A := by
  refine Met.ofW (cc := cc) (maxL := maxL) (ret := ret) hy rfl ?_
  intro p e s m args below meth c s₁ BB hml hv
  obtain ⟨rfl, hsz, hBh, hK, hJ⟩ := hv
  have hts := atoms_spec (ws := ws_ y cc maxL ret) BB.pre
  have hts : ∀ w ∈ lw_all, w.before _ s = true := fun w h => hts w (List.mem_cons_of_mem _ h)
  have hown : s.vm.findClass y.cls = some m.cls := findClass_of_methodNamed BB.named
  have hl := lv_entry As (n := maxL) hlen
  rw [lg_entry_eq]
  rw [hlv] at hl
  exact body p e s m _ below meth c ⟨⟨BB.exec, BB.bytes, hml, hown, hts⟩, hK, hJ⟩ BB.returns BB.notSynchronized (name_of_methodNamed BB.named BB.method).1 hsz hBh _ hl o ho
theorem x_after {sp' : Option ρ'} {kp : ρ' → Option ρ} {val' : ρ' → Option Value} {Bt' : ρ' → Heap → Prop} {mc ms : Nat} {st0 : List Value} (hS : va_S A H0 H locs) (hA : ∀ q, A1 q → A q)
    (hr : ∀ o, sp' = some o → ∃ arr, va_Run p l e R s m args below meth c H locs cells slots mc ms (F0 m pc ls st0) rest (mC (val' o) (Bt' o) A1 arr) A1)
    (kk : ∀ (o : ρ') (H1 : Heap) (locs1 : List Loc), sp' = some o → Bt' o H1 → H.size ≤ H1.size → (∀ q : Nat, q < H.size → ¬ A1 q → H1[q]? = H[q]?) → va_S A H0 H1 locs1 → X p l e R s m args below meth c H1 locs1 (cells + mc) (slots + ms) Qf (kp o) (F0 m (pc + 3) ls ((val' o).toList ++ rest))) : X p l e R s m args below meth c H locs cells slots Qf (callK sp' kp) (F0 m pc ls st0) := fun oo hoo => by
  obtain ⟨o, h1, h2⟩ := callK_some hoo
  obtain ⟨arr, hr⟩ := hr o h1
  intro T hT X
  obtain ⟨v, st₀, t, T', L, h0, X', hL, e1, e2, ⟨hv, hb, hz, hk⟩, st⟩ := hr T hT X
  cases hv
  rw [h0] at hz hk
  obtain ⟨t2, a1, b1⟩ := kk o T'.heap (locs ++ L) h1 (by rw [e1]; exact hb) (by rw [e1]; exact hz) (fun q h1 h2 => by rw [e1]; exact hk q h1 h2)
    ⟨Nat.le_trans hS.1 (by rw [e1]; exact hz), fun q h1 h2 => by rw [e1, hk q (Nat.lt_of_lt_of_le h1 hS.1) (fun z => h2 (hA q z))]; exact hS.2.1 q h1 h2, fun q hq => by
      rcases List.mem_append.mp hq with h | h
      · exact hS.2.2 q h
      · exact hA _ (hL q h)⟩ oo h2 T' rfl X'
  exact ⟨t2, st t2 a1, b1⟩
/-- a call through an object -/
theorem xc_V {sp' : Option ρ'} {kp : ρ' → Option ρ} {val' : ρ' → Option Value} {Bt' : ρ' → Heap → Prop} {mc ms n index maxL b0 : Nat} {st0 As : List Value} {C : String} {y : MethodName} {bytes : ByteArray} {ret : Option FieldType} {rm : Room} {ws : List Cond} {B : Heap → Prop} (E : ME p m c cc nL s args own D cl ct) (hS : va_S A H0 H locs) (hB : B H)
    (hM : ∀ o, sp' = some o → Met l y ws rm (mP D cl ct (.ref b0 :: As) H.size B) (mC (val' o) (Bt' o) A1) mc ms A1) (cw : CallW R s args own C index y bytes maxL ret ws rm mc ms n) (hrecv : ∃ cellB : Cell, H[b0]? = some cellB ∧ cellB.vm.isStatics = false ∧ s.vm.findClass C = some cellB.cls)
    (hn : As.length = n) (hsize : ls.size = nL) (hst : st0 = As.reverse ++ .ref b0 :: rest) (hW : (rest.map fun v => v.category).sum ≤ 8) (hdg : decode cc pc = .ok (.invokevirtual index, 3)) (hf : cells + mc ≤ R.cells ∧ slots + ms ≤ R.slots) (hA : ∀ q, A1 q → A q)
    (kk : ∀ (o : ρ') (H1 : Heap) (locs1 : List Loc), sp' = some o → Bt' o H1 → H.size ≤ H1.size → (∀ q : Nat, q < H.size → ¬ A1 q → H1[q]? = H[q]?) → va_S A H0 H1 locs1 → X p l e R s m args below meth c H1 locs1 (cells + mc) (slots + ms) Qf (kp o) (F0 m (pc + 3) ls ((val' o).toList ++ rest))) : X p l e R s m args below meth c H locs cells slots Qf (callK sp' kp) (F0 m pc ls st0) :=
  x_after hS hA (fun o ho => ⟨_, va_runV E.1 (hM o ho) cw ⟨mP_blind, hrecv, fun U hU hWm => ⟨rfl, by rw [hU], by rw [hU]; exact hB, va_K.moved hWm.alike E.2.1, JW.warm hWm E.2.2⟩⟩ rfl hn hsize hst (lv_room hW) hdg hf⟩) kk
/-- a static call -/
theorem xc_S {sp' : Option ρ'} {kp : ρ' → Option ρ} {val' : ρ' → Option Value} {Bt' : ρ' → Heap → Prop} {mc ms n index maxL : Nat} {st0 As : List Value} {y : MethodName} {bytes : ByteArray} {ret : Option FieldType} {rm : Room} {ws : List Cond} {B : Heap → Prop} (E : ME p m c cc nL s args own D cl ct) (hS : va_S A H0 H locs) (hB : B H)
    (hM : ∀ o, sp' = some o → Met l y ws rm (mP D cl ct As H.size B) (mC (val' o) (Bt' o) A1) mc ms A1) (cw : CallB R s args own index y bytes maxL ret ws rm mc ms n ∧ (Cond.static y).before args s = true)
    (hn : As.length = n) (hsize : ls.size = nL) (hst : st0 = As.reverse ++ rest) (hW : (rest.map fun v => v.category).sum ≤ 8) (hdg : decode cc pc = .ok (.invokestatic index, 3)) (hf : cells + mc ≤ R.cells ∧ slots + ms ≤ R.slots) (hA : ∀ q, A1 q → A q)
    (kk : ∀ (o : ρ') (H1 : Heap) (locs1 : List Loc), sp' = some o → Bt' o H1 → H.size ≤ H1.size → (∀ q : Nat, q < H.size → ¬ A1 q → H1[q]? = H[q]?) → va_S A H0 H1 locs1 → X p l e R s m args below meth c H1 locs1 (cells + mc) (slots + ms) Qf (kp o) (F0 m (pc + 3) ls ((val' o).toList ++ rest))) : X p l e R s m args below meth c H locs cells slots Qf (callK sp' kp) (F0 m pc ls st0) :=
  x_after hS hA (fun o ho => ⟨_, va_runS E.1 (hM o ho) cw ⟨mP_blind, fun U hU hWm => ⟨rfl, by rw [hU], by rw [hU]; exact hB, va_K.moved hWm.alike E.2.1, JW.warm hWm E.2.2⟩⟩ rfl hn hsize hst (lv_room hW) hdg hf⟩) kk
theorem x_tabEq (hexec : p.tables.exec = Jvm.exec) (hb : c.code = cc) {dflt lo hi : Int} {offs : Array Int} {len : Nat} {x v : Int32} {off : Int} {tgt : Nat} (hxv : x = v) (hdg : decode cc pc = .ok (.tableswitch dflt lo hi offs, len)) (h1 : ¬ v.toInt < lo) (h2 : ¬ hi < v.toInt) (ho : offs[(v.toInt - lo).toNat]? = some off) (ht : (pc : Int) + off = (tgt : Int))
    (k : X p l e R s m args below meth c H locs cells slots Qf sp (F0 m tgt ls rest)) : X p l e R s m args below meth c H locs cells slots Qf sp (F0 m pc ls (.int x :: rest)) := by
  subst hxv
  exact x_tableIn hexec hb hdg h1 h2 ho ht k
theorem x_tabElse (hexec : p.tables.exec = Jvm.exec) (hb : c.code = cc) {dflt lo hi : Int} {offs : Array Int} {len n : Nat} {x : Int32} {tgt : Nat} (hdg : decode cc pc = .ok (.tableswitch dflt lo hi offs, len)) (hn : hi - lo < n) (hne : ∀ k : Nat, k < n → x.toInt = lo + k → offs[k]? = some dflt) (ht : (pc : Int) + dflt = (tgt : Int))
    (k : X p l e R s m args below meth c H locs cells slots Qf sp (F0 m tgt ls rest)) : X p l e R s m args below meth c H locs cells slots Qf sp (F0 m pc ls (.int x :: rest)) := by
  by_cases h1 : x.toInt < lo
  · exact x_tableOut hexec hb hdg (Or.inl h1) ht k
  · by_cases h2 : hi < x.toInt
    · exact x_tableOut hexec hb hdg (Or.inr h2) ht k
    · refine x_tableIn hexec hb hdg h1 h2 (hne (x.toInt - lo).toNat (by omega) (by omega)) ht k
theorem x_tabElse2 (hexec : p.tables.exec = Jvm.exec) (hb : c.code = cc) {dflt lo hi : Int} {offs : Array Int} {len n : Nat} {x : Int32} {tgt : Nat} (hdg : decode cc pc = .ok (.tableswitch dflt lo hi offs, len)) (vals : List Int) (hn : hi - lo < n) (hd : ∀ k : Nat, k < n → (lo + k) ∈ vals ∨ offs[k]? = some dflt) (hv : ∀ v ∈ vals, x.toInt ≠ v) (ht : (pc : Int) + dflt = (tgt : Int))
    (k : X p l e R s m args below meth c H locs cells slots Qf sp (F0 m tgt ls rest)) : X p l e R s m args below meth c H locs cells slots Qf sp (F0 m pc ls (.int x :: rest)) :=
  x_tabElse hexec hb hdg hn (fun k hk he => by
    rcases hd k hk with h | h
    · exact absurd he (hv _ h)
    · exact h) ht k
theorem x_topi {x : Int32} {kp : Int32 → Option ρ} (k : ∀ y : Int32, X p l e R s m args below meth c H locs cells slots Qf (kp y) (F0 m pc ls (.int y :: rest))) : X p l e R s m args below meth c H locs cells slots Qf (letB x kp) (F0 m pc ls (.int x :: rest)) := k x
theorem x_topl {x : Int64} {kp : Int64 → Option ρ} (k : ∀ y : Int64, X p l e R s m args below meth c H locs cells slots Qf (kp y) (F0 m pc ls (.long y :: rest))) : X p l e R s m args below meth c H locs cells slots Qf (letB x kp) (F0 m pc ls (.long x :: rest)) := k x
theorem X.ite {q : Prop} [Decidable q] (k1 : q → X p l e R s m args below meth c H locs cells slots Qf a g) (k2 : ¬ q → X p l e R s m args below meth c H locs cells slots Qf b g) : X p l e R s m args below meth c H locs cells slots Qf (if q then a else b) g := fun o ho => by
  by_cases h : q
  · rw [if_pos h] at ho; exact k1 h o ho
  · rw [if_neg h] at ho; exact k2 h o ho
theorem X.join2 {σ : Type} {f : σ → Option ρ} {b : (σ → Option ρ) → Option ρ} (I : σ → JFrame → Heap → List Loc → Prop) (h1 : ∀ (x : σ) (g : JFrame) (H : Heap) (locs : List Loc), I x g H locs → X p l e R s m args below meth c H locs cells slots Qf (f x) g) (h2 : ∀ j : σ → Option ρ, (∀ (x : σ) (g : JFrame) (H : Heap) (locs : List Loc), I x g H locs → X p l e R s m args below meth c H locs cells slots Qf (j x) g) → X p l e R s m args below meth c H locs cells slots Qf (b j) g) : X p l e R s m args below meth c H locs cells slots Qf (joinB f b) g := h2 f h1
end XR
def bI (b : Bool) : Int32 := if b then 1 else 0
theorem bI_z (b : Bool) : narrow .boolean (.int (bI b)) = .int (bI b) := by cases b <;> rfl
section UC
variable {ρ ρ' : Type} {p : Program} {l : Launch} {e : Env} {R : Room} {s : State} {m : MethodId} {args : Array Value} {below : List Frame} {meth : Method} {c : Code} {H : Heap} {locs : List Loc} {cells slots : Nat} {Qf : ρ → State → Prop}
variable {cc : ByteArray} {pc nL : Nat} {ls : Array Slot} {rest : List Value} {own : String}
variable {D : va_G} {cl : List vw_C} {ck : Nat → UC} {ct : CT} {N : Nat} {ad : Nat → Nat} {P : Nat → Nat → Option Nat} {A A0 : Nat → Prop} {S : US} {w : Int64} {H0 : Heap}
variable {sp' : Option ρ'} {kp : ρ' → Option ρ} {val' : ρ' → Option Value} {k index maxL : Nat} {st0 As : List Value} {y : MethodName} {bytes : ByteArray} {ret : Option FieldType} {rm : Room} {ws : List Cond}
/-- a call through an object of the world that changes no cell -/
theorem ucV_pure {i ci n : Nat} {fk : Nat → Nat} {C : String} {T : u_T} (E : ME p m c cc nL s args own D cl ct) (hU : UW D cl ck ct N ad P A S w H) (hS : va_S A0 H0 H locs) (hA0 : ∀ q, H0.size ≤ q → A0 q) (hi : i < N) (hck : ck i = .inl (ci, n, fk)) (hc : cl[ci]? = some (C, T, n))
    (hM : ∀ sz o, sp' = some o → Met l y ws rm (mP D cl ct (.ref (ad i) :: As) sz (UW D cl ck ct N ad P (fun _ => True) S w)) (mC (val' o) (fun _ => True) (nA sz)) 0 0 (nA sz)) (cw : CallW R s args own C index y bytes maxL ret ws rm 0 0 k)
    (hn : As.length = k) (hsize : ls.size = nL) (hst : st0 = As.reverse ++ .ref (ad i) :: rest) (hW : (rest.map fun v => v.category).sum ≤ 8) (hdg : decode cc pc = .ok (.invokevirtual index, 3)) (hf : cells ≤ R.cells ∧ slots ≤ R.slots)
    (kk : ∀ (o : ρ') (H1 : Heap) (locs1 : List Loc), UW D cl ck ct N ad P A S w H1 → va_S A0 H0 H1 locs1 → X p l e R s m args below meth c H1 locs1 cells slots Qf (kp o) (F0 m (pc + 3) ls ((val' o).toList ++ rest))) : X p l e R s m args below meth c H locs cells slots Qf (callK sp' kp) (F0 m pc ls st0) :=
  xc_V (Bt' := fun _ _ => True) (A1 := nA H.size) E hS (hU.to fun _ _ => trivial) (fun o ho => hM _ o ho) cw (va_recv (ws := [(ad i, .inr (ci, (List.range n).map (uV fk ad (S i) w (P i))))]) (ci := ci) (q0 := 0) E.2.1 (fun j q hq => by
    cases j with
    | zero => cases hq; have h := hU.1 i _ (uws_at hi); rw [uE_obj hck] at h; exact h
    | succ j => simp at hq) hc rfl) hn hsize hst hW hdg hf (fun q hq => hA0 q (Nat.le_trans hS.1 hq)) fun o H1 locs1 _ _ hz hk hS1 => kk o H1 locs1 (hU.kept fun j hj => hk _ (hU.lt hj) (Nat.not_le.mpr (hU.lt hj))) hS1
/-- .. that changes the world alone -/
theorem ucV_mod {i ci n : Nat} {fk : Nat → Nat} {C : String} {T : u_T} {So : ρ' → US} {wo : ρ' → Int64} (E : ME p m c cc nL s args own D cl ct) (hU : UW D cl ck ct N ad P A S w H) (hS : va_S A H0 H locs) (hA0 : ∀ q, H0.size ≤ q → A q) (hi : i < N) (hck : ck i = .inl (ci, n, fk)) (hc : cl[ci]? = some (C, T, n))
    (hM : ∀ sz o, sp' = some o → Met l y ws rm (mP D cl ct (.ref (ad i) :: As) sz (UW D cl ck ct N ad P (fun _ => True) S w)) (mC (val' o) (UW D cl ck ct N ad P (fun _ => True) (So o) (wo o)) (uA N ad sz)) 0 0 (uA N ad sz)) (cw : CallW R s args own C index y bytes maxL ret ws rm 0 0 k)
    (hn : As.length = k) (hsize : ls.size = nL) (hst : st0 = As.reverse ++ .ref (ad i) :: rest) (hW : (rest.map fun v => v.category).sum ≤ 8) (hdg : decode cc pc = .ok (.invokevirtual index, 3)) (hf : cells ≤ R.cells ∧ slots ≤ R.slots)
    (kk : ∀ (o : ρ') (H1 : Heap) (locs1 : List Loc), UW D cl ck ct N ad P A (So o) (wo o) H1 → va_S A H0 H1 locs1 → X p l e R s m args below meth c H1 locs1 cells slots Qf (kp o) (F0 m (pc + 3) ls ((val' o).toList ++ rest))) : X p l e R s m args below meth c H locs cells slots Qf (callK sp' kp) (F0 m pc ls st0) :=
  xc_V (Bt' := fun o => UW D cl ck ct N ad P (fun _ => True) (So o) (wo o)) (A1 := uA N ad H.size) E hS (hU.to fun _ _ => trivial) (fun o ho => hM _ o ho) cw (va_recv (ws := [(ad i, .inr (ci, (List.range n).map (uV fk ad (S i) w (P i))))]) (ci := ci) (q0 := 0) E.2.1 (fun j q hq => by
    cases j with
    | zero => cases hq; have h := hU.1 i _ (uws_at hi); rw [uE_obj hck] at h; exact h
    | succ j => simp at hq) hc rfl) hn hsize hst hW hdg hf (fun q hq => by
      rcases hq with ⟨j, hj, rfl⟩ | hq
      · exact hU.inA hj
      · exact hA0 q (Nat.le_trans hS.1 hq)) fun o H1 locs1 _ hB hz hk hS1 => kk o H1 locs1 (hB.to fun j hj => hU.inA hj) hS1
/-- a static call that knows no world -/
theorem ucS (E : ME p m c cc nL s args own D cl ct) (hS : va_S A0 H0 H locs) (hA0 : ∀ q, H0.size ≤ q → A0 q)
    (hM : ∀ sz o, sp' = some o → Met l y ws rm (mP D cl ct As sz (fun _ => True)) (mC (val' o) (fun _ => True) (nA sz)) 0 0 (nA sz)) (cw : CallB R s args own index y bytes maxL ret ws rm 0 0 k ∧ (Cond.static y).before args s = true)
    (hn : As.length = k) (hsize : ls.size = nL) (hst : st0 = As.reverse ++ rest) (hW : (rest.map fun v => v.category).sum ≤ 8) (hdg : decode cc pc = .ok (.invokestatic index, 3)) (hf : cells ≤ R.cells ∧ slots ≤ R.slots)
    (kk : ∀ (o : ρ') (H1 : Heap) (locs1 : List Loc), (∀ q : Nat, q < H.size → H1[q]? = H[q]?) → va_S A0 H0 H1 locs1 → X p l e R s m args below meth c H1 locs1 cells slots Qf (kp o) (F0 m (pc + 3) ls ((val' o).toList ++ rest))) : X p l e R s m args below meth c H locs cells slots Qf (callK sp' kp) (F0 m pc ls st0) :=
  xc_S (Bt' := fun _ _ => True) (A1 := nA H.size) (B := fun _ => True) E hS trivial (fun o ho => hM _ o ho) cw hn hsize hst hW hdg hf (fun q hq => hA0 q (Nat.le_trans hS.1 hq)) fun o H1 locs1 _ _ hz hk hS1 => kk o H1 locs1 (fun q h => hk q h (Nat.not_le.mpr h)) hS1
end UC
abbrev P0 : Nat → Nat → Option Nat := fun _ _ => none
/-- the classes -/
abbrev clW : List vw_C := [(RX4, TX4, 63), (RX1, TX1, 15), (RX2, TX2, 6), (RX3, TX3, 8), (RX5, TX5, 13), (RX6, TX6, 7), (RX7, TX7, 2), (RX8, TX8, 1), (RX9, TX9, 1), (RX10, TX10, 1), (RJ2, TJ2, 3), (RJ14, TJ14, 4), (RJ18, TJ18, 1), (RJ8, TJ8, 4)]
theorem uws_setl {ck : Nat → UC} {ct : CT} {N : Nat} {ad : Nat → Nat} {P : Nat → Nat → Option Nat} {S : US} {w v : Int64} {i ci n k : Nat} {fk : Nat → Nat} (hi : i < N) (hck : ck i = .inl (ci, n, fk)) (hk : k < n) (hf : fk k = 1) (h1 : ∀ j, j < n → j ≠ k → fk j ≠ 1) (h2 : ∀ j, j < N → j ≠ i → (ck j).isRight = true) : (uws ck ct N ad P S w).set i (ad i, .inr (ci, ((List.range n).map (uV fk ad (S i) w (P i))).set k (.long v))) = uws ck ct N ad P S v := by
  apply List.ext_getElem?
  intro j
  by_cases hj : j < N
  · rw [uws_at hj]
    by_cases hij : i = j
    · subst hij
      rw [List.getElem?_set_self (by simpa [uws] using hi), uE_obj hck]
      congr 4
      apply List.ext_getElem?
      intro t
      by_cases ht : t < n
      · rw [uV_map_at ht]
        by_cases hkt : k = t
        · subst hkt
          rw [List.getElem?_set_self (by simpa using hk)]
          simp [uV, hf]
        · rw [List.getElem?_set_ne hkt, uV_map_at ht]
          have := h1 t ht (fun h => hkt h.symm)
          unfold uV
          split <;> first | rfl | (rename_i e; exact absurd e this)
      · rw [List.getElem?_eq_none (by simpa using Nat.le_of_not_lt ht), List.getElem?_eq_none (by simpa using Nat.le_of_not_lt ht)]
    · rw [List.getElem?_set_ne hij, uws_at hj]
      have := h2 j hj (fun h => hij h.symm)
      congr 2
      unfold uE
      cases hc : ck j with
      | inl q => rw [hc] at this; cases this
      | inr q => rfl
  · rw [List.getElem?_eq_none (by simpa [uws] using Nat.le_of_not_lt hj), List.getElem?_eq_none (by simpa [uws] using Nat.le_of_not_lt hj)]
