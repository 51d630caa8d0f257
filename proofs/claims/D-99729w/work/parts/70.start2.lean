set_option maxRecDepth 100000
theorem bA (s : State) : ∀ a : Nat, a < s.heap.size → ¬ (fun a => s.heap.size ≤ a) a := fun a h => Nat.not_le.mpr h
theorem arrT {s : State} {cA comp : ClassId} {kA : Class} {ty : FieldType} (h1 : s.vm.classes[cA]? = some kA) (h2 : kA.kind = .array comp ty) : ArrOfT s cA ty := fun n z => ⟨fun k h => (by cases h), kA, h1, comp, h2⟩
theorem vx_Zqo {args : Array Value} {s : State} {C n d : String} (hl : (Cond.laysStatic C n d).before args s = true) (hini : (Cond.initialized C).before args s = true) (h : (Cond.isRef (.static C n d)).before args s = true) : vx_Zq C n d (fun a => s.heap.size ≤ a) s s.heap := by
  refine ⟨va_Zqof hl hini h (bA s), ?_⟩
  obtain ⟨c, k, i, f, a, cell, hc, hi, hst, ha, hcell, hs, hcls, hlt, hty⟩ := Cond.laysStatic_spec hl
  exact ⟨c, k, i, f, a, cell, hc, hi, hst, ha, hcell, hs, hcls, hlt, hty, bA s a (Array.getElem?_eq_some_iff.mp hcell).1⟩
theorem arrP {args : Array Value} {s : State} {t : FieldType} (hr : ∀ C, t ≠ .object C) (h : (Cond.arrayClass t).before args s = true) : ∃ cA : ClassId, ArrOfT s cA t ∧ va_RA s cA t := by
  obtain ⟨c, k, comp, h1, h2, h3⟩ := Cond.arrayClass_spec (args := args) (first := s) (o := none) (s := s) (idx := []) h
  refine ⟨c, arrT h2 h3, ?_⟩
  unfold va_RA
  split
  · rename_i C
    exact absurd rfl (hr C)
  · exact h1
theorem arrQ {args : Array Value} {s : State} {n : String} (h : (Cond.arrayOver (.object n)).before args s = true) : ∃ cA : ClassId, ArrOfT s cA (.object n) ∧ va_RA s cA (.object n) := by
  obtain ⟨comp, c, k, h1, -, h2, h3, h4⟩ := Cond.arrayOver_spec (args := args) (first := s) (o := none) (s := s) (idx := []) h
  exact ⟨c, arrT h2 h3, k, comp, h2, h3, h1, h4⟩
theorem arrR {args : Array Value} {s : State} {t : FieldType} (h : (Cond.arrayOver (.array t)).before args s = true) : ∃ cA : ClassId, ArrOfT s cA (.array t) ∧ va_RA s cA (.array t) := by
  obtain ⟨comp, c, k, -, h2, h3, h4⟩ := Cond.arrayOver_specA (args := args) (first := s) (o := none) (s := s) (idx := []) h
  exact ⟨c, arrT h2 h3, h4⟩
theorem st_K {args : Array Value} {s : State} (hgv : (Jvm.Cond.and given_1 narrow_1).before args s = true) (htb : ∀ w ∈ lw_tbl, w.before args s = true) : ∃ (D : va_G) (c1 : Nat → ClassId), ∀ ct : CT, ct.1 = c1 → va_K D clW (tyW ct) s := by
  have hts : ∀ w ∈ lw_all, w.before args s = true := fun w h => htb w (lw_all_tbl h)
  obtain ⟨c0, i0, h0⟩ := u_known (C := RX4) (T := TX4) (N := 63) (n := 63) hts in_X4 (hts _ q1838)
  obtain ⟨c1, i1, h1⟩ := u_known (C := RX1) (T := TX1) (N := 15) (n := 15) hts in_X1 (hts _ q150)
  obtain ⟨c2, i2, h2⟩ := u_known (C := RX2) (T := TX2) (N := 6) (n := 6) hts in_X2 (hts _ q158)
  obtain ⟨c3, i3, h3⟩ := u_known (C := RX3) (T := TX3) (N := 8) (n := 8) hts in_X3 (hts _ q223)
  obtain ⟨c4, i4, h4⟩ := u_known (C := RX5) (T := TX5) (N := 13) (n := 13) hts in_X5 (hts _ q767)
  obtain ⟨c5, i5, h5⟩ := u_known (C := RX6) (T := TX6) (N := 7) (n := 7) hts in_X6 (hts _ q963)
  obtain ⟨c6, i6, h6⟩ := u_known (C := RX7) (T := TX7) (N := 2) (n := 2) hts in_X7 (hts _ q1243)
  obtain ⟨c7, i7, h7⟩ := u_known (C := RX8) (T := TX8) (N := 1) (n := 1) hts in_X8 (hts _ q1266)
  obtain ⟨c8, i8, h8⟩ := u_known (C := RX9) (T := TX9) (N := 1) (n := 1) hts in_X9 (hts _ q1276)
  obtain ⟨c9, i9, h9⟩ := u_known (C := RX10) (T := TX10) (N := 1) (n := 1) hts in_X10 (hts _ q1316)
  obtain ⟨c10, i10, h10⟩ := u_known (C := RJ2) (T := TJ2) (N := 3) (n := 3) hts in_J2 (hts _ q164)
  obtain ⟨c11, i11, h11⟩ := u_known (C := RJ14) (T := TJ14) (N := 4) (n := 4) hts in_J14 (hts _ q1001)
  obtain ⟨c12, i12, h12⟩ := u_known (C := RJ18) (T := TJ18) (N := 1) (n := 1) hts in_J18 (hts _ q1350)
  obtain ⟨c13, i13, h13⟩ := u_known (C := RJ8) (T := TJ8) (N := 4) (n := 4) hts in_J8 (hts _ q1094)
  obtain ⟨a0, f0, g0⟩ := arrP (t := .int) (fun C h => by cases h) (hts _ q189)
  obtain ⟨a1, f1, g1⟩ := arrP (t := .boolean) (fun C h => by cases h) (hts _ q2033)
  obtain ⟨a2, f2, g2⟩ := arrP (t := .byte) (fun C h => by cases h) (hts _ q315)
  obtain ⟨a3, f3, g3⟩ := arrP (t := .long) (fun C h => by cases h) (hts _ q2499)
  obtain ⟨a4, f4, g4⟩ := arrQ (htb _ q409)
  obtain ⟨a5, f5, g5⟩ := arrQ (htb _ q777)
  obtain ⟨a6, f6, g6⟩ := arrR (htb _ q1559)
  refine ⟨(fun k => [c0, c1, c2, c3, c4, c5, c6, c7, c8, c9, c10, c11, c12, c13].getD k 0, fun k => [i0, i1, i2, i3, i4, i5, i6, i7, i8, i9, i10, i11, i12, i13].getD k (fun _ => 0)), fun k => [a0, a1, a2, a3, a4, a5, a6].getD k 0, fun ct hct => ⟨fun k q hk => ?_, fun k q hk => ?_⟩⟩
  · match k, hk with
    | 0, hk => cases hk; exact h0
    | 1, hk => cases hk; exact h1
    | 2, hk => cases hk; exact h2
    | 3, hk => cases hk; exact h3
    | 4, hk => cases hk; exact h4
    | 5, hk => cases hk; exact h5
    | 6, hk => cases hk; exact h6
    | 7, hk => cases hk; exact h7
    | 8, hk => cases hk; exact h8
    | 9, hk => cases hk; exact h9
    | 10, hk => cases hk; exact h10
    | 11, hk => cases hk; exact h11
    | 12, hk => cases hk; exact h12
    | 13, hk => cases hk; exact h13
    | k + 14, hk => simp [clW] at hk
  · unfold tyW at hk
    rw [hct] at hk
    match k, hk with
    | 0, hk => cases hk; exact ⟨f0, g0⟩
    | 1, hk => cases hk; exact ⟨f1, g1⟩
    | 2, hk => cases hk; exact ⟨f2, g2⟩
    | 3, hk => cases hk; exact ⟨f3, g3⟩
    | 4, hk => cases hk; exact ⟨f4, g4⟩
    | 5, hk => cases hk; exact ⟨f5, g5⟩
    | 6, hk => cases hk; exact ⟨f6, g6⟩
    | k + 7, hk => simp at hk
def sTm (i : Nat) : Term := [(Jvm.Term.static "java/lang/String" "COMPACT_STRINGS" "Z"), (Jvm.Term.static "java/util/ArrayList" "DEFAULTCAPACITY_EMPTY_ELEMENTDATA" "[Ljava/lang/Object;"), (Jvm.Term.static "java/util/ArrayList" "EMPTY_ELEMENTDATA" "[Ljava/lang/Object;"), (Jvm.Term.static "java/lang/Integer$IntegerCache" "cache" "[Ljava/lang/Integer;"), (Jvm.Term.static "java/lang/Integer$IntegerCache" "high" "I"), (Jvm.Term.static "java/lang/Integer" "DigitTens" "[B"), (Jvm.Term.static "java/lang/Integer" "DigitOnes" "[B"), (Jvm.Term.static "jdk/internal/util/Preconditions" "SIOOBE_FORMATTER" "Ljava/util/function/BiFunction;"), (Jvm.Term.static "jdk/internal/misc/Unsafe" "ARRAY_BYTE_BASE_OFFSET" "I"), (Jvm.Term.static "jdk/internal/util/ArraysSupport" "LOG2_ARRAY_BYTE_INDEX_SCALE" "I"), (Jvm.Term.static "java/lang/Throwable" "UNASSIGNED_STACK" "[Ljava/lang/StackTraceElement;"), (Jvm.Term.static "java/lang/Throwable" "SUPPRESSED_SENTINEL" "Ljava/util/List;")].getD i .null
theorem zq_rf {C n d : String} {A : Nat → Prop} {U : State} {H : Heap} (h : va_Zq C n d A U H) : ∃ z1 z2 : Nat, va_Z C n d (va_rf (if z1 = 0 then none else some z2)) A U H := by
  rcases h with h | ⟨t, h⟩
  · exact ⟨0, 0, h⟩
  · exact ⟨1, t, h⟩
theorem z_0 {args : Array Value} {s : State} (hgv : (Jvm.Cond.and given_1 narrow_1).before args s = true) (htb : ∀ w ∈ lw_tbl, w.before args s = true) : va_Z "java/lang/String" "COMPACT_STRINGS" "Z" (.int 1) (fun a => s.heap.size ≤ a) s s.heap := va_Zof (htb _ q867) (htb _ (lw_all_tbl q126)) (va_eqi (br (br (br (bl (br (bl (bl (bl (bl (bl (br hgv)))))))))))) (bA s)
theorem z_1 {args : Array Value} {s : State} (hgv : (Jvm.Cond.and given_1 narrow_1).before args s = true) (htb : ∀ w ∈ lw_tbl, w.before args s = true) {a : Nat} (h : ((Jvm.Term.static "java/util/ArrayList" "DEFAULTCAPACITY_EMPTY_ELEMENTDATA" "[Ljava/lang/Object;")).eval args s none [] s = some (.ref a)) : va_Z "java/util/ArrayList" "DEFAULTCAPACITY_EMPTY_ELEMENTDATA" "[Ljava/lang/Object;" (.ref a) (fun a => s.heap.size ≤ a) s s.heap := va_Zof (htb _ q176) (htb _ (lw_all_tbl q117)) h (bA s)
theorem z_2 {args : Array Value} {s : State} (hgv : (Jvm.Cond.and given_1 narrow_1).before args s = true) (htb : ∀ w ∈ lw_tbl, w.before args s = true) {a : Nat} (h : ((Jvm.Term.static "java/util/ArrayList" "EMPTY_ELEMENTDATA" "[Ljava/lang/Object;")).eval args s none [] s = some (.ref a)) : va_Z "java/util/ArrayList" "EMPTY_ELEMENTDATA" "[Ljava/lang/Object;" (.ref a) (fun a => s.heap.size ≤ a) s s.heap := va_Zof (htb _ q685) (htb _ (lw_all_tbl q117)) h (bA s)
theorem z_3 {args : Array Value} {s : State} (hgv : (Jvm.Cond.and given_1 narrow_1).before args s = true) (htb : ∀ w ∈ lw_tbl, w.before args s = true) {a : Nat} (h : ((Jvm.Term.static "java/lang/Integer$IntegerCache" "cache" "[Ljava/lang/Integer;")).eval args s none [] s = some (.ref a)) : va_Z "java/lang/Integer$IntegerCache" "cache" "[Ljava/lang/Integer;" (.ref a) (fun a => s.heap.size ≤ a) s s.heap := va_Zof (htb _ q1348) (htb _ (lw_all_tbl q144)) h (bA s)
theorem z_4 {args : Array Value} {s : State} (hgv : (Jvm.Cond.and given_1 narrow_1).before args s = true) (htb : ∀ w ∈ lw_tbl, w.before args s = true) : va_Z "java/lang/Integer$IntegerCache" "high" "I" (.int 127) (fun a => s.heap.size ≤ a) s s.heap := va_Zof (htb _ q1346) (htb _ (lw_all_tbl q144)) (va_eqi (br (br (br (br (br (bl (bl (bl (br (bl (br hgv)))))))))))) (bA s)
theorem z_5 {args : Array Value} {s : State} (hgv : (Jvm.Cond.and given_1 narrow_1).before args s = true) (htb : ∀ w ∈ lw_tbl, w.before args s = true) {a : Nat} (h : ((Jvm.Term.static "java/lang/Integer" "DigitTens" "[B")).eval args s none [] s = some (.ref a)) : va_Z "java/lang/Integer" "DigitTens" "[B" (.ref a) (fun a => s.heap.size ≤ a) s s.heap := va_Zof (htb _ q1144) (htb _ (lw_all_tbl q138)) h (bA s)
theorem z_6 {args : Array Value} {s : State} (hgv : (Jvm.Cond.and given_1 narrow_1).before args s = true) (htb : ∀ w ∈ lw_tbl, w.before args s = true) {a : Nat} (h : ((Jvm.Term.static "java/lang/Integer" "DigitOnes" "[B")).eval args s none [] s = some (.ref a)) : va_Z "java/lang/Integer" "DigitOnes" "[B" (.ref a) (fun a => s.heap.size ≤ a) s s.heap := va_Zof (htb _ q1142) (htb _ (lw_all_tbl q138)) h (bA s)
theorem z_7 {args : Array Value} {s : State} (hgv : (Jvm.Cond.and given_1 narrow_1).before args s = true) (htb : ∀ w ∈ lw_tbl, w.before args s = true) : vx_Zq "jdk/internal/util/Preconditions" "SIOOBE_FORMATTER" "Ljava/util/function/BiFunction;" (fun a => s.heap.size ≤ a) s s.heap := vx_Zqo (htb _ q557) (htb _ (lw_all_tbl q129)) (bl (bl (br (bl (bl (bl (bl (bl (bl (br hgv))))))))))
theorem z_8 {args : Array Value} {s : State} (hgv : (Jvm.Cond.and given_1 narrow_1).before args s = true) (htb : ∀ w ∈ lw_tbl, w.before args s = true) : va_Z "jdk/internal/misc/Unsafe" "ARRAY_BYTE_BASE_OFFSET" "I" (.int 16) (fun a => s.heap.size ≤ a) s s.heap := va_Zof (htb _ q1623) (htb _ (lw_all_tbl q146)) (va_eqi (bl (br (br (bl (bl (br (bl (bl (br (bl (br hgv)))))))))))) (bA s)
theorem z_9 {args : Array Value} {s : State} (hgv : (Jvm.Cond.and given_1 narrow_1).before args s = true) (htb : ∀ w ∈ lw_tbl, w.before args s = true) : va_Z "jdk/internal/util/ArraysSupport" "LOG2_ARRAY_BYTE_INDEX_SCALE" "I" (.int 0) (fun a => s.heap.size ≤ a) s s.heap := va_Zof (htb _ q1625) (htb _ (lw_all_tbl q134)) (va_eqi (br (br (br (bl (bl (br (bl (bl (br (bl (br hgv)))))))))))) (bA s)
theorem z_10 {args : Array Value} {s : State} (hgv : (Jvm.Cond.and given_1 narrow_1).before args s = true) (htb : ∀ w ∈ lw_tbl, w.before args s = true) : vx_Zq "java/lang/Throwable" "UNASSIGNED_STACK" "[Ljava/lang/StackTraceElement;" (fun a => s.heap.size ≤ a) s s.heap := vx_Zqo (htb _ q729) (htb _ (lw_all_tbl q120)) (bl (br (bl (br (bl (bl (bl (bl (bl (br hgv))))))))))
theorem z_11 {args : Array Value} {s : State} (hgv : (Jvm.Cond.and given_1 narrow_1).before args s = true) (htb : ∀ w ∈ lw_tbl, w.before args s = true) : vx_Zq "java/lang/Throwable" "SUPPRESSED_SENTINEL" "Ljava/util/List;" (fun a => s.heap.size ≤ a) s s.heap := vx_Zqo (htb _ q731) (htb _ (lw_all_tbl q120)) (bl (br (br (bl (br (bl (bl (bl (bl (bl (br hgv)))))))))))
theorem mir_of {args : Array Value} {s : State} {C : String} (h : (Cond.isRef (.mirror C)).before args s = true) : ∃ mi : Nat, va_Mi C mi s ∧ (Term.mirror C).eval args s none [] s = some (.ref mi) := by
  obtain ⟨v, hv, -⟩ := Cond.isRef_spec (args := args) (first := s) (o := none) (s := s) (idx := []) h
  obtain ⟨c, k, a, h1, h2, h3, rfl⟩ := Term.mirror_spec hv
  exact ⟨a, ⟨c, k, h1, h2, h3⟩, hv⟩
theorem st_M {args : Array Value} {s : State} (hgv : (Jvm.Cond.and given_1 narrow_1).before args s = true) (htb : ∀ w ∈ lw_tbl, w.before args s = true) : ∃ a b : Nat, va_Mi "java/util/ArrayList" a s ∧ va_Mi "[Ljava/lang/Object;" b s ∧ a ≠ b := by
  obtain ⟨a, h1, h2⟩ := mir_of (bl (br (br (br (bl (bl (bl (br (br (bl (br hgv)))))))))))
  obtain ⟨b, h3, h4⟩ := mir_of (bl (br (br (bl (bl (bl (br (br (bl (br hgv))))))))))
  exact ⟨a, b, h1, h3, fun e => va_neR (br (br (br (br (bl (bl (bl (br (br (bl (br hgv))))))))))) h4 h2 e.symm⟩
theorem st_0 {args : Array Value} {s : State} (hgv : (Jvm.Cond.and given_1 narrow_1).before args s = true) (htb : ∀ w ∈ lw_tbl, w.before args s = true) {cA : ClassId} (hc : s.vm.findClass "[Ljava/lang/Object;" = some cA) : ∃ (t : Nat) (cell : Cell), ((Jvm.Term.static "java/util/ArrayList" "DEFAULTCAPACITY_EMPTY_ELEMENTDATA" "[Ljava/lang/Object;")).eval args s none [] s = some (.ref t) ∧ s.heap[t]? = some cell ∧ cell.cls = cA ∧ cell.vm ≠ .unknown ∧ cell.vm.isStatics = false ∧ cell.slots.size = 0 := by
  obtain ⟨t, cell, h1, h2, h3, h4, h5, h6, -⟩ := arr_of (N := 0) (f := fun _ => 0) (by decide) hc (bl (br (bl (bl (bl (bl (bl (bl (bl (br hgv)))))))))) (bl (br (br (bl (bl (bl (bl (bl (bl (bl (br hgv))))))))))) (br (br (br (bl (bl (bl (bl (bl (bl (bl (br hgv))))))))))) (fun j hj => absurd hj (Nat.not_lt_zero j))
  exact ⟨t, cell, h1, h2, h3, h4, h5, h6⟩
theorem st_1 {args : Array Value} {s : State} (hgv : (Jvm.Cond.and given_1 narrow_1).before args s = true) (htb : ∀ w ∈ lw_tbl, w.before args s = true) {cA : ClassId} (hc : s.vm.findClass "[Ljava/lang/Object;" = some cA) : ∃ (t : Nat) (cell : Cell), ((Jvm.Term.static "java/util/ArrayList" "EMPTY_ELEMENTDATA" "[Ljava/lang/Object;")).eval args s none [] s = some (.ref t) ∧ s.heap[t]? = some cell ∧ cell.cls = cA ∧ cell.vm ≠ .unknown ∧ cell.vm.isStatics = false ∧ cell.slots.size = 0 := by
  obtain ⟨t, cell, h1, h2, h3, h4, h5, h6, -⟩ := arr_of (N := 0) (f := fun _ => 0) (by decide) hc (br (br (br (br (bl (bl (bl (bl (bl (bl (br hgv))))))))))) (bl (bl (bl (br (bl (bl (bl (bl (bl (br hgv)))))))))) (bl (br (bl (bl (br (bl (bl (bl (bl (bl (br hgv))))))))))) (fun j hj => absurd hj (Nat.not_lt_zero j))
  exact ⟨t, cell, h1, h2, h3, h4, h5, h6⟩
theorem st_01 {args : Array Value} {s : State} (hgv : (Jvm.Cond.and given_1 narrow_1).before args s = true) (htb : ∀ w ∈ lw_tbl, w.before args s = true) {a b : Nat} (h1 : ((Jvm.Term.static "java/util/ArrayList" "DEFAULTCAPACITY_EMPTY_ELEMENTDATA" "[Ljava/lang/Object;")).eval args s none [] s = some (.ref a)) (h2 : ((Jvm.Term.static "java/util/ArrayList" "EMPTY_ELEMENTDATA" "[Ljava/lang/Object;")).eval args s none [] s = some (.ref b)) : a ≠ b := va_neR (br (br (bl (bl (br (bl (bl (bl (bl (bl (br hgv))))))))))) h1 h2
theorem st_3 {args : Array Value} {s : State} (hgv : (Jvm.Cond.and given_1 narrow_1).before args s = true) (htb : ∀ w ∈ lw_tbl, w.before args s = true) {cA : ClassId} (hc : s.vm.findClass "[B" = some cA) : ∃ (t : Nat) (cell : Cell), ((Jvm.Term.static "java/lang/Integer" "DigitTens" "[B")).eval args s none [] s = some (.ref t) ∧ s.heap[t]? = some cell ∧ cell.cls = cA ∧ cell.vm ≠ .unknown ∧ cell.vm.isStatics = false ∧ cell.slots.size = lenB 3 ∧ ∀ j, j < lenB 3 → cell.slots[j]? = some (.int (bytB 3 j)) :=
  arr_of (N := 100) (f := bytB 3) (by decide) hc (br (bl (br (br (br (bl (bl (br (bl (bl (br hgv))))))))))) (bl (bl (br (br (bl (br (br (br (br (br hgv)))))))))) (bl (br (br (br (br (bl (bl (br (bl (bl (br hgv))))))))))) (w_tens hgv)
theorem st_4 {args : Array Value} {s : State} (hgv : (Jvm.Cond.and given_1 narrow_1).before args s = true) (htb : ∀ w ∈ lw_tbl, w.before args s = true) {cA : ClassId} (hc : s.vm.findClass "[B" = some cA) : ∃ (t : Nat) (cell : Cell), ((Jvm.Term.static "java/lang/Integer" "DigitOnes" "[B")).eval args s none [] s = some (.ref t) ∧ s.heap[t]? = some cell ∧ cell.cls = cA ∧ cell.vm ≠ .unknown ∧ cell.vm.isStatics = false ∧ cell.slots.size = lenB 4 ∧ ∀ j, j < lenB 4 → cell.slots[j]? = some (.int (bytB 4 j)) :=
  arr_of (N := 100) (f := bytB 4) (by decide) hc (bl (br (bl (br (br (bl (bl (bl (bl (bl (br hgv))))))))))) (br (br (bl (br (bl (br (br (br (br (br hgv)))))))))) (br (br (bl (br (br (bl (bl (bl (bl (bl (br hgv))))))))))) (w_ones hgv)
theorem st_2 {args : Array Value} {s : State} (hgv : (Jvm.Cond.and given_1 narrow_1).before args s = true) (htb : ∀ w ∈ lw_tbl, w.before args s = true) {cI : ClassId} {iV : Nat} (hc : s.vm.findClass "java/lang/Integer" = some cI) (hv : SlotIs s "java/lang/Integer" "value" "I" iV) : ∃ (b : Nat) (cl0 : Cell) (ad : Nat → Nat), ((Jvm.Term.static "java/lang/Integer$IntegerCache" "cache" "[Ljava/lang/Integer;")).eval args s none [] s = some (.ref b) ∧ s.heap[b]? = some cl0 ∧ s.isArrayOf cl0 (.object "java/lang/Integer") ∧ cl0.vm ≠ .unknown ∧ cl0.slots.size = 256 ∧ ∀ j : Nat, j < 256 → cl0.slots[j]? = some (.ref (ad j)) ∧ ∃ cell : Cell, s.heap[ad j]? = some cell ∧ cell.cls = cI ∧ cell.vm ≠ .unknown ∧ cell.vm.isStatics = false ∧ cell.slots[iV]? = some (.int (vb_c j)) := by
  have hlen := va_eqt (br (br (bl (bl (bl (br (bl (bl (br (bl (br hgv)))))))))))
  obtain ⟨b, cl0, ht, hat, hv0⟩ := Term.length_spec hlen
  obtain ⟨hcell, hkn, hst, -⟩ := State.arrayAt?_spec hat
  obtain ⟨hof, -⟩ := Cond.arrayOf_spec (args := args) (first := s) (o := none) (s := s) (idx := []) (bl (br (bl (bl (bl (br (bl (bl (br (bl (br hgv))))))))))) ht hcell
  have hlt := ln_lt hlen ht hat
  have hsz : cl0.slots.size = 256 := by
    have e : Int32.ofNat cl0.slots.size = Int32.ofNat 256 := (Value.int.inj hv0).symm
    have h1 : (Int32.ofNat cl0.slots.size).toNatClampNeg = cl0.slots.size := Int32.toNatClampNeg_ofNat_of_lt (by omega)
    have h2 : (Int32.ofNat 256).toNatClampNeg = 256 := Int32.toNatClampNeg_ofNat_of_lt (by decide)
    rw [e, h2] at h1
    exact h1.symm
  obtain ⟨ad, hC, hE⟩ := vb_Cof (A := fun a => s.heap.size ≤ a) (st := (Jvm.Term.static "java/lang/Integer$IntegerCache" "cache" "[Ljava/lang/Integer;")) rfl hlen (bl (br (bl (bl (br (bl (bl (br (bl (br hgv)))))))))) (bA s)
  refine ⟨b, cl0, ad, ht, hcell, hof, hkn, hsz, fun j hj => ⟨?_, ?_⟩⟩
  · obtain ⟨a, i, cell3, h1, h2, h3, h4, h5⟩ := Term.elem_spec (hE j hj)
    cases ht.symm.trans h1
    cases hat.symm.trans h3
    have hi : i = Int32.ofNat j := by
      have e : (Term.int (Int32.ofNat j)).eval args s none [] s = some (.int (Int32.ofNat j)) := rfl
      cases h2.symm.trans e
      rfl
    have hc : i.toNatClampNeg = j := by rw [hi]; exact Int32.toNatClampNeg_ofNat_of_lt (by omega)
    rw [hc] at h5
    exact h5
  · obtain ⟨cell, h1, h2, h3, -⟩ := hC.1 j hj
    obtain ⟨cf, kf, fi, f, cell4, g1, -, g3, g4, g5, -⟩ := hC.2 j hj
    cases h1.symm.trans g3
    obtain ⟨cf2, kf2, fi2, fd2, e1, e2⟩ := hv
    cases g1.symm.trans e1
    rw [e2] at g5
    exact ⟨cell, h1, Option.some.inj (h3.symm.trans hc), g4, h2, g5⟩
theorem stN_lt : ∀ i : Nat, i < 16 → stN i < 2 ^ 31 := fun i hi => co_dec (P := fun i => stN i < 2 ^ 31) (by decide +kernel) hi
theorem st_S {args : Array Value} {s : State} (hgv : (Jvm.Cond.and given_1 narrow_1).before args s = true) (htb : ∀ w ∈ lw_tbl, w.before args s = true) {cS cB : ClassId} {iS : Nat → Nat} (hK : u_Kn s RJ8 TJ8 4 cS iS) (hB : s.vm.findClass "[B" = some cB) : ∃ ad av : Nat → Nat, (∀ i, i < 16 → (stT i).eval args s none [] s = some (.ref (ad i)) ∧ (∃ cell : Cell, s.heap[ad i]? = some cell ∧ cell.cls = cS ∧ cell.vm ≠ .unknown ∧ cell.vm.isStatics = false ∧ cell.slots[iS 0]? = some (.ref (av i)) ∧ cell.slots[iS 1]? = some (.int 0) ∧ (∃ x, cell.slots[iS 2]? = some x) ∧ ∃ y, cell.slots[iS 3]? = some y) ∧
    ∃ cell : Cell, s.heap[av i]? = some cell ∧ cell.cls = cB ∧ cell.vm ≠ .unknown ∧ cell.vm.isStatics = false ∧ cell.slots.size = stN i ∧ ∀ j, j < stN i → cell.slots[j]? = some (.int ((stB.getD i []).getD j 0))) ∧ ∀ i j, i < 16 → j < 16 → ad i = ad j → i = j := by
  have hts : ∀ w ∈ lw_all, w.before args s = true := fun w h => htb w (lw_all_tbl h)
  obtain ⟨hSl, hfc, kC, hkC, hkind⟩ := hK
  have h0 : ∀ i : Nat, ∃ q : Nat × Nat, i < 16 → (stT i).eval args s none [] s = some (.ref q.1) ∧ (∃ cell : Cell, s.heap[q.1]? = some cell ∧ cell.cls = cS ∧ cell.vm ≠ .unknown ∧ cell.vm.isStatics = false ∧ cell.slots[iS 0]? = some (.ref q.2) ∧ cell.slots[iS 1]? = some (.int 0) ∧ (∃ x, cell.slots[iS 2]? = some x) ∧ ∃ y, cell.slots[iS 3]? = some y) ∧
      ∃ cell : Cell, s.heap[q.2]? = some cell ∧ cell.cls = cB ∧ cell.vm ≠ .unknown ∧ cell.vm.isStatics = false ∧ cell.slots.size = stN i ∧ ∀ j, j < stN i → cell.slots[j]? = some (.int ((stB.getD i []).getD j 0)) := by
    intro i
    by_cases hi : i < 16
    · obtain ⟨a, c, cell, k, q1, q2, q3, q4, q5, q6, q7⟩ := Cond.exactly_spec (args := args) (first := s) (o := none) (s := s) (idx := []) (w_sx hgv i hi)
      cases hfc.symm.trans q2
      cases hkC.symm.trans q4
      obtain ⟨t, cell2, ht, hT⟩ := arr_of (f := fun j => (stB.getD i []).getD j 0) (stN_lt i hi) hB (w_sa hgv i hi) (w_sy hgv i hi) (w_sl hgv i hi) (w_se hgv i hi)
      obtain ⟨f1, f2⟩ := fld_of (hSl 0 (by decide)) q3 q1 ht
      obtain ⟨-, f3⟩ := fld_of (hSl 1 (by decide)) q3 q1 (va_eqt (w_sc hgv i hi))
      have hsl : ∀ k, k < 4 → ∃ x, cell.slots[iS k]? = some x := by
        intro k hk
        obtain ⟨cf, kf, fi, fd, h1, h2⟩ := hSl k hk
        obtain ⟨-, -, h3⟩ := u_facts hfc hkC (u_lays hts in_J8 hk) h1
        have h4 := (Array.getElem?_eq_some_iff.mp h3).1
        rw [← q7 hkind, h2] at h4
        exact ⟨_, Array.getElem?_eq_getElem h4⟩
      exact ⟨(a, t), fun _ => ⟨q1, ⟨cell, q3, q6, f1, q5, f2, f3, hsl 2 (by decide), hsl 3 (by decide)⟩, cell2, hT⟩⟩
    · exact ⟨(0, 0), fun h => absurd h hi⟩
  obtain ⟨ad, had⟩ := Classical.axiomOfChoice h0
  refine ⟨fun i => (ad i).1, fun i => (ad i).2, had, fun i j hi hj e => ?_⟩
  rcases Nat.lt_trichotomy i j with h | h | h
  · exact absurd e (va_neR (w_sn hgv j hj i h) (had i hi).1 (had j hj).1)
  · exact h
  · exact absurd e.symm (va_neR (w_sn hgv i hi j h) (had j hj).1 (had i hi).1)
theorem st_F {args : Array Value} {s : State} (hgv : (Jvm.Cond.and given_1 narrow_1).before args s = true) (htb : ∀ w ∈ lw_tbl, w.before args s = true) : ∀ q ∈ jwF, va_Fw q.1 q.2.1 q.2.2 s := by
  intro q hq
  simp only [jwF, List.mem_cons, List.not_mem_nil, or_false] at hq
  rcases hq with rfl | rfl | rfl | rfl | rfl | rfl | rfl | rfl | rfl | rfl
  · exact va_Fw.of (htb _ q352) (htb _ q351) (htb _ q357) (htb _ q355) (htb _ q353)
  · exact va_Fw.of (htb _ q422) (htb _ q421) (htb _ q426) (htb _ q424) (htb _ q353)
  · exact va_Fw.of (htb _ q431) (htb _ q430) (htb _ q435) (htb _ q433) (htb _ q353)
  · exact va_Fw.of (htb _ q509) (htb _ q508) (htb _ q513) (htb _ q511) (htb _ q353)
  · exact va_Fw.of (htb _ q615) (htb _ q614) (htb _ q619) (htb _ q617) (htb _ q353)
  · exact va_Fw.of (htb _ q668) (htb _ q667) (htb _ q673) (htb _ q671) (htb _ q669)
  · exact va_Fw.of (htb _ q499) (htb _ q498) (htb _ q504) (htb _ q502) (htb _ q500)
  · exact va_Fw.of (htb _ q499) (htb _ q498) (htb _ q526) (htb _ q524) (htb _ q522)
  · exact va_Fw.of (htb _ q499) (htb _ q498) (htb _ q534) (htb _ q532) (htb _ q530)
  · exact va_Fw.of (htb _ q499) (htb _ q498) (htb _ q540) (htb _ q538) (htb _ q536)
theorem st_N {args : Array Value} {s : State} (hgv : (Jvm.Cond.and given_1 narrow_1).before args s = true) (htb : ∀ w ∈ lw_tbl, w.before args s = true) : ∀ w ∈ jwN, va_Nw w s := fun w hw => va_Nw.of (jw_tab hw) (htb w (List.mem_filter.mp hw).1)
theorem st_X {args : Array Value} {s : State} (hgv : (Jvm.Cond.and given_1 narrow_1).before args s = true) (htb : ∀ w ∈ lw_tbl, w.before args s = true) : ∀ w ∈ jxN, va_Nw w s := fun w hw => va_Nw.of (jx_tab hw) (htb w (List.mem_filter.mp hw).1)
theorem st_Nc {args : Array Value} {s : State} (hgv : (Jvm.Cond.and given_1 narrow_1).before args s = true) (htb : ∀ w ∈ lw_tbl, w.before args s = true) : ∀ q ∈ jxC, va_Nc q.1 q.2 s := by
  intro q hq
  simp only [jxC, List.mem_cons, List.not_mem_nil, or_false] at hq
  subst hq
  exact va_Nc.of (bl (br (bl (br (br (br (bl (br (bl (br hgv))))))))))
