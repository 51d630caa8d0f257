set_option maxRecDepth 100000
/-! THE START: what the Statement says of it, as my worlds want it -/
theorem bl {a b : Cond} {args : Array Value} {s : State} (h : (Cond.and a b).before args s = true) : a.before args s = true := by
  rw [Cond.before_and, Bool.and_eq_true] at h
  exact h.1
theorem br {a b : Cond} {args : Array Value} {s : State} (h : (Cond.and a b).before args s = true) : b.before args s = true := by
  rw [Cond.before_and, Bool.and_eq_true] at h
  exact h.2
theorem fc_inj {vm : Vm} {n1 n2 : String} {c : ClassId} (h1 : vm.findClass n1 = some c) (h2 : vm.findClass n2 = some c) : n1 = n2 := by
  obtain ⟨k1, a1, b1⟩ := Vm.findClass_spec h1
  obtain ⟨k2, a2, b2⟩ := Vm.findClass_spec h2
  cases a1.symm.trans a2
  exact b1.symm.trans b2
theorem ln_lt {args : Array Value} {s : State} {t : Term} {v : Value} {a : Nat} {cell : Cell} (h : (Term.length t).eval args s none [] s = some v) (ht : t.eval args s none [] s = some (.ref a)) (hc : s.arrayAt? a = some cell) : cell.slots.size < 2147483648 := by
  simp only [Term.eval, ht, hc, Option.bind_eq_bind, Option.bind_some] at h
  by_cases hn : cell.slots.size < 2147483648
  · exact hn
  · rw [if_neg hn] at h; cases h
theorem arr_of {args : Array Value} {s : State} {tm : Term} {nm : String} {ty : FieldType} {N : Nat} {f : Nat → Int32} {cA : ClassId} (hN : N < 2 ^ 31) (hfc : s.vm.findClass nm = some cA) (harr : (Cond.arrayOf tm ty).before args s = true) (hex : (Cond.exactly tm nm).before args s = true) (hle : (Cond.eq (.length tm) (.int (Int32.ofNat N))).before args s = true)
    (hel : ∀ j : Nat, j < N → (Cond.eq (.elem tm (.int (Int32.ofNat j))) (.int (f j))).before args s = true) : ∃ (t : Nat) (cell : Cell), tm.eval args s none [] s = some (.ref t) ∧ s.heap[t]? = some cell ∧ cell.cls = cA ∧ cell.vm ≠ .unknown ∧ cell.vm.isStatics = false ∧ cell.slots.size = N ∧ ∀ j : Nat, j < N → cell.slots[j]? = some (.int (f j)) := by
  have hlen := va_eqt hle
  obtain ⟨t, cell, ht, hat, hv⟩ := Term.length_spec hlen
  obtain ⟨hcell, hkn, hst, -⟩ := State.arrayAt?_spec hat
  have hlt := ln_lt hlen ht hat
  obtain ⟨a2, c2, cell2, k2, e1, e2, e3, -, -, e6, -⟩ := Cond.exactly_spec (args := args) (first := s) (o := none) (s := s) (idx := []) hex
  cases ht.symm.trans e1
  cases hcell.symm.trans e3
  cases hfc.symm.trans e2
  have hsz : cell.slots.size = N := by
    have e : Int32.ofNat cell.slots.size = Int32.ofNat N := (Value.int.inj hv).symm
    have h1 : (Int32.ofNat cell.slots.size).toNatClampNeg = cell.slots.size := Int32.toNatClampNeg_ofNat_of_lt (by omega)
    have h2 : (Int32.ofNat N).toNatClampNeg = N := Int32.toNatClampNeg_ofNat_of_lt hN
    rw [e, h2] at h1
    exact h1.symm
  refine ⟨t, cell, ht, hcell, e6, hkn, hst, hsz, fun j hj => ?_⟩
  obtain ⟨a, i, cell3, h1, h2, h3, h4, h5⟩ := Term.elem_spec (va_eqt (hel j hj))
  cases ht.symm.trans h1
  cases hat.symm.trans h3
  have hi : i = Int32.ofNat j := by
    have e : (Term.int (Int32.ofNat j)).eval args s none [] s = some (.int (Int32.ofNat j)) := rfl
    cases h2.symm.trans e
    rfl
  have hc : i.toNatClampNeg = j := by rw [hi]; exact Int32.toNatClampNeg_ofNat_of_lt (Nat.lt_trans hj hN)
  rw [hc] at h5
  exact h5
/-- an object's field is what a term of the Statement says -/
theorem fld_of {args : Array Value} {s : State} {t : Term} {a : Nat} {o n d : String} {v : Value} {i : Nat} {cell : Cell} (hi : SlotIs s o n d i) (hc : s.heap[a]? = some cell) (ht : t.eval args s none [] s = some (.ref a)) (hv : (Term.field t o n d).eval args s none [] s = some v) : cell.vm ≠ .unknown ∧ cell.slots[i]? = some v := by
  obtain ⟨cf, kf, fi, fd, h1, h2⟩ := hi
  obtain ⟨-, cell2, h3, h4, -, -, h5⟩ := Term.field_spec h1 ht hv
  cases hc.symm.trans h3
  rw [← h2]
  exact ⟨h4, h5⟩
noncomputable def pick {α : Type} (p : Prop) (a b : α) : α := @ite α p (Classical.propDecidable p) a b
theorem pick_t {α : Type} {p : Prop} {a b : α} (h : p) : pick p a b = a := @if_pos p (Classical.propDecidable p) h α a b
theorem pick_f {α : Type} {p : Prop} {a b : α} (h : ¬ p) : pick p a b = b := @if_neg p (Classical.propDecidable p) h α a b
def stK : List Nat := [33, 35, 37, 39, 45, 47, 49, 51, 53, 55, 102, 180, 190, 197, 276, 280]
def stB : List (List Int32) := [[107, 110, 111, 116, 115], [119, 101, 101, 107], [102, 114, 97, 121, 115], [112, 117, 108, 108, 115], [115, 116, 114, 97, 105, 110], [115, 101, 97, 109], [115, 116, 105, 116, 99, 104], [98, 101, 115, 105, 100, 101], [119, 111, 109, 101, 110], [100, 97, 121], [59, 40, 41, 43, 45, 42, 47, 60, 61], [110, 111, 116], [97, 110, 100], [111, 114], [115, 116, 114, 101, 116, 99, 104], [119, 111, 109, 97, 110]]
def stN (i : Nat) : Nat := (stB.getD i []).length
/-- the arrays of bytes that lie there at the start: 3 and 4 the digits, 60.. the bytes of the constants -/
def lenB (k : Nat) : Nat := if k < 60 then 100 else stN (k - 60)
def bytB (k j : Nat) : Int32 := if k = 3 then Int32.ofNat (48 + j / 10) else if k = 4 then Int32.ofNat (48 + j % 10) else (stB.getD (k - 60) []).getD j 0
def bK (k : Nat) : Prop := k = 3 ∨ k = 4 ∨ (60 ≤ k ∧ k < 76)
def oldOA : AE := (false, .inl (4, 0, .inr (.inr (.inr (.inr (fun _ => none))))))
def gv (cell : Cell) (i : Nat) : Value := (cell.slots[i]?).getD .null
def gi (cell : Cell) (j : Nat) : Int32 := match cell.slots[j]? with
  | some (.int v) => v
  | _ => 0
/-- the free heap of the start -/
noncomputable def hStart (D : va_G) (ct : CT) (H : Heap) : AH := fun a => match H[a]? with
  | none => none
  | some cl0 => pick (cl0.cls = ct.1 4 ∧ (a = ct.2.1 0 ∨ a = ct.2.1 1)) (some oldOA) (pick (cl0.cls = D.1 12 ∧ ∃ j, j < 256 ∧ a = ct.2.1 (1000 + j)) (some (false, .inr (12, [gv cl0 (D.2 12 0)])))
    (pick (cl0.cls = D.1 13 ∧ ∃ i, i < 16 ∧ a = ct.2.1 (40 + i)) (some (false, .inr (13, [gv cl0 (D.2 13 0), gv cl0 (D.2 13 1), gv cl0 (D.2 13 2), gv cl0 (D.2 13 3)])))
    (pick (cl0.cls = ct.1 2 ∧ ∃ k, bK k ∧ a = ct.2.1 k) (some (false, .inl (2, cl0.slots.size, .inl (gi cl0)))) none)))
/-- what lies at the start -/
def SF (D : va_G) (ct : CT) (H : Heap) : Prop :=
  (∀ i, i < 2 → ∃ cell : Cell, H[ct.2.1 i]? = some cell ∧ cell.cls = ct.1 4 ∧ cell.vm ≠ .unknown ∧ cell.vm.isStatics = false ∧ cell.slots.size = 0) ∧
  (∀ j, j < 256 → ∃ cell : Cell, H[ct.2.1 (1000 + j)]? = some cell ∧ cell.cls = D.1 12 ∧ cell.vm ≠ .unknown ∧ cell.vm.isStatics = false ∧ cell.slots[D.2 12 0]? = some (.int (vb_c j))) ∧
  (∀ i, i < 16 → ∃ cell : Cell, H[ct.2.1 (40 + i)]? = some cell ∧ cell.cls = D.1 13 ∧ cell.vm ≠ .unknown ∧ cell.vm.isStatics = false ∧ cell.slots[D.2 13 0]? = some (.ref (ct.2.1 (60 + i))) ∧ cell.slots[D.2 13 1]? = some (.int 0) ∧ (∃ x, cell.slots[D.2 13 2]? = some x) ∧ ∃ y, cell.slots[D.2 13 3]? = some y) ∧
  (∀ k, bK k → ∃ cell : Cell, H[ct.2.1 k]? = some cell ∧ cell.cls = ct.1 2 ∧ cell.vm ≠ .unknown ∧ cell.vm.isStatics = false ∧ cell.slots.size = lenB k ∧ ∀ j, j < lenB k → cell.slots[j]? = some (.int (bytB k j))) ∧
  ct.1 4 ≠ D.1 12 ∧ ct.1 4 ≠ D.1 13 ∧ ct.1 4 ≠ ct.1 2 ∧ D.1 12 ≠ D.1 13 ∧ D.1 12 ≠ ct.1 2 ∧ D.1 13 ≠ ct.1 2
/-- what the plain law may use of the start -/
def Start (ct : CT) (h : AH) : Prop :=
  (∀ (a : Nat) (e : AE), h a = some e → e.1 = false ∧ a < ct.2.2.1) ∧
  (∀ i, i < 2 → h (ct.2.1 i) = some oldOA) ∧ ct.2.1 0 ≠ ct.2.1 1 ∧
  (∀ j, j < 256 → h (ct.2.1 (1000 + j)) = some (false, .inr (12, [.int (vb_c j)]))) ∧
  (∀ i, i < 16 → ∃ x y, h (ct.2.1 (40 + i)) = some (false, .inr (13, [.ref (ct.2.1 (60 + i)), .int 0, x, y]))) ∧
  (∀ k, bK k → ∃ f, h (ct.2.1 k) = some (false, .inl (2, lenB k, .inl f)) ∧ ∀ j, j < lenB k → f j = bytB k j) ∧
  (∀ i j, i < 16 → j < 16 → ct.2.1 (40 + i) = ct.2.1 (40 + j) → i = j) ∧ ct.2.1 5 ≠ ct.2.1 6 ∧ ct.2.1 20 = ct.2.2.1 + 1200048 ∧ ct.2.1 21 = 5501818
theorem gv_of {cell : Cell} {i : Nat} {v : Value} (h : cell.slots[i]? = some v) : gv cell i = v := by
  unfold gv; rw [h]; rfl
theorem hs_AP {D : va_G} {ct : CT} {H : Heap} (hF : SF D ct H) : AP D clW ct (hStart D ct H) H := by
  obtain ⟨f1, f2, f3, f4, -⟩ := hF
  intro a e ha
  unfold hStart at ha
  cases hc : H[a]? with
  | none => rw [hc] at ha; cases ha
  | some cell =>
    rw [hc] at ha
    by_cases h1 : cell.cls = ct.1 4 ∧ (a = ct.2.1 0 ∨ a = ct.2.1 1)
    · simp only [pick_t h1] at ha
      cases ha
      have h2 : ∃ i, i < 2 ∧ a = ct.2.1 i := by
        rcases h1.2 with h | h
        · exact ⟨0, by omega, h⟩
        · exact ⟨1, by omega, h⟩
      obtain ⟨i, hi, rfl⟩ := h2
      obtain ⟨c2, g1, g2, g3, g4, g5⟩ := f1 i hi
      exact ⟨⟨c2, g1, g2, g3, g4, g5, fun j hj => absurd hj (Nat.not_lt_zero j)⟩, fun z => by cases z⟩
    simp only [pick_f h1] at ha
    by_cases h2 : cell.cls = D.1 12 ∧ ∃ j, j < 256 ∧ a = ct.2.1 (1000 + j)
    · simp only [pick_t h2] at ha
      cases ha
      obtain ⟨e1, j, hj, rfl⟩ := h2
      obtain ⟨c2, g1, g2, g3, g4, g5⟩ := f2 j hj
      cases hc.symm.trans g1
      refine ⟨⟨_, cell, rfl, hc, e1, g3, g4, fun k hk => ?_⟩, fun z => by cases z⟩
      have hk0 : k = 0 := by
        have hk : k < 1 := hk
        omega
      subst hk0
      show cell.slots[D.2 12 0]? = some (gv cell (D.2 12 0))
      rw [gv_of g5]; exact g5
    simp only [pick_f h2] at ha
    by_cases h3 : cell.cls = D.1 13 ∧ ∃ i, i < 16 ∧ a = ct.2.1 (40 + i)
    · simp only [pick_t h3] at ha
      cases ha
      obtain ⟨e1, j, hj, rfl⟩ := h3
      obtain ⟨c2, g1, g2, g3, g4, g5, g6, ⟨x, g7⟩, y, g8⟩ := f3 j hj
      cases hc.symm.trans g1
      refine ⟨⟨_, cell, rfl, hc, e1, g3, g4, fun k hk => ?_⟩, fun z => by cases z⟩
      have hk : k < 4 := hk
      rcases (show k = 0 ∨ k = 1 ∨ k = 2 ∨ k = 3 by omega) with rfl | rfl | rfl | rfl
      · show cell.slots[D.2 13 0]? = some (gv cell (D.2 13 0))
        rw [gv_of g5]; exact g5
      · show cell.slots[D.2 13 1]? = some (gv cell (D.2 13 1))
        rw [gv_of g6]; exact g6
      · show cell.slots[D.2 13 2]? = some (gv cell (D.2 13 2))
        rw [gv_of g7]; exact g7
      · show cell.slots[D.2 13 3]? = some (gv cell (D.2 13 3))
        rw [gv_of g8]; exact g8
    simp only [pick_f h3] at ha
    by_cases h4 : cell.cls = ct.1 2 ∧ ∃ k, bK k ∧ a = ct.2.1 k
    · simp only [pick_t h4] at ha
      cases ha
      obtain ⟨e1, k, hk, rfl⟩ := h4
      obtain ⟨c2, g1, g2, g3, g4, g5, g6⟩ := f4 k hk
      cases hc.symm.trans g1
      refine ⟨⟨cell, hc, e1, g3, g4, rfl, fun j hj => ?_⟩, fun z => by cases z⟩
      have g7 := g6 j (by rw [← g5]; exact hj)
      show cell.slots[j]? = some (.int (gi cell j))
      unfold gi
      rw [g7]
    simp only [pick_f h4] at ha
    cases ha
theorem hs_lt {D : va_G} {ct : CT} {H : Heap} {a : Nat} {e : AE} (ha : hStart D ct H a = some e) : e.1 = false ∧ a < H.size := by
  unfold hStart at ha
  cases hc : H[a]? with
  | none => rw [hc] at ha; cases ha
  | some cell =>
    rw [hc] at ha
    refine ⟨?_, (Array.getElem?_eq_some_iff.mp hc).1⟩
    by_cases h1 : cell.cls = ct.1 4 ∧ (a = ct.2.1 0 ∨ a = ct.2.1 1)
    · simp only [pick_t h1] at ha
      cases ha; rfl
    simp only [pick_f h1] at ha
    by_cases h2 : cell.cls = D.1 12 ∧ ∃ j, j < 256 ∧ a = ct.2.1 (1000 + j)
    · simp only [pick_t h2] at ha
      cases ha; rfl
    simp only [pick_f h2] at ha
    by_cases h3 : cell.cls = D.1 13 ∧ ∃ i, i < 16 ∧ a = ct.2.1 (40 + i)
    · simp only [pick_t h3] at ha
      cases ha; rfl
    simp only [pick_f h3] at ha
    by_cases h4 : cell.cls = ct.1 2 ∧ ∃ k, bK k ∧ a = ct.2.1 k
    · simp only [pick_t h4] at ha
      cases ha; rfl
    simp only [pick_f h4] at ha
    cases ha
theorem hs_start {D : va_G} {ct : CT} {H : Heap} (hF : SF D ct H) (hH : ct.2.2.1 = H.size) (h01 : ct.2.1 0 ≠ ct.2.1 1) (hne : ∀ i j, i < 16 → j < 16 → ct.2.1 (40 + i) = ct.2.1 (40 + j) → i = j) (h56 : ct.2.1 5 ≠ ct.2.1 6) (h20 : ct.2.1 20 = ct.2.2.1 + 1200048) (h21 : ct.2.1 21 = 5501818) : Start ct (hStart D ct H) := by
  obtain ⟨f1, f2, f3, f4, d1, d2, d3, d4, d5, d6⟩ := hF
  refine ⟨fun a e ha => by rw [hH]; exact hs_lt ha, fun i hi => ?_, h01, fun j hj => ?_, fun i hi => ?_, fun k hk => ?_, hne, h56, h20, h21⟩
  · obtain ⟨c2, g1, g2, g3, g4, g5⟩ := f1 i hi
    unfold hStart
    rw [g1]
    refine pick_t ⟨g2, ?_⟩
    rcases (show i = 0 ∨ i = 1 by omega) with rfl | rfl
    · exact Or.inl rfl
    · exact Or.inr rfl
  · obtain ⟨c2, g1, g2, g3, g4, g5⟩ := f2 j hj
    unfold hStart
    rw [g1]
    simp only [pick_f (show ¬ (c2.cls = ct.1 4 ∧ (ct.2.1 (1000 + j) = ct.2.1 0 ∨ ct.2.1 (1000 + j) = ct.2.1 1)) from fun h => d1 (h.1.symm.trans g2)), pick_t (show c2.cls = D.1 12 ∧ ∃ j', j' < 256 ∧ ct.2.1 (1000 + j) = ct.2.1 (1000 + j') from ⟨g2, j, hj, rfl⟩), gv_of g5]
  · obtain ⟨c2, g1, g2, g3, g4, g5, g6, ⟨x, g7⟩, y, g8⟩ := f3 i hi
    refine ⟨x, y, ?_⟩
    unfold hStart
    rw [g1]
    simp only [pick_f (show ¬ (c2.cls = ct.1 4 ∧ (ct.2.1 (40 + i) = ct.2.1 0 ∨ ct.2.1 (40 + i) = ct.2.1 1)) from fun h => d2 (h.1.symm.trans g2)), pick_f (show ¬ (c2.cls = D.1 12 ∧ ∃ j', j' < 256 ∧ ct.2.1 (40 + i) = ct.2.1 (1000 + j')) from fun h => d4 (h.1.symm.trans g2)), pick_t (show c2.cls = D.1 13 ∧ ∃ j', j' < 16 ∧ ct.2.1 (40 + i) = ct.2.1 (40 + j') from ⟨g2, i, hi, rfl⟩), gv_of g5, gv_of g6, gv_of g7, gv_of g8]
  · obtain ⟨c2, g1, g2, g3, g4, g5, g6⟩ := f4 k hk
    refine ⟨gi c2, ?_, fun j hj => ?_⟩
    · unfold hStart
      rw [g1]
      simp only [pick_f (show ¬ (c2.cls = ct.1 4 ∧ (ct.2.1 k = ct.2.1 0 ∨ ct.2.1 k = ct.2.1 1)) from fun h => d3 (h.1.symm.trans g2)), pick_f (show ¬ (c2.cls = D.1 12 ∧ ∃ j', j' < 256 ∧ ct.2.1 k = ct.2.1 (1000 + j')) from fun h => d5 (h.1.symm.trans g2)), pick_f (show ¬ (c2.cls = D.1 13 ∧ ∃ j', j' < 16 ∧ ct.2.1 k = ct.2.1 (40 + j')) from fun h => d6 (h.1.symm.trans g2)), pick_t (show c2.cls = ct.1 2 ∧ ∃ k', bK k' ∧ ct.2.1 k = ct.2.1 k' from ⟨g2, k, hk, rfl⟩), g5]
    · unfold gi
      rw [g6 j hj]
theorem w_tens {args : Array Value} {s : State} (hgv : (Jvm.Cond.and given_1 narrow_1).before args s = true) : ∀ i : Nat, i < 100 → (Cond.eq (.elem (Jvm.Term.static "java/lang/Integer" "DigitTens" "[B") (.int (Int32.ofNat i))) (.int (bytB 3 i))).before args s = true := fun i hi => match i, hi with
  | 0, _ => (br (br (br (br (br (bl (bl (br (bl (bl (br hgv)))))))))))
  | 1, _ => (bl (bl (bl (bl (br (bl (br (bl (bl (br hgv))))))))))
  | 2, _ => (bl (br (bl (bl (bl (br (bl (br (bl (bl (br hgv)))))))))))
  | 3, _ => (br (br (bl (bl (bl (br (bl (br (bl (bl (br hgv)))))))))))
  | 4, _ => (bl (br (bl (bl (br (bl (br (bl (bl (br hgv))))))))))
  | 5, _ => (bl (br (br (bl (bl (br (bl (br (bl (bl (br hgv)))))))))))
  | 6, _ => (br (br (br (bl (bl (br (bl (br (bl (bl (br hgv)))))))))))
  | 7, _ => (bl (bl (br (bl (br (bl (br (bl (bl (br hgv))))))))))
  | 8, _ => (bl (br (bl (br (bl (br (bl (br (bl (bl (br hgv)))))))))))
  | 9, _ => (br (br (bl (br (bl (br (bl (br (bl (bl (br hgv)))))))))))
  | 10, _ => (bl (br (br (bl (br (bl (br (bl (bl (br hgv))))))))))
  | 11, _ => (bl (br (br (br (bl (br (bl (br (bl (bl (br hgv)))))))))))
  | 12, _ => (br (br (br (br (bl (br (bl (br (bl (bl (br hgv)))))))))))
  | 13, _ => (bl (bl (bl (br (br (bl (br (bl (bl (br hgv))))))))))
  | 14, _ => (bl (br (bl (bl (br (br (bl (br (bl (bl (br hgv)))))))))))
  | 15, _ => (br (br (bl (bl (br (br (bl (br (bl (bl (br hgv)))))))))))
  | 16, _ => (bl (br (bl (br (br (bl (br (bl (bl (br hgv))))))))))
  | 17, _ => (bl (br (br (bl (br (br (bl (br (bl (bl (br hgv)))))))))))
  | 18, _ => (br (br (br (bl (br (br (bl (br (bl (bl (br hgv)))))))))))
  | 19, _ => (bl (bl (br (br (br (bl (br (bl (bl (br hgv))))))))))
  | 20, _ => (bl (br (bl (br (br (br (bl (br (bl (bl (br hgv)))))))))))
  | 21, _ => (br (br (bl (br (br (br (bl (br (bl (bl (br hgv)))))))))))
  | 22, _ => (bl (bl (br (br (br (br (bl (br (bl (bl (br hgv)))))))))))
  | 23, _ => (br (bl (br (br (br (br (bl (br (bl (bl (br hgv)))))))))))
  | 24, _ => (bl (br (br (br (br (br (bl (br (bl (bl (br hgv)))))))))))
  | 25, _ => (br (br (br (br (br (br (bl (br (bl (bl (br hgv)))))))))))
  | 26, _ => (bl (bl (bl (bl (bl (br (br (bl (bl (br hgv))))))))))
  | 27, _ => (bl (br (bl (bl (bl (bl (br (br (bl (bl (br hgv)))))))))))
  | 28, _ => (br (br (bl (bl (bl (bl (br (br (bl (bl (br hgv)))))))))))
  | 29, _ => (bl (br (bl (bl (bl (br (br (bl (bl (br hgv))))))))))
  | 30, _ => (bl (br (br (bl (bl (bl (br (br (bl (bl (br hgv)))))))))))
  | 31, _ => (br (br (br (bl (bl (bl (br (br (bl (bl (br hgv)))))))))))
  | 32, _ => (bl (bl (br (bl (bl (br (br (bl (bl (br hgv))))))))))
  | 33, _ => (bl (br (bl (br (bl (bl (br (br (bl (bl (br hgv)))))))))))
  | 34, _ => (br (br (bl (br (bl (bl (br (br (bl (bl (br hgv)))))))))))
  | 35, _ => (bl (br (br (bl (bl (br (br (bl (bl (br hgv))))))))))
  | 36, _ => (bl (br (br (br (bl (bl (br (br (bl (bl (br hgv)))))))))))
  | 37, _ => (br (br (br (br (bl (bl (br (br (bl (bl (br hgv)))))))))))
  | 38, _ => (bl (bl (bl (br (bl (br (br (bl (bl (br hgv))))))))))
  | 39, _ => (bl (br (bl (bl (br (bl (br (br (bl (bl (br hgv)))))))))))
  | 40, _ => (br (br (bl (bl (br (bl (br (br (bl (bl (br hgv)))))))))))
  | 41, _ => (bl (br (bl (br (bl (br (br (bl (bl (br hgv))))))))))
  | 42, _ => (bl (br (br (bl (br (bl (br (br (bl (bl (br hgv)))))))))))
  | 43, _ => (br (br (br (bl (br (bl (br (br (bl (bl (br hgv)))))))))))
  | 44, _ => (bl (bl (br (br (bl (br (br (bl (bl (br hgv))))))))))
  | 45, _ => (bl (br (bl (br (br (bl (br (br (bl (bl (br hgv)))))))))))
  | 46, _ => (br (br (bl (br (br (bl (br (br (bl (bl (br hgv)))))))))))
  | 47, _ => (bl (bl (br (br (br (bl (br (br (bl (bl (br hgv)))))))))))
  | 48, _ => (br (bl (br (br (br (bl (br (br (bl (bl (br hgv)))))))))))
  | 49, _ => (bl (br (br (br (br (bl (br (br (bl (bl (br hgv)))))))))))
  | 50, _ => (br (br (br (br (br (bl (br (br (bl (bl (br hgv)))))))))))
  | 51, _ => (bl (bl (bl (bl (br (br (br (bl (bl (br hgv))))))))))
  | 52, _ => (bl (br (bl (bl (bl (br (br (br (bl (bl (br hgv)))))))))))
  | 53, _ => (br (br (bl (bl (bl (br (br (br (bl (bl (br hgv)))))))))))
  | 54, _ => (bl (br (bl (bl (br (br (br (bl (bl (br hgv))))))))))
  | 55, _ => (bl (br (br (bl (bl (br (br (br (bl (bl (br hgv)))))))))))
  | 56, _ => (br (br (br (bl (bl (br (br (br (bl (bl (br hgv)))))))))))
  | 57, _ => (bl (bl (br (bl (br (br (br (bl (bl (br hgv))))))))))
  | 58, _ => (bl (br (bl (br (bl (br (br (br (bl (bl (br hgv)))))))))))
  | 59, _ => (br (br (bl (br (bl (br (br (br (bl (bl (br hgv)))))))))))
  | 60, _ => (bl (br (br (bl (br (br (br (bl (bl (br hgv))))))))))
  | 61, _ => (bl (br (br (br (bl (br (br (br (bl (bl (br hgv)))))))))))
  | 62, _ => (br (br (br (br (bl (br (br (br (bl (bl (br hgv)))))))))))
  | 63, _ => (bl (bl (bl (br (br (br (br (bl (bl (br hgv))))))))))
  | 64, _ => (bl (br (bl (bl (br (br (br (br (bl (bl (br hgv)))))))))))
  | 65, _ => (br (br (bl (bl (br (br (br (br (bl (bl (br hgv)))))))))))
  | 66, _ => (bl (br (bl (br (br (br (br (bl (bl (br hgv))))))))))
  | 67, _ => (bl (br (br (bl (br (br (br (br (bl (bl (br hgv)))))))))))
  | 68, _ => (br (br (br (bl (br (br (br (br (bl (bl (br hgv)))))))))))
  | 69, _ => (bl (bl (br (br (br (br (br (bl (bl (br hgv))))))))))
  | 70, _ => (bl (br (bl (br (br (br (br (br (bl (bl (br hgv)))))))))))
  | 71, _ => (br (br (bl (br (br (br (br (br (bl (bl (br hgv)))))))))))
  | 72, _ => (bl (bl (br (br (br (br (br (br (bl (bl (br hgv)))))))))))
  | 73, _ => (br (bl (br (br (br (br (br (br (bl (bl (br hgv)))))))))))
  | 74, _ => (bl (br (br (br (br (br (br (br (bl (bl (br hgv)))))))))))
  | 75, _ => (br (br (br (br (br (br (br (br (bl (bl (br hgv)))))))))))
  | 76, _ => (bl (bl (bl (bl (bl (bl (bl (br (bl (br hgv))))))))))
  | 77, _ => (bl (br (bl (bl (bl (bl (bl (bl (br (bl (br hgv)))))))))))
  | 78, _ => (br (br (bl (bl (bl (bl (bl (bl (br (bl (br hgv)))))))))))
  | 79, _ => (bl (br (bl (bl (bl (bl (bl (br (bl (br hgv))))))))))
  | 80, _ => (bl (br (br (bl (bl (bl (bl (bl (br (bl (br hgv)))))))))))
  | 81, _ => (br (br (br (bl (bl (bl (bl (bl (br (bl (br hgv)))))))))))
  | 82, _ => (bl (bl (br (bl (bl (bl (bl (br (bl (br hgv))))))))))
  | 83, _ => (bl (br (bl (br (bl (bl (bl (bl (br (bl (br hgv)))))))))))
  | 84, _ => (br (br (bl (br (bl (bl (bl (bl (br (bl (br hgv)))))))))))
  | 85, _ => (bl (br (br (bl (bl (bl (bl (br (bl (br hgv))))))))))
  | 86, _ => (bl (br (br (br (bl (bl (bl (bl (br (bl (br hgv)))))))))))
  | 87, _ => (br (br (br (br (bl (bl (bl (bl (br (bl (br hgv)))))))))))
  | 88, _ => (bl (bl (bl (br (bl (bl (bl (br (bl (br hgv))))))))))
  | 89, _ => (bl (br (bl (bl (br (bl (bl (bl (br (bl (br hgv)))))))))))
  | 90, _ => (br (br (bl (bl (br (bl (bl (bl (br (bl (br hgv)))))))))))
  | 91, _ => (bl (br (bl (br (bl (bl (bl (br (bl (br hgv))))))))))
  | 92, _ => (bl (br (br (bl (br (bl (bl (bl (br (bl (br hgv)))))))))))
  | 93, _ => (br (br (br (bl (br (bl (bl (bl (br (bl (br hgv)))))))))))
  | 94, _ => (bl (bl (br (br (bl (bl (bl (br (bl (br hgv))))))))))
  | 95, _ => (bl (br (bl (br (br (bl (bl (bl (br (bl (br hgv)))))))))))
  | 96, _ => (br (br (bl (br (br (bl (bl (bl (br (bl (br hgv)))))))))))
  | 97, _ => (bl (bl (br (br (br (bl (bl (bl (br (bl (br hgv)))))))))))
  | 98, _ => (br (bl (br (br (br (bl (bl (bl (br (bl (br hgv)))))))))))
  | 99, _ => (bl (br (br (br (br (bl (bl (bl (br (bl (br hgv)))))))))))
  | n + 100, h => absurd h (by omega)
theorem w_ones {args : Array Value} {s : State} (hgv : (Jvm.Cond.and given_1 narrow_1).before args s = true) : ∀ i : Nat, i < 100 → (Cond.eq (.elem (Jvm.Term.static "java/lang/Integer" "DigitOnes" "[B") (.int (Int32.ofNat i))) (.int (bytB 4 i))).before args s = true := fun i hi => match i, hi with
  | 0, _ => (bl (bl (br (br (br (bl (bl (bl (bl (bl (br hgv)))))))))))
  | 1, _ => (br (bl (br (br (br (bl (bl (bl (bl (bl (br hgv)))))))))))
  | 2, _ => (bl (br (br (br (br (bl (bl (bl (bl (bl (br hgv)))))))))))
  | 3, _ => (br (br (br (br (br (bl (bl (bl (bl (bl (br hgv)))))))))))
  | 4, _ => (bl (bl (bl (bl (br (bl (bl (bl (bl (br hgv))))))))))
  | 5, _ => (bl (br (bl (bl (bl (br (bl (bl (bl (bl (br hgv)))))))))))
  | 6, _ => (br (br (bl (bl (bl (br (bl (bl (bl (bl (br hgv)))))))))))
  | 7, _ => (bl (br (bl (bl (br (bl (bl (bl (bl (br hgv))))))))))
  | 8, _ => (bl (br (br (bl (bl (br (bl (bl (bl (bl (br hgv)))))))))))
  | 9, _ => (br (br (br (bl (bl (br (bl (bl (bl (bl (br hgv)))))))))))
  | 10, _ => (bl (bl (br (bl (br (bl (bl (bl (bl (br hgv))))))))))
  | 11, _ => (bl (br (bl (br (bl (br (bl (bl (bl (bl (br hgv)))))))))))
  | 12, _ => (br (br (bl (br (bl (br (bl (bl (bl (bl (br hgv)))))))))))
  | 13, _ => (bl (br (br (bl (br (bl (bl (bl (bl (br hgv))))))))))
  | 14, _ => (bl (br (br (br (bl (br (bl (bl (bl (bl (br hgv)))))))))))
  | 15, _ => (br (br (br (br (bl (br (bl (bl (bl (bl (br hgv)))))))))))
  | 16, _ => (bl (bl (bl (br (br (bl (bl (bl (bl (br hgv))))))))))
  | 17, _ => (bl (br (bl (bl (br (br (bl (bl (bl (bl (br hgv)))))))))))
  | 18, _ => (br (br (bl (bl (br (br (bl (bl (bl (bl (br hgv)))))))))))
  | 19, _ => (bl (br (bl (br (br (bl (bl (bl (bl (br hgv))))))))))
  | 20, _ => (bl (br (br (bl (br (br (bl (bl (bl (bl (br hgv)))))))))))
  | 21, _ => (br (br (br (bl (br (br (bl (bl (bl (bl (br hgv)))))))))))
  | 22, _ => (bl (bl (br (br (br (bl (bl (bl (bl (br hgv))))))))))
  | 23, _ => (bl (br (bl (br (br (br (bl (bl (bl (bl (br hgv)))))))))))
  | 24, _ => (br (br (bl (br (br (br (bl (bl (bl (bl (br hgv)))))))))))
  | 25, _ => (bl (bl (br (br (br (br (bl (bl (bl (bl (br hgv)))))))))))
  | 26, _ => (br (bl (br (br (br (br (bl (bl (bl (bl (br hgv)))))))))))
  | 27, _ => (bl (br (br (br (br (br (bl (bl (bl (bl (br hgv)))))))))))
  | 28, _ => (br (br (br (br (br (br (bl (bl (bl (bl (br hgv)))))))))))
  | 29, _ => (bl (bl (bl (bl (bl (br (bl (bl (bl (br hgv))))))))))
  | 30, _ => (bl (br (bl (bl (bl (bl (br (bl (bl (bl (br hgv)))))))))))
  | 31, _ => (br (br (bl (bl (bl (bl (br (bl (bl (bl (br hgv)))))))))))
  | 32, _ => (bl (br (bl (bl (bl (br (bl (bl (bl (br hgv))))))))))
  | 33, _ => (bl (br (br (bl (bl (bl (br (bl (bl (bl (br hgv)))))))))))
  | 34, _ => (br (br (br (bl (bl (bl (br (bl (bl (bl (br hgv)))))))))))
  | 35, _ => (bl (bl (br (bl (bl (br (bl (bl (bl (br hgv))))))))))
  | 36, _ => (bl (br (bl (br (bl (bl (br (bl (bl (bl (br hgv)))))))))))
  | 37, _ => (br (br (bl (br (bl (bl (br (bl (bl (bl (br hgv)))))))))))
  | 38, _ => (bl (br (br (bl (bl (br (bl (bl (bl (br hgv))))))))))
  | 39, _ => (bl (br (br (br (bl (bl (br (bl (bl (bl (br hgv)))))))))))
  | 40, _ => (br (br (br (br (bl (bl (br (bl (bl (bl (br hgv)))))))))))
  | 41, _ => (bl (bl (bl (br (bl (br (bl (bl (bl (br hgv))))))))))
  | 42, _ => (bl (br (bl (bl (br (bl (br (bl (bl (bl (br hgv)))))))))))
  | 43, _ => (br (br (bl (bl (br (bl (br (bl (bl (bl (br hgv)))))))))))
  | 44, _ => (bl (br (bl (br (bl (br (bl (bl (bl (br hgv))))))))))
  | 45, _ => (bl (br (br (bl (br (bl (br (bl (bl (bl (br hgv)))))))))))
  | 46, _ => (br (br (br (bl (br (bl (br (bl (bl (bl (br hgv)))))))))))
  | 47, _ => (bl (bl (br (br (bl (br (bl (bl (bl (br hgv))))))))))
  | 48, _ => (bl (br (bl (br (br (bl (br (bl (bl (bl (br hgv)))))))))))
  | 49, _ => (br (br (bl (br (br (bl (br (bl (bl (bl (br hgv)))))))))))
  | 50, _ => (bl (bl (br (br (br (bl (br (bl (bl (bl (br hgv)))))))))))
  | 51, _ => (br (bl (br (br (br (bl (br (bl (bl (bl (br hgv)))))))))))
  | 52, _ => (bl (br (br (br (br (bl (br (bl (bl (bl (br hgv)))))))))))
  | 53, _ => (br (br (br (br (br (bl (br (bl (bl (bl (br hgv)))))))))))
  | 54, _ => (bl (bl (bl (bl (br (br (bl (bl (bl (br hgv))))))))))
  | 55, _ => (bl (br (bl (bl (bl (br (br (bl (bl (bl (br hgv)))))))))))
  | 56, _ => (br (br (bl (bl (bl (br (br (bl (bl (bl (br hgv)))))))))))
  | 57, _ => (bl (br (bl (bl (br (br (bl (bl (bl (br hgv))))))))))
  | 58, _ => (bl (br (br (bl (bl (br (br (bl (bl (bl (br hgv)))))))))))
  | 59, _ => (br (br (br (bl (bl (br (br (bl (bl (bl (br hgv)))))))))))
  | 60, _ => (bl (bl (br (bl (br (br (bl (bl (bl (br hgv))))))))))
  | 61, _ => (bl (br (bl (br (bl (br (br (bl (bl (bl (br hgv)))))))))))
  | 62, _ => (br (br (bl (br (bl (br (br (bl (bl (bl (br hgv)))))))))))
  | 63, _ => (bl (br (br (bl (br (br (bl (bl (bl (br hgv))))))))))
  | 64, _ => (bl (br (br (br (bl (br (br (bl (bl (bl (br hgv)))))))))))
  | 65, _ => (br (br (br (br (bl (br (br (bl (bl (bl (br hgv)))))))))))
  | 66, _ => (bl (bl (bl (br (br (br (bl (bl (bl (br hgv))))))))))
  | 67, _ => (bl (br (bl (bl (br (br (br (bl (bl (bl (br hgv)))))))))))
  | 68, _ => (br (br (bl (bl (br (br (br (bl (bl (bl (br hgv)))))))))))
  | 69, _ => (bl (br (bl (br (br (br (bl (bl (bl (br hgv))))))))))
  | 70, _ => (bl (br (br (bl (br (br (br (bl (bl (bl (br hgv)))))))))))
  | 71, _ => (br (br (br (bl (br (br (br (bl (bl (bl (br hgv)))))))))))
  | 72, _ => (bl (bl (br (br (br (br (bl (bl (bl (br hgv))))))))))
  | 73, _ => (bl (br (bl (br (br (br (br (bl (bl (bl (br hgv)))))))))))
  | 74, _ => (br (br (bl (br (br (br (br (bl (bl (bl (br hgv)))))))))))
  | 75, _ => (bl (bl (br (br (br (br (br (bl (bl (bl (br hgv)))))))))))
  | 76, _ => (br (bl (br (br (br (br (br (bl (bl (bl (br hgv)))))))))))
  | 77, _ => (bl (br (br (br (br (br (br (bl (bl (bl (br hgv)))))))))))
  | 78, _ => (br (br (br (br (br (br (br (bl (bl (bl (br hgv)))))))))))
  | 79, _ => (bl (bl (bl (bl (bl (bl (br (bl (bl (br hgv))))))))))
  | 80, _ => (bl (br (bl (bl (bl (bl (bl (br (bl (bl (br hgv)))))))))))
  | 81, _ => (br (br (bl (bl (bl (bl (bl (br (bl (bl (br hgv)))))))))))
  | 82, _ => (bl (br (bl (bl (bl (bl (br (bl (bl (br hgv))))))))))
  | 83, _ => (bl (br (br (bl (bl (bl (bl (br (bl (bl (br hgv)))))))))))
  | 84, _ => (br (br (br (bl (bl (bl (bl (br (bl (bl (br hgv)))))))))))
  | 85, _ => (bl (bl (br (bl (bl (bl (br (bl (bl (br hgv))))))))))
  | 86, _ => (bl (br (bl (br (bl (bl (bl (br (bl (bl (br hgv)))))))))))
  | 87, _ => (br (br (bl (br (bl (bl (bl (br (bl (bl (br hgv)))))))))))
  | 88, _ => (bl (br (br (bl (bl (bl (br (bl (bl (br hgv))))))))))
  | 89, _ => (bl (br (br (br (bl (bl (bl (br (bl (bl (br hgv)))))))))))
  | 90, _ => (br (br (br (br (bl (bl (bl (br (bl (bl (br hgv)))))))))))
  | 91, _ => (bl (bl (bl (br (bl (bl (br (bl (bl (br hgv))))))))))
  | 92, _ => (bl (br (bl (bl (br (bl (bl (br (bl (bl (br hgv)))))))))))
  | 93, _ => (br (br (bl (bl (br (bl (bl (br (bl (bl (br hgv)))))))))))
  | 94, _ => (bl (br (bl (br (bl (bl (br (bl (bl (br hgv))))))))))
  | 95, _ => (bl (br (br (bl (br (bl (bl (br (bl (bl (br hgv)))))))))))
  | 96, _ => (br (br (br (bl (br (bl (bl (br (bl (bl (br hgv)))))))))))
  | 97, _ => (bl (bl (br (br (bl (bl (br (bl (bl (br hgv))))))))))
  | 98, _ => (bl (br (bl (br (br (bl (bl (br (bl (bl (br hgv)))))))))))
  | 99, _ => (br (br (bl (br (br (bl (bl (br (bl (bl (br hgv)))))))))))
  | n + 100, h => absurd h (by omega)
abbrev stT (i : Nat) : Term := .string "HorizonSeam$Reader" (stK.getD i 0)
abbrev stV (i : Nat) : Term := .field (stT i) "java/lang/String" "value" "[B"
theorem w_sx {args : Array Value} {s : State} (hgv : (Jvm.Cond.and given_1 narrow_1).before args s = true) : ∀ i : Nat, i < 16 → (Cond.exactly (stT i) "java/lang/String").before args s = true := fun i hi => match i, hi with
  | 0, _ => (bl (bl (bl (br (bl (bl (br (br (bl (br hgv))))))))))
  | 1, _ => (bl (bl (br (br (br (bl (bl (br (br (bl (br hgv)))))))))))
  | 2, _ => (br (br (br (bl (bl (br (bl (br (br (bl (br hgv)))))))))))
  | 3, _ => (bl (br (br (bl (br (br (bl (br (br (bl (br hgv)))))))))))
  | 4, _ => (bl (br (bl (bl (bl (br (br (br (bl (br hgv))))))))))
  | 5, _ => (br (br (br (bl (br (bl (br (br (br (bl (br hgv)))))))))))
  | 6, _ => (br (br (br (bl (bl (br (br (br (br (bl (br hgv)))))))))))
  | 7, _ => (bl (bl (br (br (br (br (br (br (br (bl (br hgv)))))))))))
  | 8, _ => (bl (bl (bl (br (bl (bl (bl (br (br hgv)))))))))
  | 9, _ => (bl (br (bl (bl (br (bl (bl (br (br hgv)))))))))
  | 10, _ => (br (br (br (bl (br (br (bl (bl (br (br hgv))))))))))
  | 11, _ => (bl (bl (br (bl (br (br (bl (br (br hgv)))))))))
  | 12, _ => (bl (br (br (br (br (br (br (bl (br (br hgv))))))))))
  | 13, _ => (bl (br (br (bl (br (bl (bl (br (br (br hgv))))))))))
  | 14, _ => (bl (br (br (br (bl (br (bl (br (br (br hgv))))))))))
  | 15, _ => (br (bl (br (br (bl (bl (br (br (br (br hgv))))))))))
  | n + 16, h => absurd h (by omega)
theorem w_sc {args : Array Value} {s : State} (hgv : (Jvm.Cond.and given_1 narrow_1).before args s = true) : ∀ i : Nat, i < 16 → (Cond.eq (.field (stT i) "java/lang/String" "coder" "B") (.int 0)).before args s = true := fun i hi => match i, hi with
  | 0, _ => (bl (br (bl (bl (br (bl (bl (br (br (bl (br hgv)))))))))))
  | 1, _ => (br (bl (br (br (br (bl (bl (br (br (bl (br hgv)))))))))))
  | 2, _ => (bl (bl (br (bl (br (bl (br (br (bl (br hgv))))))))))
  | 3, _ => (br (br (br (bl (br (br (bl (br (br (bl (br hgv)))))))))))
  | 4, _ => (bl (br (br (bl (bl (bl (br (br (br (bl (br hgv)))))))))))
  | 5, _ => (bl (bl (br (br (bl (br (br (br (bl (br hgv))))))))))
  | 6, _ => (bl (bl (br (bl (br (br (br (br (bl (br hgv))))))))))
  | 7, _ => (br (bl (br (br (br (br (br (br (br (bl (br hgv)))))))))))
  | 8, _ => (bl (br (bl (bl (br (bl (bl (bl (br (br hgv))))))))))
  | 9, _ => (bl (br (br (bl (bl (br (bl (bl (br (br hgv))))))))))
  | 10, _ => (bl (bl (br (br (br (bl (bl (br (br hgv)))))))))
  | 11, _ => (bl (br (bl (br (bl (br (br (bl (br (br hgv))))))))))
  | 12, _ => (br (br (br (br (br (br (br (bl (br (br hgv))))))))))
  | 13, _ => (br (br (br (bl (br (bl (bl (br (br (br hgv))))))))))
  | 14, _ => (br (br (br (br (bl (br (bl (br (br (br hgv))))))))))
  | 15, _ => (bl (br (br (br (bl (bl (br (br (br (br hgv))))))))))
  | n + 16, h => absurd h (by omega)
theorem w_sa {args : Array Value} {s : State} (hgv : (Jvm.Cond.and given_1 narrow_1).before args s = true) : ∀ i : Nat, i < 16 → (Cond.arrayOf (stV i) .byte).before args s = true := fun i hi => match i, hi with
  | 0, _ => (br (br (bl (bl (br (bl (bl (br (br (bl (br hgv)))))))))))
  | 1, _ => (bl (br (br (br (br (bl (bl (br (br (bl (br hgv)))))))))))
  | 2, _ => (bl (br (bl (br (bl (br (bl (br (br (bl (br hgv)))))))))))
  | 3, _ => (bl (bl (br (br (br (bl (br (br (bl (br hgv))))))))))
  | 4, _ => (br (br (br (bl (bl (bl (br (br (br (bl (br hgv)))))))))))
  | 5, _ => (bl (br (bl (br (br (bl (br (br (br (bl (br hgv)))))))))))
  | 6, _ => (bl (br (bl (br (bl (br (br (br (br (bl (br hgv)))))))))))
  | 7, _ => (bl (br (br (br (br (br (br (br (br (bl (br hgv)))))))))))
  | 8, _ => (br (br (bl (bl (br (bl (bl (bl (br (br hgv))))))))))
  | 9, _ => (br (br (br (bl (bl (br (bl (bl (br (br hgv))))))))))
  | 10, _ => (bl (br (bl (br (br (br (bl (bl (br (br hgv))))))))))
  | 11, _ => (br (br (bl (br (bl (br (br (bl (br (br hgv))))))))))
  | 12, _ => (bl (bl (bl (bl (bl (bl (br (br (br hgv)))))))))
  | 13, _ => (bl (bl (br (br (bl (bl (br (br (br hgv)))))))))
  | 14, _ => (bl (bl (bl (br (br (bl (br (br (br hgv)))))))))
  | 15, _ => (br (br (br (br (bl (bl (br (br (br (br hgv))))))))))
  | n + 16, h => absurd h (by omega)
theorem w_sy {args : Array Value} {s : State} (hgv : (Jvm.Cond.and given_1 narrow_1).before args s = true) : ∀ i : Nat, i < 16 → (Cond.exactly (stV i) "[B").before args s = true := fun i hi => match i, hi with
  | 0, _ => (br (bl (br (br (bl (br (br (br (br (br hgv))))))))))
  | 1, _ => (bl (br (br (br (bl (br (br (br (br (br hgv))))))))))
  | 2, _ => (br (br (br (br (bl (br (br (br (br (br hgv))))))))))
  | 3, _ => (bl (bl (bl (br (br (br (br (br (br hgv)))))))))
  | 4, _ => (bl (br (bl (bl (br (br (br (br (br (br hgv))))))))))
  | 5, _ => (br (br (bl (bl (br (br (br (br (br (br hgv))))))))))
  | 6, _ => (bl (bl (br (bl (br (br (br (br (br (br hgv))))))))))
  | 7, _ => (br (bl (br (bl (br (br (br (br (br (br hgv))))))))))
  | 8, _ => (bl (br (br (bl (br (br (br (br (br (br hgv))))))))))
  | 9, _ => (br (br (br (bl (br (br (br (br (br (br hgv))))))))))
  | 10, _ => (bl (bl (br (br (br (br (br (br (br hgv)))))))))
  | 11, _ => (br (br (bl (br (br (br (br (br (br (br hgv))))))))))
  | 12, _ => (bl (bl (br (br (br (br (br (br (br (br hgv))))))))))
  | 13, _ => (br (bl (br (br (br (br (br (br (br (br hgv))))))))))
  | 14, _ => (bl (br (br (br (br (br (br (br (br (br hgv))))))))))
  | 15, _ => (br (br (br (br (br (br (br (br (br (br hgv))))))))))
  | n + 16, h => absurd h (by omega)
theorem w_sl {args : Array Value} {s : State} (hgv : (Jvm.Cond.and given_1 narrow_1).before args s = true) : ∀ i : Nat, i < 16 → (Cond.eq (.length (stV i)) (.int (Int32.ofNat (stN i)))).before args s = true := fun i hi => match i, hi with
  | 0, _ => (bl (br (bl (br (bl (bl (br (br (bl (br hgv))))))))))
  | 1, _ => (br (br (br (br (br (bl (bl (br (br (bl (br hgv)))))))))))
  | 2, _ => (br (br (bl (br (bl (br (bl (br (br (bl (br hgv)))))))))))
  | 3, _ => (bl (br (bl (br (br (br (bl (br (br (bl (br hgv)))))))))))
  | 4, _ => (bl (bl (br (bl (bl (br (br (br (bl (br hgv))))))))))
  | 5, _ => (br (br (bl (br (br (bl (br (br (br (bl (br hgv)))))))))))
  | 6, _ => (br (br (bl (br (bl (br (br (br (br (bl (br hgv)))))))))))
  | 7, _ => (br (br (br (br (br (br (br (br (br (bl (br hgv)))))))))))
  | 8, _ => (bl (bl (br (bl (br (bl (bl (bl (br (br hgv))))))))))
  | 9, _ => (bl (bl (br (bl (br (bl (bl (br (br hgv)))))))))
  | 10, _ => (br (br (bl (br (br (br (bl (bl (br (br hgv))))))))))
  | 11, _ => (bl (bl (br (br (bl (br (br (bl (br (br hgv))))))))))
  | 12, _ => (bl (br (bl (bl (bl (bl (bl (br (br (br hgv))))))))))
  | 13, _ => (bl (br (bl (br (br (bl (bl (br (br (br hgv))))))))))
  | 14, _ => (bl (br (bl (bl (br (br (bl (br (br (br hgv))))))))))
  | 15, _ => (bl (bl (bl (br (bl (br (br (br (br hgv)))))))))
  | n + 16, h => absurd h (by omega)
theorem w_se0 {args : Array Value} {s : State} (hgv : (Jvm.Cond.and given_1 narrow_1).before args s = true) : ∀ i : Nat, i < 5 → (Cond.eq (.elem (stV 0) (.int (Int32.ofNat i))) (.int ((stB.getD 0 []).getD i 0))).before args s = true := fun i hi => match i, hi with
  | 0, _ => (bl (br (br (bl (br (bl (bl (br (br (bl (br hgv)))))))))))
  | 1, _ => (br (br (br (bl (br (bl (bl (br (br (bl (br hgv)))))))))))
  | 2, _ => (bl (bl (br (br (bl (bl (br (br (bl (br hgv))))))))))
  | 3, _ => (bl (br (bl (br (br (bl (bl (br (br (bl (br hgv)))))))))))
  | 4, _ => (br (br (bl (br (br (bl (bl (br (br (bl (br hgv)))))))))))
  | n + 5, h => absurd h (by omega)
theorem w_se1 {args : Array Value} {s : State} (hgv : (Jvm.Cond.and given_1 narrow_1).before args s = true) : ∀ i : Nat, i < 4 → (Cond.eq (.elem (stV 1) (.int (Int32.ofNat i))) (.int ((stB.getD 1 []).getD i 0))).before args s = true := fun i hi => match i, hi with
  | 0, _ => (bl (bl (bl (bl (br (bl (br (br (bl (br hgv))))))))))
  | 1, _ => (bl (br (bl (bl (bl (br (bl (br (br (bl (br hgv)))))))))))
  | 2, _ => (br (br (bl (bl (bl (br (bl (br (br (bl (br hgv)))))))))))
  | 3, _ => (bl (br (bl (bl (br (bl (br (br (bl (br hgv))))))))))
  | n + 4, h => absurd h (by omega)
theorem w_se2 {args : Array Value} {s : State} (hgv : (Jvm.Cond.and given_1 narrow_1).before args s = true) : ∀ i : Nat, i < 5 → (Cond.eq (.elem (stV 2) (.int (Int32.ofNat i))) (.int ((stB.getD 2 []).getD i 0))).before args s = true := fun i hi => match i, hi with
  | 0, _ => (bl (br (br (bl (br (bl (br (br (bl (br hgv))))))))))
  | 1, _ => (bl (br (br (br (bl (br (bl (br (br (bl (br hgv)))))))))))
  | 2, _ => (br (br (br (br (bl (br (bl (br (br (bl (br hgv)))))))))))
  | 3, _ => (bl (bl (bl (br (br (bl (br (br (bl (br hgv))))))))))
  | 4, _ => (bl (br (bl (bl (br (br (bl (br (br (bl (br hgv)))))))))))
  | n + 5, h => absurd h (by omega)
theorem w_se3 {args : Array Value} {s : State} (hgv : (Jvm.Cond.and given_1 narrow_1).before args s = true) : ∀ i : Nat, i < 5 → (Cond.eq (.elem (stV 3) (.int (Int32.ofNat i))) (.int ((stB.getD 3 []).getD i 0))).before args s = true := fun i hi => match i, hi with
  | 0, _ => (br (br (bl (br (br (br (bl (br (br (bl (br hgv)))))))))))
  | 1, _ => (bl (bl (br (br (br (br (bl (br (br (bl (br hgv)))))))))))
  | 2, _ => (br (bl (br (br (br (br (bl (br (br (bl (br hgv)))))))))))
  | 3, _ => (bl (br (br (br (br (br (bl (br (br (bl (br hgv)))))))))))
  | 4, _ => (br (br (br (br (br (br (bl (br (br (bl (br hgv)))))))))))
  | n + 5, h => absurd h (by omega)
theorem w_se4 {args : Array Value} {s : State} (hgv : (Jvm.Cond.and given_1 narrow_1).before args s = true) : ∀ i : Nat, i < 6 → (Cond.eq (.elem (stV 4) (.int (Int32.ofNat i))) (.int ((stB.getD 4 []).getD i 0))).before args s = true := fun i hi => match i, hi with
  | 0, _ => (bl (br (bl (br (bl (bl (br (br (br (bl (br hgv)))))))))))
  | 1, _ => (br (br (bl (br (bl (bl (br (br (br (bl (br hgv)))))))))))
  | 2, _ => (bl (br (br (bl (bl (br (br (br (bl (br hgv))))))))))
  | 3, _ => (bl (br (br (br (bl (bl (br (br (br (bl (br hgv)))))))))))
  | 4, _ => (br (br (br (br (bl (bl (br (br (br (bl (br hgv)))))))))))
  | 5, _ => (bl (bl (bl (br (bl (br (br (br (bl (br hgv))))))))))
  | n + 6, h => absurd h (by omega)
theorem w_se5 {args : Array Value} {s : State} (hgv : (Jvm.Cond.and given_1 narrow_1).before args s = true) : ∀ i : Nat, i < 4 → (Cond.eq (.elem (stV 5) (.int (Int32.ofNat i))) (.int ((stB.getD 5 []).getD i 0))).before args s = true := fun i hi => match i, hi with
  | 0, _ => (bl (bl (br (br (br (bl (br (br (br (bl (br hgv)))))))))))
  | 1, _ => (br (bl (br (br (br (bl (br (br (br (bl (br hgv)))))))))))
  | 2, _ => (bl (br (br (br (br (bl (br (br (br (bl (br hgv)))))))))))
  | 3, _ => (br (br (br (br (br (bl (br (br (br (bl (br hgv)))))))))))
  | n + 4, h => absurd h (by omega)
theorem w_se6 {args : Array Value} {s : State} (hgv : (Jvm.Cond.and given_1 narrow_1).before args s = true) : ∀ i : Nat, i < 6 → (Cond.eq (.elem (stV 6) (.int (Int32.ofNat i))) (.int ((stB.getD 6 []).getD i 0))).before args s = true := fun i hi => match i, hi with
  | 0, _ => (bl (br (br (bl (br (br (br (br (bl (br hgv))))))))))
  | 1, _ => (bl (br (br (br (bl (br (br (br (br (bl (br hgv)))))))))))
  | 2, _ => (br (br (br (br (bl (br (br (br (br (bl (br hgv)))))))))))
  | 3, _ => (bl (bl (bl (br (br (br (br (br (bl (br hgv))))))))))
  | 4, _ => (bl (br (bl (bl (br (br (br (br (br (bl (br hgv)))))))))))
  | 5, _ => (br (br (bl (bl (br (br (br (br (br (bl (br hgv)))))))))))
  | n + 6, h => absurd h (by omega)
theorem w_se7 {args : Array Value} {s : State} (hgv : (Jvm.Cond.and given_1 narrow_1).before args s = true) : ∀ i : Nat, i < 6 → (Cond.eq (.elem (stV 7) (.int (Int32.ofNat i))) (.int ((stB.getD 7 []).getD i 0))).before args s = true := fun i hi => match i, hi with
  | 0, _ => (bl (bl (bl (bl (bl (bl (bl (br (br hgv)))))))))
  | 1, _ => (bl (br (bl (bl (bl (bl (bl (bl (br (br hgv))))))))))
  | 2, _ => (br (br (bl (bl (bl (bl (bl (bl (br (br hgv))))))))))
  | 3, _ => (bl (br (bl (bl (bl (bl (bl (br (br hgv)))))))))
  | 4, _ => (bl (br (br (bl (bl (bl (bl (bl (br (br hgv))))))))))
  | 5, _ => (br (br (br (bl (bl (bl (bl (bl (br (br hgv))))))))))
  | n + 6, h => absurd h (by omega)
theorem w_se8 {args : Array Value} {s : State} (hgv : (Jvm.Cond.and given_1 narrow_1).before args s = true) : ∀ i : Nat, i < 5 → (Cond.eq (.elem (stV 8) (.int (Int32.ofNat i))) (.int ((stB.getD 8 []).getD i 0))).before args s = true := fun i hi => match i, hi with
  | 0, _ => (br (bl (br (bl (br (bl (bl (bl (br (br hgv))))))))))
  | 1, _ => (bl (br (br (bl (br (bl (bl (bl (br (br hgv))))))))))
  | 2, _ => (br (br (br (bl (br (bl (bl (bl (br (br hgv))))))))))
  | 3, _ => (bl (bl (br (br (bl (bl (bl (br (br hgv)))))))))
  | 4, _ => (bl (br (bl (br (br (bl (bl (bl (br (br hgv))))))))))
  | n + 5, h => absurd h (by omega)
theorem w_se9 {args : Array Value} {s : State} (hgv : (Jvm.Cond.and given_1 narrow_1).before args s = true) : ∀ i : Nat, i < 3 → (Cond.eq (.elem (stV 9) (.int (Int32.ofNat i))) (.int ((stB.getD 9 []).getD i 0))).before args s = true := fun i hi => match i, hi with
  | 0, _ => (bl (br (bl (br (bl (br (bl (bl (br (br hgv))))))))))
  | 1, _ => (br (br (bl (br (bl (br (bl (bl (br (br hgv))))))))))
  | 2, _ => (bl (bl (br (br (bl (br (bl (bl (br (br hgv))))))))))
  | n + 3, h => absurd h (by omega)
theorem w_se10 {args : Array Value} {s : State} (hgv : (Jvm.Cond.and given_1 narrow_1).before args s = true) : ∀ i : Nat, i < 9 → (Cond.eq (.elem (stV 10) (.int (Int32.ofNat i))) (.int ((stB.getD 10 []).getD i 0))).before args s = true := fun i hi => match i, hi with
  | 0, _ => (bl (bl (br (br (br (br (bl (bl (br (br hgv))))))))))
  | 1, _ => (br (bl (br (br (br (br (bl (bl (br (br hgv))))))))))
  | 2, _ => (bl (br (br (br (br (br (bl (bl (br (br hgv))))))))))
  | 3, _ => (br (br (br (br (br (br (bl (bl (br (br hgv))))))))))
  | 4, _ => (bl (bl (bl (bl (bl (br (bl (br (br hgv)))))))))
  | 5, _ => (bl (br (bl (bl (bl (bl (br (bl (br (br hgv))))))))))
  | 6, _ => (br (br (bl (bl (bl (bl (br (bl (br (br hgv))))))))))
  | 7, _ => (bl (br (bl (bl (bl (br (bl (br (br hgv)))))))))
  | 8, _ => (bl (br (br (bl (bl (bl (br (bl (br (br hgv))))))))))
  | n + 9, h => absurd h (by omega)
theorem w_se11 {args : Array Value} {s : State} (hgv : (Jvm.Cond.and given_1 narrow_1).before args s = true) : ∀ i : Nat, i < 3 → (Cond.eq (.elem (stV 11) (.int (Int32.ofNat i))) (.int ((stB.getD 11 []).getD i 0))).before args s = true := fun i hi => match i, hi with
  | 0, _ => (br (bl (br (br (bl (br (br (bl (br (br hgv))))))))))
  | 1, _ => (bl (br (br (br (bl (br (br (bl (br (br hgv))))))))))
  | 2, _ => (br (br (br (br (bl (br (br (bl (br (br hgv))))))))))
  | n + 3, h => absurd h (by omega)
theorem w_se12 {args : Array Value} {s : State} (hgv : (Jvm.Cond.and given_1 narrow_1).before args s = true) : ∀ i : Nat, i < 3 → (Cond.eq (.elem (stV 12) (.int (Int32.ofNat i))) (.int ((stB.getD 12 []).getD i 0))).before args s = true := fun i hi => match i, hi with
  | 0, _ => (br (br (bl (bl (bl (bl (bl (br (br (br hgv))))))))))
  | 1, _ => (bl (br (bl (bl (bl (bl (br (br (br hgv)))))))))
  | 2, _ => (bl (br (br (bl (bl (bl (bl (br (br (br hgv))))))))))
  | n + 3, h => absurd h (by omega)
theorem w_se13 {args : Array Value} {s : State} (hgv : (Jvm.Cond.and given_1 narrow_1).before args s = true) : ∀ i : Nat, i < 2 → (Cond.eq (.elem (stV 13) (.int (Int32.ofNat i))) (.int ((stB.getD 13 []).getD i 0))).before args s = true := fun i hi => match i, hi with
  | 0, _ => (br (br (bl (br (br (bl (bl (br (br (br hgv))))))))))
  | 1, _ => (bl (bl (br (br (br (bl (bl (br (br (br hgv))))))))))
  | n + 2, h => absurd h (by omega)
theorem w_se14 {args : Array Value} {s : State} (hgv : (Jvm.Cond.and given_1 narrow_1).before args s = true) : ∀ i : Nat, i < 7 → (Cond.eq (.elem (stV 14) (.int (Int32.ofNat i))) (.int ((stB.getD 14 []).getD i 0))).before args s = true := fun i hi => match i, hi with
  | 0, _ => (br (br (bl (bl (br (br (bl (br (br (br hgv))))))))))
  | 1, _ => (bl (bl (br (bl (br (br (bl (br (br (br hgv))))))))))
  | 2, _ => (br (bl (br (bl (br (br (bl (br (br (br hgv))))))))))
  | 3, _ => (bl (br (br (bl (br (br (bl (br (br (br hgv))))))))))
  | 4, _ => (br (br (br (bl (br (br (bl (br (br (br hgv))))))))))
  | 5, _ => (bl (bl (br (br (br (bl (br (br (br hgv)))))))))
  | 6, _ => (bl (br (bl (br (br (br (bl (br (br (br hgv))))))))))
  | n + 7, h => absurd h (by omega)
theorem w_se15 {args : Array Value} {s : State} (hgv : (Jvm.Cond.and given_1 narrow_1).before args s = true) : ∀ i : Nat, i < 5 → (Cond.eq (.elem (stV 15) (.int (Int32.ofNat i))) (.int ((stB.getD 15 []).getD i 0))).before args s = true := fun i hi => match i, hi with
  | 0, _ => (bl (br (bl (bl (br (bl (br (br (br (br hgv))))))))))
  | 1, _ => (br (br (bl (bl (br (bl (br (br (br (br hgv))))))))))
  | 2, _ => (bl (bl (br (bl (br (bl (br (br (br (br hgv))))))))))
  | 3, _ => (br (bl (br (bl (br (bl (br (br (br (br hgv))))))))))
  | 4, _ => (bl (br (br (bl (br (bl (br (br (br (br hgv))))))))))
  | n + 5, h => absurd h (by omega)
theorem w_se {args : Array Value} {s : State} (hgv : (Jvm.Cond.and given_1 narrow_1).before args s = true) : ∀ i : Nat, i < 16 → ∀ j : Nat, j < stN i → (Cond.eq (.elem (stV i) (.int (Int32.ofNat j))) (.int ((stB.getD i []).getD j 0))).before args s = true := fun i hi => match i, hi with
  | 0, _ => w_se0 hgv
  | 1, _ => w_se1 hgv
  | 2, _ => w_se2 hgv
  | 3, _ => w_se3 hgv
  | 4, _ => w_se4 hgv
  | 5, _ => w_se5 hgv
  | 6, _ => w_se6 hgv
  | 7, _ => w_se7 hgv
  | 8, _ => w_se8 hgv
  | 9, _ => w_se9 hgv
  | 10, _ => w_se10 hgv
  | 11, _ => w_se11 hgv
  | 12, _ => w_se12 hgv
  | 13, _ => w_se13 hgv
  | 14, _ => w_se14 hgv
  | 15, _ => w_se15 hgv
  | n + 16, h => absurd h (by omega)
theorem w_sn1 {args : Array Value} {s : State} (hgv : (Jvm.Cond.and given_1 narrow_1).before args s = true) : ∀ i : Nat, i < 1 → (Cond.not (Cond.eq (stT i) (stT 1))).before args s = true := fun i hi => match i, hi with
  | 0, _ => (bl (br (br (bl (bl (br (bl (br (br (bl (br hgv)))))))))))
  | n + 1, h => absurd h (by omega)
theorem w_sn2 {args : Array Value} {s : State} (hgv : (Jvm.Cond.and given_1 narrow_1).before args s = true) : ∀ i : Nat, i < 2 → (Cond.not (Cond.eq (stT i) (stT 2))).before args s = true := fun i hi => match i, hi with
  | 0, _ => (br (br (bl (bl (br (br (bl (br (br (bl (br hgv)))))))))))
  | 1, _ => (bl (br (bl (br (br (bl (br (br (bl (br hgv))))))))))
  | n + 2, h => absurd h (by omega)
theorem w_sn3 {args : Array Value} {s : State} (hgv : (Jvm.Cond.and given_1 narrow_1).before args s = true) : ∀ i : Nat, i < 3 → (Cond.not (Cond.eq (stT i) (stT 3))).before args s = true := fun i hi => match i, hi with
  | 0, _ => (bl (bl (bl (bl (bl (br (br (br (bl (br hgv))))))))))
  | 1, _ => (bl (br (bl (bl (bl (bl (br (br (br (bl (br hgv)))))))))))
  | 2, _ => (br (br (bl (bl (bl (bl (br (br (br (bl (br hgv)))))))))))
  | n + 3, h => absurd h (by omega)
theorem w_sn4 {args : Array Value} {s : State} (hgv : (Jvm.Cond.and given_1 narrow_1).before args s = true) : ∀ i : Nat, i < 4 → (Cond.not (Cond.eq (stT i) (stT 4))).before args s = true := fun i hi => match i, hi with
  | 0, _ => (bl (br (bl (bl (br (bl (br (br (br (bl (br hgv)))))))))))
  | 1, _ => (br (br (bl (bl (br (bl (br (br (br (bl (br hgv)))))))))))
  | 2, _ => (bl (br (bl (br (bl (br (br (br (bl (br hgv))))))))))
  | 3, _ => (bl (br (br (bl (br (bl (br (br (br (bl (br hgv)))))))))))
  | n + 4, h => absurd h (by omega)
theorem w_sn5 {args : Array Value} {s : State} (hgv : (Jvm.Cond.and given_1 narrow_1).before args s = true) : ∀ i : Nat, i < 5 → (Cond.not (Cond.eq (stT i) (stT 5))).before args s = true := fun i hi => match i, hi with
  | 0, _ => (bl (bl (bl (bl (br (br (br (br (bl (br hgv))))))))))
  | 1, _ => (bl (br (bl (bl (bl (br (br (br (br (bl (br hgv)))))))))))
  | 2, _ => (br (br (bl (bl (bl (br (br (br (br (bl (br hgv)))))))))))
  | 3, _ => (bl (br (bl (bl (br (br (br (br (bl (br hgv))))))))))
  | 4, _ => (bl (br (br (bl (bl (br (br (br (br (bl (br hgv)))))))))))
  | n + 5, h => absurd h (by omega)
theorem w_sn6 {args : Array Value} {s : State} (hgv : (Jvm.Cond.and given_1 narrow_1).before args s = true) : ∀ i : Nat, i < 6 → (Cond.not (Cond.eq (stT i) (stT 6))).before args s = true := fun i hi => match i, hi with
  | 0, _ => (bl (br (bl (br (br (br (br (br (bl (br hgv))))))))))
  | 1, _ => (bl (br (br (bl (br (br (br (br (br (bl (br hgv)))))))))))
  | 2, _ => (br (br (br (bl (br (br (br (br (br (bl (br hgv)))))))))))
  | 3, _ => (bl (bl (br (br (br (br (br (br (bl (br hgv))))))))))
  | 4, _ => (bl (br (bl (br (br (br (br (br (br (bl (br hgv)))))))))))
  | 5, _ => (br (br (bl (br (br (br (br (br (br (bl (br hgv)))))))))))
  | n + 6, h => absurd h (by omega)
theorem w_sn7 {args : Array Value} {s : State} (hgv : (Jvm.Cond.and given_1 narrow_1).before args s = true) : ∀ i : Nat, i < 7 → (Cond.not (Cond.eq (stT i) (stT 7))).before args s = true := fun i hi => match i, hi with
  | 0, _ => (bl (bl (br (bl (bl (bl (bl (br (br hgv)))))))))
  | 1, _ => (bl (br (bl (br (bl (bl (bl (bl (br (br hgv))))))))))
  | 2, _ => (br (br (bl (br (bl (bl (bl (bl (br (br hgv))))))))))
  | 3, _ => (bl (bl (br (br (bl (bl (bl (bl (br (br hgv))))))))))
  | 4, _ => (br (bl (br (br (bl (bl (bl (bl (br (br hgv))))))))))
  | 5, _ => (bl (br (br (br (bl (bl (bl (bl (br (br hgv))))))))))
  | 6, _ => (br (br (br (br (bl (bl (bl (bl (br (br hgv))))))))))
  | n + 7, h => absurd h (by omega)
theorem w_sn8 {args : Array Value} {s : State} (hgv : (Jvm.Cond.and given_1 narrow_1).before args s = true) : ∀ i : Nat, i < 8 → (Cond.not (Cond.eq (stT i) (stT 8))).before args s = true := fun i hi => match i, hi with
  | 0, _ => (br (br (bl (br (br (bl (bl (bl (br (br hgv))))))))))
  | 1, _ => (bl (bl (br (br (br (bl (bl (bl (br (br hgv))))))))))
  | 2, _ => (br (bl (br (br (br (bl (bl (bl (br (br hgv))))))))))
  | 3, _ => (bl (br (br (br (br (bl (bl (bl (br (br hgv))))))))))
  | 4, _ => (br (br (br (br (br (bl (bl (bl (br (br hgv))))))))))
  | 5, _ => (bl (bl (bl (bl (br (bl (bl (br (br hgv)))))))))
  | 6, _ => (bl (br (bl (bl (bl (br (bl (bl (br (br hgv))))))))))
  | 7, _ => (br (br (bl (bl (bl (br (bl (bl (br (br hgv))))))))))
  | n + 8, h => absurd h (by omega)
theorem w_sn9 {args : Array Value} {s : State} (hgv : (Jvm.Cond.and given_1 narrow_1).before args s = true) : ∀ i : Nat, i < 9 → (Cond.not (Cond.eq (stT i) (stT 9))).before args s = true := fun i hi => match i, hi with
  | 0, _ => (br (bl (br (br (bl (br (bl (bl (br (br hgv))))))))))
  | 1, _ => (bl (br (br (br (bl (br (bl (bl (br (br hgv))))))))))
  | 2, _ => (br (br (br (br (bl (br (bl (bl (br (br hgv))))))))))
  | 3, _ => (bl (bl (bl (br (br (bl (bl (br (br hgv)))))))))
  | 4, _ => (bl (br (bl (bl (br (br (bl (bl (br (br hgv))))))))))
  | 5, _ => (br (br (bl (bl (br (br (bl (bl (br (br hgv))))))))))
  | 6, _ => (bl (bl (br (bl (br (br (bl (bl (br (br hgv))))))))))
  | 7, _ => (br (bl (br (bl (br (br (bl (bl (br (br hgv))))))))))
  | 8, _ => (bl (br (br (bl (br (br (bl (bl (br (br hgv))))))))))
  | n + 9, h => absurd h (by omega)
theorem w_sn10 {args : Array Value} {s : State} (hgv : (Jvm.Cond.and given_1 narrow_1).before args s = true) : ∀ i : Nat, i < 10 → (Cond.not (Cond.eq (stT i) (stT 10))).before args s = true := fun i hi => match i, hi with
  | 0, _ => (br (br (br (bl (bl (bl (br (bl (br (br hgv))))))))))
  | 1, _ => (bl (bl (br (bl (bl (br (bl (br (br hgv)))))))))
  | 2, _ => (bl (br (bl (br (bl (bl (br (bl (br (br hgv))))))))))
  | 3, _ => (br (br (bl (br (bl (bl (br (bl (br (br hgv))))))))))
  | 4, _ => (bl (bl (br (br (bl (bl (br (bl (br (br hgv))))))))))
  | 5, _ => (br (bl (br (br (bl (bl (br (bl (br (br hgv))))))))))
  | 6, _ => (bl (br (br (br (bl (bl (br (bl (br (br hgv))))))))))
  | 7, _ => (br (br (br (br (bl (bl (br (bl (br (br hgv))))))))))
  | 8, _ => (bl (bl (bl (br (bl (br (bl (br (br hgv)))))))))
  | 9, _ => (bl (br (bl (bl (br (bl (br (bl (br (br hgv))))))))))
  | n + 10, h => absurd h (by omega)
theorem w_sn11 {args : Array Value} {s : State} (hgv : (Jvm.Cond.and given_1 narrow_1).before args s = true) : ∀ i : Nat, i < 11 → (Cond.not (Cond.eq (stT i) (stT 11))).before args s = true := fun i hi => match i, hi with
  | 0, _ => (bl (bl (bl (br (br (br (bl (br (br hgv)))))))))
  | 1, _ => (bl (br (bl (bl (br (br (br (bl (br (br hgv))))))))))
  | 2, _ => (br (br (bl (bl (br (br (br (bl (br (br hgv))))))))))
  | 3, _ => (bl (bl (br (bl (br (br (br (bl (br (br hgv))))))))))
  | 4, _ => (br (bl (br (bl (br (br (br (bl (br (br hgv))))))))))
  | 5, _ => (bl (br (br (bl (br (br (br (bl (br (br hgv))))))))))
  | 6, _ => (br (br (br (bl (br (br (br (bl (br (br hgv))))))))))
  | 7, _ => (bl (bl (br (br (br (br (bl (br (br hgv)))))))))
  | 8, _ => (bl (br (bl (br (br (br (br (bl (br (br hgv))))))))))
  | 9, _ => (br (br (bl (br (br (br (br (bl (br (br hgv))))))))))
  | 10, _ => (bl (bl (br (br (br (br (br (bl (br (br hgv))))))))))
  | n + 11, h => absurd h (by omega)
theorem w_sn12 {args : Array Value} {s : State} (hgv : (Jvm.Cond.and given_1 narrow_1).before args s = true) : ∀ i : Nat, i < 12 → (Cond.not (Cond.eq (stT i) (stT 12))).before args s = true := fun i hi => match i, hi with
  | 0, _ => (br (br (br (bl (bl (bl (bl (br (br (br hgv))))))))))
  | 1, _ => (bl (bl (br (bl (bl (bl (br (br (br hgv)))))))))
  | 2, _ => (bl (br (bl (br (bl (bl (bl (br (br (br hgv))))))))))
  | 3, _ => (br (br (bl (br (bl (bl (bl (br (br (br hgv))))))))))
  | 4, _ => (bl (bl (br (br (bl (bl (bl (br (br (br hgv))))))))))
  | 5, _ => (br (bl (br (br (bl (bl (bl (br (br (br hgv))))))))))
  | 6, _ => (bl (br (br (br (bl (bl (bl (br (br (br hgv))))))))))
  | 7, _ => (br (br (br (br (bl (bl (bl (br (br (br hgv))))))))))
  | 8, _ => (bl (bl (bl (br (bl (bl (br (br (br hgv)))))))))
  | 9, _ => (bl (br (bl (bl (br (bl (bl (br (br (br hgv))))))))))
  | 10, _ => (br (br (bl (bl (br (bl (bl (br (br (br hgv))))))))))
  | 11, _ => (br (bl (br (bl (br (bl (bl (br (br (br hgv))))))))))
  | n + 12, h => absurd h (by omega)
theorem w_sn13 {args : Array Value} {s : State} (hgv : (Jvm.Cond.and given_1 narrow_1).before args s = true) : ∀ i : Nat, i < 13 → (Cond.not (Cond.eq (stT i) (stT 13))).before args s = true := fun i hi => match i, hi with
  | 0, _ => (br (bl (br (br (br (bl (bl (br (br (br hgv))))))))))
  | 1, _ => (bl (br (br (br (br (bl (bl (br (br (br hgv))))))))))
  | 2, _ => (br (br (br (br (br (bl (bl (br (br (br hgv))))))))))
  | 3, _ => (bl (bl (bl (bl (br (bl (br (br (br hgv)))))))))
  | 4, _ => (bl (br (bl (bl (bl (br (bl (br (br (br hgv))))))))))
  | 5, _ => (br (br (bl (bl (bl (br (bl (br (br (br hgv))))))))))
  | 6, _ => (bl (br (bl (bl (br (bl (br (br (br hgv)))))))))
  | 7, _ => (bl (br (br (bl (bl (br (bl (br (br (br hgv))))))))))
  | 8, _ => (br (br (br (bl (bl (br (bl (br (br (br hgv))))))))))
  | 9, _ => (bl (bl (br (bl (br (bl (br (br (br hgv)))))))))
  | 10, _ => (bl (br (bl (br (bl (br (bl (br (br (br hgv))))))))))
  | 11, _ => (bl (bl (br (br (bl (br (bl (br (br (br hgv))))))))))
  | 12, _ => (br (bl (br (br (bl (br (bl (br (br (br hgv))))))))))
  | n + 13, h => absurd h (by omega)
theorem w_sn14 {args : Array Value} {s : State} (hgv : (Jvm.Cond.and given_1 narrow_1).before args s = true) : ∀ i : Nat, i < 14 → (Cond.not (Cond.eq (stT i) (stT 14))).before args s = true := fun i hi => match i, hi with
  | 0, _ => (br (br (bl (br (br (br (bl (br (br (br hgv))))))))))
  | 1, _ => (bl (bl (br (br (br (br (bl (br (br (br hgv))))))))))
  | 2, _ => (br (bl (br (br (br (br (bl (br (br (br hgv))))))))))
  | 3, _ => (bl (br (br (br (br (br (bl (br (br (br hgv))))))))))
  | 4, _ => (br (br (br (br (br (br (bl (br (br (br hgv))))))))))
  | 5, _ => (bl (bl (bl (bl (bl (br (br (br (br hgv)))))))))
  | 6, _ => (bl (br (bl (bl (bl (bl (br (br (br (br hgv))))))))))
  | 7, _ => (br (br (bl (bl (bl (bl (br (br (br (br hgv))))))))))
  | 8, _ => (bl (br (bl (bl (bl (br (br (br (br hgv)))))))))
  | 9, _ => (bl (br (br (bl (bl (bl (br (br (br (br hgv))))))))))
  | 10, _ => (br (br (br (bl (bl (bl (br (br (br (br hgv))))))))))
  | 11, _ => (bl (br (bl (br (bl (bl (br (br (br (br hgv))))))))))
  | 12, _ => (br (br (bl (br (bl (bl (br (br (br (br hgv))))))))))
  | 13, _ => (bl (bl (br (br (bl (bl (br (br (br (br hgv))))))))))
  | n + 14, h => absurd h (by omega)
theorem w_sn15 {args : Array Value} {s : State} (hgv : (Jvm.Cond.and given_1 narrow_1).before args s = true) : ∀ i : Nat, i < 15 → (Cond.not (Cond.eq (stT i) (stT 15))).before args s = true := fun i hi => match i, hi with
  | 0, _ => (br (br (br (bl (br (bl (br (br (br (br hgv))))))))))
  | 1, _ => (bl (bl (br (br (bl (br (br (br (br hgv)))))))))
  | 2, _ => (bl (br (bl (br (br (bl (br (br (br (br hgv))))))))))
  | 3, _ => (br (br (bl (br (br (bl (br (br (br (br hgv))))))))))
  | 4, _ => (bl (bl (br (br (br (bl (br (br (br (br hgv))))))))))
  | 5, _ => (br (bl (br (br (br (bl (br (br (br (br hgv))))))))))
  | 6, _ => (bl (br (br (br (br (bl (br (br (br (br hgv))))))))))
  | 7, _ => (br (br (br (br (br (bl (br (br (br (br hgv))))))))))
  | 8, _ => (bl (bl (bl (bl (br (br (br (br (br hgv)))))))))
  | 9, _ => (bl (br (bl (bl (bl (br (br (br (br (br hgv))))))))))
  | 10, _ => (br (br (bl (bl (bl (br (br (br (br (br hgv))))))))))
  | 11, _ => (bl (br (br (bl (bl (br (br (br (br (br hgv))))))))))
  | 12, _ => (br (br (br (bl (bl (br (br (br (br (br hgv))))))))))
  | 13, _ => (bl (bl (br (bl (br (br (br (br (br hgv)))))))))
  | 14, _ => (bl (br (bl (br (bl (br (br (br (br (br hgv))))))))))
  | n + 15, h => absurd h (by omega)
theorem w_sn {args : Array Value} {s : State} (hgv : (Jvm.Cond.and given_1 narrow_1).before args s = true) : ∀ j : Nat, j < 16 → ∀ i : Nat, i < j → (Cond.not (Cond.eq (stT i) (stT j))).before args s = true := fun j hj => match j, hj with
  | 0, _ => fun i h => absurd h (Nat.not_lt_zero i)
  | 1, _ => w_sn1 hgv
  | 2, _ => w_sn2 hgv
  | 3, _ => w_sn3 hgv
  | 4, _ => w_sn4 hgv
  | 5, _ => w_sn5 hgv
  | 6, _ => w_sn6 hgv
  | 7, _ => w_sn7 hgv
  | 8, _ => w_sn8 hgv
  | 9, _ => w_sn9 hgv
  | 10, _ => w_sn10 hgv
  | 11, _ => w_sn11 hgv
  | 12, _ => w_sn12 hgv
  | 13, _ => w_sn13 hgv
  | 14, _ => w_sn14 hgv
  | 15, _ => w_sn15 hgv
  | n + 16, h => absurd h (by omega)
theorem w_sr {args : Array Value} {s : State} (htb : ∀ w ∈ lw_tbl, w.before args s = true) : ∀ i : Nat, i < 16 → (Cond.stringRef "HorizonSeam$Reader" (stK.getD i 0) ((scL.getD i ("", 0, "", 0)).2.2.1)).before args s = true := fun i hi => match i, hi with
  | 0, _ => (htb _ q778)
  | 1, _ => (htb _ q779)
  | 2, _ => (htb _ q780)
  | 3, _ => (htb _ q781)
  | 4, _ => (htb _ q782)
  | 5, _ => (htb _ q783)
  | 6, _ => (htb _ q784)
  | 7, _ => (htb _ q785)
  | 8, _ => (htb _ q786)
  | 9, _ => (htb _ q787)
  | 10, _ => (htb _ q853)
  | 11, _ => (htb _ q1252)
  | 12, _ => (htb _ q1325)
  | 13, _ => (htb _ q1330)
  | 14, _ => (htb _ q1331)
  | 15, _ => (htb _ q1336)
  | n + 16, h => absurd h (by omega)
