set_option maxRecDepth 100000
/-! THE FRAME, ninth part: the law's two worlds -/
/-- the reference's cells are none of the other's -/
def DIS (ct : CT) (ad ad2 : Nat → Nat) (G : GS) : Prop := ∀ j, j < 31 → ct.2.2.1 ≤ ad2 j ∧ ad2 j < G.2.1 ∧ (∀ i, i < 26 → ad2 j ≠ ad i) ∧ G.1 (ad2 j) = none
def LW (D : va_G) (ct : CT) (ad2 ad : Nat → Nat) (P : Nat → Nat → Option Nat) (A : Nat → Prop) (S : US) (G0 G : GS) (S2 : US) (w2 : Int64) (H : Heap) : Prop :=
  YW D clW ckH ct 26 ad P A S 0 G0 G H ∧ UM D ct ad2 A S2 w2 H ∧ DIS ct ad ad2 G
/-- a place of a free array of longs is read -/
def hJ {ρ : Type} (h : AH) (a : Nat) (j : Int32) (kp : Int64 → Option ρ) : Option ρ := match h a with
  | some (_, .inl (3, n, .inr (.inl f))) => if j < 0 ∨ n ≤ j.toNatClampNeg then none else kp (f j.toNatClampNeg)
  | _ => none
theorem hJ_some {ρ : Type} {h : AH} {a : Nat} {j : Int32} {kp : Int64 → Option ρ} {o : ρ} (ho : hJ h a j kp = some o) : ∃ (n : Nat) (f : Nat → Int64) (bw : Bool), h a = some (bw, .inl (3, n, .inr (.inl f))) ∧ ¬ (j < 0 ∨ n ≤ j.toNatClampNeg) ∧ kp (f j.toNatClampNeg) = some o := by
  unfold hJ at ho
  split at ho
  · rename_i bw n f e
    split at ho
    · cases ho
    · rename_i hn
      exact ⟨n, f, bw, e, hn, ho⟩
  · cases ho
section LL
variable {ρ ρ' : Type} {p : Program} {l : Launch} {e : Env} {R : Room} {s : State} {m : MethodId} {args : Array Value} {below : List Frame} {meth : Method} {c : Code} {H : Heap} {locs : List Loc} {Qf : ρ → State → Prop} {sp : Option ρ}
variable {cc : ByteArray} {pc nL len : Nat} {ls : Array Slot} {rest st0 : List Value} {own : String} {cells slots : Nat} {h : AH}
variable {D : va_G} {ct : CT} {ad ad2 : Nat → Nat} {P : Nat → Nat → Option Nat} {A : Nat → Prop} {S S2 : US} {w2 : Int64} {G0 G : GS}
variable {sp' : Option ρ'} {kp : ρ' → Option ρ} {val' : ρ' → Option Value} {So : ρ' → US} {Po : ρ' → Nat → Nat → Option Nat} {Do : ρ' → Nat → Nat} {Gn : ρ' → GS} {wo : ρ' → Int64}
theorem fx_laload (E : ME p m c cc nL s args own D clW ct) (hh : AP D clW ct h H) {q : Nat} {j : Int32} {kp : Int64 → Option ρ} (hdg : decode cc pc = .ok (.laload, 1))
    (kk : ∀ v, X p l e R s m args below meth c H locs cells slots Qf (kp v) (F0 m (pc + 1) ls (.long v :: rest))) : X p l e R s m args below meth c H locs cells slots Qf (hJ h q j kp) (F0 m pc ls (.int j :: .ref q :: rest)) := fun o ho => by
  obtain ⟨⟨hx, hb, hml, hown, hts⟩, hK, hJ⟩ := E
  obtain ⟨n, f, bw, h1, hin, h3⟩ := hJ_some ho
  obtain ⟨cell, r1, r2, r3, r4, r5, r6⟩ := (hh q _ h1).1
  have hlt : j.toNatClampNeg < n := Nat.not_le.mp fun q => hin (Or.inr q)
  exact W.lald (v := .long (f j.toNatClampNeg)) hx hb r1 (rd_arr hK (t := 3) rfl r2 r4) r3 (by rw [r5]; exact hin) (r6 _ hlt) rfl rfl hdg (kk _ o h3)
/-- the law's script -/
theorem lx_sld {b L : Nat} {xs : Nat → Int32} {i : Int32} (E : ME p m c cc nL s args own D clW ct) (hX : va_X b L xs s s.heap) (hbl : b < s.heap.size) (hbA : ¬ A b) (hS : va_S A s.heap H locs) (hdg : decode cc pc = .ok (.iaload, 1))
    (kk : X p l e R s m args below meth c H locs cells slots Qf sp (F0 m (pc + 1) ls (.int (xs i.toNatClampNeg) :: rest))) : X p l e R s m args below meth c H locs cells slots Qf (if i < 0 ∨ L ≤ i.toNatClampNeg then none else sp) (F0 m pc ls (.int i :: .ref b :: rest)) := X.guard fun hn o ho =>
  va_sld E.1.1 E.1.2.1 hX hbl hbA hS (fun h => hn h) hdg (kk o ho)
theorem lx_slen {b L : Nat} {xs : Nat → Int32} (E : ME p m c cc nL s args own D clW ct) (hX : va_X b L xs s s.heap) (hbl : b < s.heap.size) (hbA : ¬ A b) (hS : va_S A s.heap H locs) (hdg : decode cc pc = .ok (.arraylength, 1))
    (kk : X p l e R s m args below meth c H locs cells slots Qf sp (F0 m (pc + 1) ls (.int (Int32.ofNat L) :: rest))) : X p l e R s m args below meth c H locs cells slots Qf sp (F0 m pc ls (.ref b :: rest)) := fun o ho =>
  va_slen E.1.1 E.1.2.1 hX hbl hbA hS hdg (kk o ho)
theorem DIS.out (hL : LW D ct ad2 ad P A S G0 G S2 w2 H) {j : Nat} (hj : j < 31) : ¬ mA 26 ad G (ad2 j) := fun hq => by
  obtain ⟨h1, h2, h3, h4⟩ := hL.2.2 j hj
  rcases hq with ⟨i, hi, e⟩ | ⟨x, hx⟩ | hq
  · exact h3 i hi e
  · rw [h4] at hx; cases hx
  · exact Nat.not_le.mpr h2 hq
/-- behind a call of the one, the other's world stands as it did -/
theorem LW.after {ad' : Nat → Nat} {P' : Nat → Nat → Option Nat} {S' : US} {G' : GS} {H1 : Heap} (hL : LW D ct ad2 ad P A S G0 G S2 w2 H) (hA : ∀ q, mA 26 ad G q → A q) (hM : MW D clW ckH ct 26 ad' P' (mA 26 ad G) S' 0 G' H1) (hn1 : G.2.1 ≤ G'.2.1) (hn2 : G.2.2 ≤ G'.2.2) (hk : ∀ q : Nat, q < H.size → ¬ mA 26 ad G q → H1[q]? = H[q]?) : LW D ct ad2 ad' P' A S' G0 G' S2 w2 H1 := by
  refine ⟨⟨hM.to fun q hq _ => hA q hq, Nat.le_trans hL.1.2.1 hn1, Nat.le_trans hL.1.2.2 hn2⟩, hL.2.1.kept fun j hj => hk _ (hL.2.1.lt hj) (DIS.out hL hj), fun j hj => ?_⟩
  obtain ⟨h1, h2, h3, h4⟩ := hL.2.2 j hj
  refine ⟨h1, Nat.lt_of_lt_of_le h2 hn1, fun i hi e => DIS.out hL hj (by rw [e]; exact hM.1.1.inA hi), ?_⟩
  cases hg : G'.1 (ad2 j) with
  | none => rfl
  | some q =>
    obtain ⟨bw, x⟩ := q
    cases bw with
    | true => exact absurd (hM.2.2.1 _ x hg) (DIS.out hL hj)
    | false => exact absurd (hM.1.2.2.2.2.2.2.2 _ x hg) (Nat.not_lt.mpr h1)
theorem LW.reg (hC : YC ct R s A G0) (hL : LW D ct ad2 ad P A S G0 G S2 w2 H) : ∀ q, mA 26 ad G q → A q := fun q hq => by
  rcases hq with ⟨j, hj, rfl⟩ | ⟨x, hx⟩ | hq
  · exact hL.1.1.1.1.inA hj
  · exact hL.1.1.2.2.1 q x hx
  · exact hC.2.2.2 q (Nat.le_trans hL.1.2.1 hq)
/-- a call of the one that makes cells -/
theorem gl_mx (hC : YC ct R s A G0) (hL : LW D ct ad2 ad P A S G0 G S2 w2 H) (hS : va_S A s.heap H locs) (hr : ∀ o, sp' = some o → ∃ arr, RunL len p l e R s m args below meth c H locs (G.2.1 - G0.2.1) (G.2.2 - G0.2.2) (nmax ct - G.2.1) (zmax ct - G.2.2) (F0 m pc ls st0) rest (yC (val' o) (MW D clW ckH ct 26 (Do o) (Po o) (mA 26 ad G) (So o) 0 (Gn o)) G (Gn o) (mA 26 ad G) arr) (mA 26 ad G))
    (kk : ∀ (o : ρ') (H1 : Heap) (locs1 : List Loc), LW D ct ad2 (Do o) (Po o) A (So o) G0 (Gn o) S2 w2 H1 → va_S A s.heap H1 locs1 → X p l e R s m args below meth c H1 locs1 ((Gn o).2.1 - G0.2.1) ((Gn o).2.2 - G0.2.2) Qf (kp o) (F0 m (pc + len) ls ((val' o).toList ++ rest))) : X p l e R s m args below meth c H locs (G.2.1 - G0.2.1) (G.2.2 - G0.2.2) Qf (callK sp' kp) (F0 m pc ls st0) := fun oo hoo => by
  refine W.know fun b1 b2 b3 b4 => ?_
  obtain ⟨o, h1, h2⟩ := callK_some hoo
  obtain ⟨arr, hr⟩ := hr o h1
  have hA := LW.reg hC hL
  intro T hT X
  obtain ⟨v, st₀, t, T', L, h0, X', hLL, e1, e2, ⟨hv, ⟨hb, hn1, hn2, hn3, hn4⟩, hz, hk⟩, st⟩ := hr T hT X
  cases hv
  rw [h0] at hz hk hn4
  have hsz := hC.1
  have hsz2 := hL.1.1.2.1
  have hg1 := hL.1.2.1
  have hg2 := hL.1.2.2
  obtain ⟨t2, a1, b1⟩ := W.tight (k := (Gn o).2.1 - G0.2.1) (n := (Gn o).2.2 - G0.2.2) (by rw [e1, hn3, hsz]; omega) (by rw [e1]; omega) (kk o T'.heap (locs ++ L) (hL.after hA (by rw [e1]; exact hb) hn1 hn2 (fun q h1 h2 => by rw [e1]; exact hk q h1 h2))
    ⟨Nat.le_trans hS.1 (by rw [e1]; exact hz), fun q h1 h2 => by rw [e1, hk q (Nat.lt_of_lt_of_le h1 hS.1) (fun z => h2 (hA q z))]; exact hS.2.1 q h1 h2, fun q hq => by
      rcases List.mem_append.mp hq with h | h
      · exact hS.2.2 q h
      · exact hA _ (hLL q h)⟩ oo h2) T' rfl X'
  exact ⟨t2, st t2 a1, b1⟩
/-- .. that changes numbers alone -/
theorem gl_mod (hC : YC ct R s A G0) (hL : LW D ct ad2 ad P A S G0 G S2 w2 H) (hS : va_S A s.heap H locs) (hr : ∀ o, sp' = some o → ∃ arr, RunL len p l e R s m args below meth c H locs (G.2.1 - G0.2.1) (G.2.2 - G0.2.2) 0 0 (F0 m pc ls st0) rest (mC (val' o) (UW D clW ckH ct 26 ad P (fun _ => True) (So o) 0) (uA 26 ad H.size) arr) (uA 26 ad H.size))
    (kk : ∀ (o : ρ') (H1 : Heap) (locs1 : List Loc), LW D ct ad2 ad P A (So o) G0 G S2 w2 H1 → va_S A s.heap H1 locs1 → X p l e R s m args below meth c H1 locs1 (G.2.1 - G0.2.1) (G.2.2 - G0.2.2) Qf (kp o) (F0 m (pc + len) ls ((val' o).toList ++ rest))) : X p l e R s m args below meth c H locs (G.2.1 - G0.2.1) (G.2.2 - G0.2.2) Qf (callK sp' kp) (F0 m pc ls st0) :=
  x_afterL (Bt' := fun o => UW D clW ckH ct 26 ad P (fun _ => True) (So o) 0) hS (fun q hq => by
      rcases hq with ⟨j, hj, rfl⟩ | hq
      · exact hL.1.1.1.1.inA hj
      · exact hC.2.2.2 q (Nat.le_trans (by rw [← hC.1]; exact hS.1) hq)) hr fun o H1 locs1 _ hB hz hk hS1 oo hoo => W.know fun k1 k2 k3 k4 => kk o H1 locs1 ⟨⟨hL.1.1.of_gw (GW.after hL.1.1.1 hB hz hk) (by
    have h1 := hL.1.1.2.1
    have h2 := hC.1
    have h3 := hL.1.2.1
    omega), hL.1.2⟩, hL.2.1.kept fun j hj => hk _ (hL.2.1.lt hj) (fun hq => by
      rcases hq with ⟨i, hi, e⟩ | hq
      · exact (hL.2.2 j hj).2.2.1 i hi e
      · exact Nat.not_le.mpr (hL.2.1.lt hj) hq), hL.2.2⟩ hS1 oo hoo
/-- .. that changes nothing -/
theorem gl_ro (hC : YC ct R s A G0) (hL : LW D ct ad2 ad P A S G0 G S2 w2 H) (hS : va_S A s.heap H locs) (hr : ∀ o, sp' = some o → ∃ arr, RunL len p l e R s m args below meth c H locs (G.2.1 - G0.2.1) (G.2.2 - G0.2.2) 0 0 (F0 m pc ls st0) rest (mC (val' o) (fun _ => True) (nA H.size) arr) (nA H.size))
    (kk : ∀ (o : ρ') (H1 : Heap) (locs1 : List Loc), LW D ct ad2 ad P A S G0 G S2 w2 H1 → va_S A s.heap H1 locs1 → X p l e R s m args below meth c H1 locs1 (G.2.1 - G0.2.1) (G.2.2 - G0.2.2) Qf (kp o) (F0 m (pc + len) ls ((val' o).toList ++ rest))) : X p l e R s m args below meth c H locs (G.2.1 - G0.2.1) (G.2.2 - G0.2.2) Qf (callK sp' kp) (F0 m pc ls st0) :=
  x_afterL (Bt' := fun _ _ => True) hS (fun q hq => hC.2.2.2 q (Nat.le_trans (by rw [← hC.1]; exact hS.1) hq)) hr fun o H1 locs1 _ _ hz hk hS1 oo hoo => W.know fun k1 k2 k3 k4 => kk o H1 locs1 ⟨⟨hL.1.1.of_gw (hL.1.1.1.kept hz fun q hq => hk q hq (Nat.not_le.mpr hq)) (by
    have h1 := hL.1.1.2.1
    have h2 := hC.1
    have h3 := hL.1.2.1
    omega), hL.1.2⟩, hL.2.1.kept fun j hj => hk _ (hL.2.1.lt hj) (Nat.not_le.mpr (hL.2.1.lt hj)), hL.2.2⟩ hS1 oo hoo
/-- a call of the reference -/
theorem gm_mod (hC : YC ct R s A G0) (hL : LW D ct ad2 ad P A S G0 G S2 w2 H) (hS : va_S A s.heap H locs) (hr : ∀ o, sp' = some o → ∃ arr, RunL len p l e R s m args below meth c H locs (G.2.1 - G0.2.1) (G.2.2 - G0.2.2) 0 0 (F0 m pc ls st0) rest (mC (val' o) (UM D ct ad2 (fun _ => True) (So o) (wo o)) (uA 31 ad2 H.size) arr) (uA 31 ad2 H.size))
    (kk : ∀ (o : ρ') (H1 : Heap) (locs1 : List Loc), LW D ct ad2 ad P A S G0 G (So o) (wo o) H1 → va_S A s.heap H1 locs1 → X p l e R s m args below meth c H1 locs1 (G.2.1 - G0.2.1) (G.2.2 - G0.2.2) Qf (kp o) (F0 m (pc + len) ls ((val' o).toList ++ rest))) : X p l e R s m args below meth c H locs (G.2.1 - G0.2.1) (G.2.2 - G0.2.2) Qf (callK sp' kp) (F0 m pc ls st0) :=
  x_afterL (Bt' := fun o => UM D ct ad2 (fun _ => True) (So o) (wo o)) hS (fun q hq => by
      rcases hq with ⟨j, hj, rfl⟩ | hq
      · exact hL.2.1.inA hj
      · exact hC.2.2.2 q (Nat.le_trans (by rw [← hC.1]; exact hS.1) hq)) hr fun o H1 locs1 _ hB hz hk hS1 oo hoo => W.know fun k1 k2 k3 k4 => by
    have hG := hL.1.1.1
    have hno : ∀ q : Nat, q < H.size → (∀ j, j < 31 → q ≠ ad2 j) → H1[q]? = H[q]? := fun q h1 h2 => hk q h1 (fun hq => by
      rcases hq with ⟨j, hj, e⟩ | hq
      · exact h2 j hj e
      · exact Nat.not_le.mpr h1 hq)
    refine kk o H1 locs1 ⟨⟨hL.1.1.of_gw ⟨hG.1.kept fun i hi => hno _ (hG.1.lt hi) (fun j hj e => (hL.2.2 j hj).2.2.1 i hi e.symm), hG.2.1.kept fun a e ha => hno a (hG.2.1.lt ha) (fun j hj e9 => by rw [e9, (hL.2.2 j hj).2.2.2] at ha; cases ha), hG.2.2.1, fun q hlt => (hno q (Nat.lt_of_lt_of_le hlt hG.2.2.2.2.1) (fun j hj e => by have := (hL.2.2 j hj).1; omega)).trans (hG.2.2.2.1 q hlt), Nat.le_trans hG.2.2.2.2.1 hz, hG.2.2.2.2.2⟩ (by
      have h1 := hL.1.1.2.1
      have h2 := hC.1
      have h3 := hL.1.2.1
      omega), hL.1.2⟩, hB.to fun j hj => hL.2.1.inA hj, hL.2.2⟩ hS1 oo hoo
theorem LW.room (hC : YC ct R s A G0) (hL : LW D ct ad2 ad P A S G0 G S2 w2 H) : G.2.1 - G0.2.1 + (nmax ct - G.2.1) ≤ R.cells ∧ G.2.2 - G0.2.2 + (zmax ct - G.2.2) ≤ R.slots := YW.room hC hL.1
theorem LW.room0 (hC : YC ct R s A G0) (hL : LW D ct ad2 ad P A S G0 G S2 w2 H) : G.2.1 - G0.2.1 ≤ R.cells ∧ G.2.2 - G0.2.2 ≤ R.slots := YW.room0 hC hL.1
end LL
/-! from free cells to the two worlds -/
def fldAt (G : GS) (a k : Nat) : Nat := match G.1 a with
  | some (_, .inr (_, fs)) => (match fs[k]? with
    | some (.ref b) => b
    | _ => 0)
  | _ => 0
/-- the field that names the cell i -/
def fNo (fk : Nat → Nat) (n i : Nat) : Nat := ((List.range n).find? (fun k => fk k == i + 3)).getD 0
def nwX (G : GS) (a : Nat) : Nat → Nat := fun i => if i = 0 then a else if i < 5 then fldAt G a (fNo fkX 15 i) else if (i - 5) % 7 = 0 then fldAt G a (fNo fkX 15 i) else fldAt G (fldAt G a (fNo fkX 15 (i - (i - 5) % 7))) (fNo (fkL ((i - 5) / 7)) 8 i)
def nwM (G : GS) (a : Nat) : Nat → Nat := fun i => if i = 0 then a else fldAt G a (fNo fkM 63 i)
def isOwn (ck : Nat → UC) (nw : Nat → Nat) (G : GS) (i : Nat) : Bool := match G.1 (nw i) with
  | some (true, x) => chkU ck nw i x
  | _ => false
def promOk (G : GS) (a b : Nat) : Bool := (List.range 26).all (isOwn ckH (nwX G a) G) && ((List.range 31).all (isOwn ckM (nwM G b) G) && ((List.range 26).all (fun i => (List.range 26).all (fun j => decide (nwX G a i = nwX G a j) == decide (i = j))) && ((List.range 31).all (fun i => (List.range 31).all (fun j => decide (nwM G b i = nwM G b j) == decide (i = j))) && (List.range 26).all (fun i => (List.range 31).all (fun j => !decide (nwX G a i = nwM G b j))))))
def wS (G : GS) (nw : Nat → Nat) : US := fun i => match G.1 (nw i) with
  | some e => getS e.2
  | none => fun _ => 0
def wP (G : GS) (nw : Nat → Nat) : Nat → Nat → Option Nat := fun i => match G.1 (nw i) with
  | some e => getP e.2
  | none => fun _ => none
def wG (G : GS) (a b : Nat) : GS := (fun q => if ((List.range 26).any (fun i => q == nwX G a i) || (List.range 31).any (fun j => q == nwM G b j)) = true then none else G.1 q, G.2)
def prom {ρ : Type} (G : GS) (a b : Nat) (kp : US → GS → (Nat → Nat → Option Nat) → (Nat → Nat) → US → (Nat → Nat) → Option ρ) : Option ρ := if promOk G a b = true then kp (wS G (nwX G a)) (wG G a b) (wP G (nwX G a)) (nwX G a) (wS G (nwM G b)) (nwM G b) else none
theorem ckM_arr : ∀ k, k < 30 → (ckM (k + 1)).isRight = true := by decide +kernel
theorem uE_noP {ck : Nat → UC} {ct : CT} {ad : Nat → Nat} {P P' : Nat → Nat → Option Nat} {S : US} {w : Int64} {i : Nat} (h : ∀ ci n fk, ck i = .inl (ci, n, fk) → ∀ k, k < n → fk k ≠ 2) : uE ck ct ad P S w i = uE ck ct ad P' S w i := by
  cases hc : ck i with
  | inl q =>
    obtain ⟨ci, n, fk⟩ := q
    rw [uE_obj hc, uE_obj hc]
    congr 2
    apply List.map_congr_left
    intro k hk
    have h2 := h ci n fk hc k (List.mem_range.mp hk)
    unfold uV
    split <;> first | rfl | (rename_i e; exact absurd e h2)
  | inr q =>
    obtain ⟨t, n⟩ := q
    rw [uE_arr hc, uE_arr hc]
theorem isOwn_ok {ck : Nat → UC} {nw : Nat → Nat} {G : GS} {ct : CT} {i : Nat} (h : isOwn ck nw G i = true) : ∃ x, G.1 (nw i) = some (true, x) ∧ wE ct x = uE ck ct nw (wP G nw) (wS G nw) 0 i := by
  unfold isOwn at h
  split at h
  · rename_i x e
    exact ⟨x, e, chkU_ok h (by unfold wS; rw [e]) (by unfold wP; rw [e])⟩
  · cases h
theorem prom_uw {D : va_G} {ck ck1 : Nat → UC} {ct : CT} {N n : Nat} {ad nw : Nat → Nat} {P : Nat → Nat → Option Nat} {A : Nat → Prop} {S : US} {w : Int64} {G : GS} {H : Heap} (hM : MW D clW ck ct N ad P A S w G H) (h1 : (List.range n).all (isOwn ck1 nw G) = true) (h2 : (List.range n).all (fun i => (List.range n).all (fun j => decide (nw i = nw j) == decide (i = j))) = true) : UW D clW ck1 ct n nw (wP G nw) A (wS G nw) 0 H := by
  have h1 := fun i hi => isOwn_ok (ct := ct) (List.all_eq_true.mp h1 i (List.mem_range.mpr hi))
  have h2 : ∀ i j, i < n → j < n → nw i = nw j → i = j := fun i j hi hj e => by
    have := List.all_eq_true.mp (List.all_eq_true.mp h2 i (List.mem_range.mpr hi)) j (List.mem_range.mpr hj)
    rw [decide_eq_true e] at this
    simpa using this
  refine ⟨fun k q hk => ?_, fun i j p q hi hj e => ?_, fun k q hk => ?_⟩
  · obtain ⟨hk1, rfl⟩ := uws_in hk
    obtain ⟨x, hx, he⟩ := h1 k hk1
    rw [← he]
    exact (hM.1.2.1 _ _ hx).2 rfl
  · obtain ⟨hi1, rfl⟩ := uws_in hi
    obtain ⟨hj1, rfl⟩ := uws_in hj
    exact h2 i j hi1 hj1 e
  · obtain ⟨hk1, rfl⟩ := uws_in hk
    obtain ⟨x, hx, he⟩ := h1 k hk1
    exact hM.2.2.1 _ x hx
theorem prom_world {D : va_G} {ck : Nat → UC} {ct : CT} {ad : Nat → Nat} {P : Nat → Nat → Option Nat} {A : Nat → Prop} {S : US} {w : Int64} {G0 G : GS} {H : Heap} {a b : Nat} (hY : YW D clW ck ct 0 ad P A S w G0 G H) (h : promOk G a b = true) : LW D ct (nwM G b) (nwX G a) (wP G (nwX G a)) A (wS G (nwX G a)) G0 (wG G a b) (wS G (nwM G b)) 0 H := by
  obtain ⟨hM, hg1, hg2⟩ := hY
  unfold promOk at h
  simp only [Bool.and_eq_true] at h
  obtain ⟨q1, q2, q3, q4, q5⟩ := h
  have u1 := prom_uw hM q1 q3
  have u2 := prom_uw hM q2 q4
  have c1 := fun i (hi : i < 26) => isOwn_ok (ct := ct) (List.all_eq_true.mp q1 i (List.mem_range.mpr hi))
  have c2 := fun i (hi : i < 31) => isOwn_ok (ct := ct) (List.all_eq_true.mp q2 i (List.mem_range.mpr hi))
  have c3 : ∀ i j, i < 26 → j < 31 → nwX G a i ≠ nwM G b j := fun i j hi hj e => by
    have := List.all_eq_true.mp (List.all_eq_true.mp q5 i (List.mem_range.mpr hi)) j (List.mem_range.mpr hj)
    rw [decide_eq_true e] at this
    cases this
  obtain ⟨⟨hU, hP, hD, hO⟩, h2, h3, h4⟩ := hM
  have hg : ∀ (q : Nat) (x : AE), (wG G a b).1 q = some x → G.1 q = some x ∧ (∀ i, i < 26 → q ≠ nwX G a i) ∧ ∀ j, j < 31 → q ≠ nwM G b j := fun q x hx => by
    unfold wG at hx
    dsimp only at hx
    split at hx
    · cases hx
    · rename_i hn
      exact ⟨hx, fun i hi e => hn (by rw [Bool.or_eq_true]; exact Or.inl (List.any_eq_true.mpr ⟨i, List.mem_range.mpr hi, by simp [e]⟩)), fun j hj e => hn (by rw [Bool.or_eq_true]; exact Or.inr (List.any_eq_true.mpr ⟨j, List.mem_range.mpr hj, by simp [e]⟩))⟩
  refine ⟨⟨⟨⟨u1, fun q x hx => hP q x (hg q x hx).1, fun q x i hx hi => (hg q x hx).2.1 i hi, hO.1, hO.2.1, fun i hi => ?_, fun q x hx => hO.2.2.2.1 q x (hg q _ hx).1, fun q x hx => hO.2.2.2.2 q x (hg q _ hx).1⟩, h2, fun q x hx => h3 q x (hg q _ hx).1, h4⟩, hg1, hg2⟩, ?_, fun j hj => ?_⟩
  · obtain ⟨x, hx, -⟩ := c1 i hi
    exact hO.2.2.2.1 _ x hx
  · refine ⟨fun k q hk => ?_, fun i j p q hi hj e => ?_, fun k q hk => ?_⟩
    · obtain ⟨hk1, rfl⟩ := uws_in hk
      have := u2.1 k _ (uws_at hk1)
      rw [uE_noP (P' := P0)] at this
      · exact this
      · intro ci n fk hc k9 hk9
        match k, hk1, hc with
        | 0, _, hc => cases hc; revert k9; decide
        | k + 1, hk1, hc =>
          exfalso
          revert hc
          have : (ckM (k + 1)).isRight = true := ckM_arr k (by omega)
          cases hck : ckM (k + 1) with
          | inl z => rw [hck] at this; cases this
          | inr z => intro hc; cases hc
    · obtain ⟨hi1, rfl⟩ := uws_in hi
      obtain ⟨hj1, rfl⟩ := uws_in hj
      exact u2.2.1 i j _ _ (uws_at hi1) (uws_at hj1) e
    · obtain ⟨hk1, rfl⟩ := uws_in hk
      exact u2.2.2 k (nwM G b k, uE ckM ct (nwM G b) (wP G (nwM G b)) (wS G (nwM G b)) 0 k) (uws_at hk1)
  · obtain ⟨x, hx, -⟩ := c2 j hj
    refine ⟨hO.2.2.2.1 _ x hx, by have := hP.lt hx; show nwM G b j < G.2.1; omega, fun i hi e => c3 i j hi hj e.symm, ?_⟩
    unfold wG
    exact if_pos (by rw [Bool.or_eq_true]; exact Or.inr (List.any_eq_true.mpr ⟨j, List.mem_range.mpr hj, by simp⟩))
