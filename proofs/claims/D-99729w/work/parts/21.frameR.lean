set_option maxRecDepth 100000
/-! THE FRAME, fifth part: references in the numbered cells change (a line, a ring, a list is put in another's place) -/
section RL
variable {ρ ρ' : Type} {p : Program} {l : Launch} {e : Env} {R : Room} {s : State} {m : MethodId} {args : Array Value} {below : List Frame} {meth : Method} {c : Code} {H : Heap} {locs : List Loc} {Qf : ρ → State → Prop} {sp a b : Option ρ} {g : JFrame} {cells slots : Nat}
variable {cc : ByteArray} {pc nL : Nat} {ls : Array Slot} {rest : List Value} {own : String}
variable {D : va_G} {ck : Nat → UC} {ct : CT} {N : Nat} {ad : Nat → Nat} {P : Nat → Nat → Option Nat} {A : Nat → Prop} {S : US} {w : Int64} {G0 G : GS}
/-- a field of a numbered object is written, whatever its kind -/
theorem w_putU {Q : State → Prop} (E : ME p m c cc nL s args own D clW ct) (hG : GW D clW ck ct N ad P A S w G.1 H) (hS : va_S A s.heap H locs) {i ci n : Nat} {fk : Nat → Nat} {C ref : String} {T : u_T} {index : Nat} {ty0 : Nat → FieldType} (hi : i < N) (hck : ck i = .inl (ci, n, fk)) (hc : clW[ci]? = some (C, T, n)) (hin : ∀ w ∈ u_ws C T n, w ∈ lw_all) (hty : ∀ k, k < n → parseFieldDescriptor (T k).2.2.1 = some (ty0 k)) (hnm : ∀ a, a < n → ∀ b, b < n → a ≠ b → (T a).2.1 ≠ (T b).2.1) (k : Nat) (hk : k < n)
    (hlink : (Cond.fieldLink own index ref (T k).2.1 (T k).2.2.1).before args s = true) (hsame : ∀ x, s.fieldFound? (T k).1 (T k).2.1 (T k).2.2.1 = some x → s.fieldFound? ref (T k).2.1 (T k).2.2.1 = some x) (hfin : (T k).2.2.2 = false) {v : Value} (hn : narrow (ty0 k) v = v) (hfit : fits (ty0 k) v = true) (hdg : decode cc pc = .ok (.putfield index, 3))
    (kk : ∀ (H1 : Heap) (locs1 : List Loc), H1.size = H.size → (∀ r : Nat, r ≠ ad i → H1[r]? = H[r]?) → va_at D clW (ad i, .inr (ci, ((List.range n).map (uV fk ad (S i) w (P i))).set k v)) H1 → va_S A s.heap H1 locs1 → W p l e R s m args below meth c H1 locs1 cells slots Q (F0 m (pc + 3) ls rest)) : W p l e R s m args below meth c H locs cells slots Q (F0 m pc ls (v :: .ref (ad i) :: rest)) := by
  have he : (uws ck ct N ad P S w)[i]? = some (ad i, .inr (ci, (List.range n).map (uV fk ad (S i) w (P i)))) := by rw [uws_at hi, uE_obj hck]
  exact w_putc E (hG.1.1 i _ he) hc hin hty hnm k hk (by simpa using hk) hlink hsame (Or.inl hfin) hn hfit hdg fun H1 loc hb e2 e3 hat => kk H1 _ e2 e3 hat (by
    have := hS.put (k := loc.slot) e2 e3 (hG.1.inA hi)
    rw [show (⟨ad i, loc.slot⟩ : Loc) = loc by rw [← hb]] at this
    exact this)
def p2 (P : Nat → Nat → Option Nat) (i k : Nat) (r : Option Nat) : Nat → Nat → Option Nat := fun a b => if a = i ∧ b = k then r else P a b
theorem uV_setP {fk ad : Nat → Nat} {f : Nat → Int32} {w : Int64} {P : Nat → Nat → Option Nat} {n i k : Nat} {r : Option Nat} (hk : k < n) (hf : fk k = 2) : ((List.range n).map (uV fk ad f w (P i))).set k (va_rf r) = (List.range n).map (uV fk ad f w (p2 P i k r i)) := by
  apply List.ext_getElem?
  intro j
  by_cases hj : j < n
  · rw [uV_map_at hj]
    by_cases hkj : k = j
    · subst hkj
      rw [List.getElem?_set_self (by simpa using hk)]
      simp [uV, hf, p2]
    · rw [List.getElem?_set_ne hkj, uV_map_at hj]
      have : p2 P i k r i j = P i j := by simp [p2]; intro h; exact absurd h.symm hkj
      unfold uV
      rw [this]
  · rw [List.getElem?_eq_none (by simpa using Nat.le_of_not_lt hj), List.getElem?_eq_none (by simpa using Nat.le_of_not_lt hj)]
theorem uE_rowP {ck : Nat → UC} {ct : CT} {ad : Nat → Nat} {P P' : Nat → Nat → Option Nat} {S : US} {w : Int64} {i : Nat} (h : P' i = P i) : uE ck ct ad P' S w i = uE ck ct ad P S w i := by
  unfold uE; rw [h]
theorem uws_setP {ck : Nat → UC} {ct : CT} {N : Nat} {ad : Nat → Nat} {P : Nat → Nat → Option Nat} {S : US} {w : Int64} {i k : Nat} {r : Option Nat} {e : va_E} (hi : i < N) (he : e = uE ck ct ad (p2 P i k r) S w i) : (uws ck ct N ad P S w).set i (ad i, e) = uws ck ct N ad (p2 P i k r) S w := by
  subst he
  apply List.ext_getElem?
  intro j
  by_cases hj : j < N
  · rw [uws_at hj]
    by_cases hij : i = j
    · subst hij
      rw [List.getElem?_set_self (by simpa [uws] using hi)]
    · rw [List.getElem?_set_ne hij, uws_at hj, uE_rowP (show p2 P i k r j = P j by funext b; simp [p2]; intro h; exact absurd h.symm hij)]
  · rw [List.getElem?_eq_none (by simpa [uws] using Nat.le_of_not_lt hj), List.getElem?_eq_none (by simpa [uws] using Nat.le_of_not_lt hj)]
/-- a free reference of a numbered object is written -/
theorem gy_putP (E : ME p m c cc nL s args own D clW ct) (hY : YW D clW ck ct N ad P A S w G0 G H) (hS : va_S A s.heap H locs) {i ci n : Nat} {fk : Nat → Nat} {C ref : String} {T : u_T} {index : Nat} {ty0 : Nat → FieldType} (hi : i < N) (hck : ck i = .inl (ci, n, fk)) (hc : clW[ci]? = some (C, T, n)) (hin : ∀ w ∈ u_ws C T n, w ∈ lw_all) (hty : ∀ k, k < n → parseFieldDescriptor (T k).2.2.1 = some (ty0 k)) (hnm : ∀ a, a < n → ∀ b, b < n → a ≠ b → (T a).2.1 ≠ (T b).2.1) (k : Nat) (hk : k < n) (hf : fk k = 2)
    (hlink : (Cond.fieldLink own index ref (T k).2.1 (T k).2.2.1).before args s = true) (hsame : ∀ x, s.fieldFound? (T k).1 (T k).2.1 (T k).2.2.1 = some x → s.fieldFound? ref (T k).2.1 (T k).2.2.1 = some x) (hfin : (T k).2.2.2 = false) {r : Option Nat} (hn : narrow (ty0 k) (va_rf r) = va_rf r) (hfit : fits (ty0 k) (va_rf r) = true) (hdg : decode cc pc = .ok (.putfield index, 3)) {kp : (Nat → Nat → Option Nat) → Option ρ}
    (kk : ∀ (P1 : Nat → Nat → Option Nat) (H1 : Heap) (locs1 : List Loc), YW D clW ck ct N ad P1 A S w G0 G H1 → va_S A s.heap H1 locs1 → X p l e R s m args below meth c H1 locs1 cells slots Qf (kp P1) (F0 m (pc + 3) ls rest)) : X p l e R s m args below meth c H locs cells slots Qf (letB (p2 P i k r) kp) (F0 m pc ls (va_rf r :: .ref (ad i) :: rest)) := fun o ho => by
  have hG := hY.1.1
  refine w_putU E hG hS hi hck hc hin hty hnm k hk hlink hsame hfin hn hfit hdg fun H1 locs1 e2 e3 hat s1 => ?_
  have he : (uws ck ct N ad P S w)[i]? = some (ad i, .inr (ci, (List.range n).map (uV fk ad (S i) w (P i)))) := by rw [uws_at hi, uE_obj hck]
  have p1 := hG.1.1.set hG.1.2 he hat e3
  have q2 := hG.1.2.set (e := .inr (ci, ((List.range n).map (uV fk ad (S i) w (P i))).set k (va_rf r))) he
  rw [uV_setP hk hf, uws_setP hi (by rw [uE_obj hck])] at p1 q2
  exact kk _ H1 _ ⟨hY.1.of_gw ⟨⟨p1, q2⟩, hG.2.1.kept fun a' e' ha => e3 a' (hG.2.2.1 _ _ i ha hi), hG.2.2.1, hG.2.2.2.put (hG.2.2.2.2.2.1 i hi) e2 e3⟩ e2, hY.2⟩ s1 o ho
end RL
/-- what an object's fields, an array's places hold: numbers, references -/
def getS (x : AX) : Nat → Int32 := match x with
  | .inl (_, _, .inl f) => f
  | .inl _ => fun _ => 0
  | .inr q => fun k => match q.2[k]? with
    | some (.int v) => v
    | _ => 0
def getP (x : AX) : Nat → Option Nat := match x with
  | .inl _ => fun _ => none
  | .inr q => fun k => match q.2[k]? with
    | some (.ref a) => some a
    | _ => none
def chkU (ck : Nat → UC) (ad : Nat → Nat) (i : Nat) (x : AX) : Bool := match ck i, x with
  | .inl (ci, n, fk), .inr (ci', fs) => ci' == ci && decide (fs = (List.range n).map (uV fk ad (getS (.inr (ci', fs))) 0 (getP (.inr (ci', fs)))))
  | .inr (t, n), .inl (t', n', .inl _) => t' == t && n' == n
  | _, _ => false
theorem chkU_ok {ck : Nat → UC} {ct : CT} {ad : Nat → Nat} {P : Nat → Nat → Option Nat} {S : US} {i : Nat} {x : AX} (h : chkU ck ad i x = true) (hS : S i = getS x) (hP : P i = getP x) : wE ct x = uE ck ct ad P S 0 i := by
  unfold chkU at h
  split at h
  · rename_i ci n fk ci' fs e
    rw [Bool.and_eq_true] at h
    have h1 : ci' = ci := by simpa using h.1
    have h2 := of_decide_eq_true h.2
    rw [uE_obj e, hS, hP]
    subst h1
    show (Sum.inr _ : va_E) = _
    rw [← h2]
  · rename_i t n t' n' f e
    rw [Bool.and_eq_true] at h
    have h1 : t' = t := by simpa using h.1
    have h2 : n' = n := by simpa using h.2
    rw [uE_arr e, hS]
    subst h1
    subst h2
    rfl
  · cases h
def noref (I : List Nat) (i : Nat) : Bool := match ckH i with
  | .inl (_, n, fk) => (List.range n).all (fun k => decide (fk k < 3) || !(I.contains (fk k - 3)))
  | .inr _ => true
theorem uV_ad {fk ad ad1 : Nat → Nat} {f : Nat → Int32} {w : Int64} {P : Nat → Option Nat} {k : Nat} (h : ∀ j, fk k = j + 3 → ad1 j = ad j) : uV fk ad1 f w P k = uV fk ad f w P k := by
  unfold uV
  split <;> try rfl
  rename_i j e
  rw [h j e]
theorem uE_ad {ct : CT} {ad ad1 : Nat → Nat} {P P1 : Nat → Nat → Option Nat} {S S1 : US} {w : Int64} {I : List Nat} {i : Nat} (h : noref I i = true) (had : ∀ j, j ∉ I → ad1 j = ad j) (hS : S1 i = S i) (hP : P1 i = P i) : uE ckH ct ad1 P1 S1 w i = uE ckH ct ad P S w i := by
  unfold noref at h
  split at h
  · rename_i ci n fk e
    rw [uE_obj e, uE_obj e, hS, hP]
    congr 2
    apply List.map_congr_left
    intro k hk
    refine uV_ad fun j hj => had j fun hm => ?_
    have := List.all_eq_true.mp h k hk
    rw [hj] at this
    simp at this
    exact this.elim (fun z => absurd z (by omega)) (fun z => z hm)
  · rename_i q e
    obtain ⟨t, n⟩ := q
    rw [uE_arr e, uE_arr e, hS]
theorem MW.relab {D : va_G} {ct : CT} {ad ad1 : Nat → Nat} {P P1 : Nat → Nat → Option Nat} {A : Nat → Prop} {S S1 : US} {G : GS} {H H1 : Heap} {I : List Nat} (hM : MW D clW ckH ct 26 ad P A S 0 G H) (hz : H1.size = H.size) (hq : ∀ q : Nat, q ≠ ad 0 → H1[q]? = H[q]?) (h0 : 0 ∉ I) (hat : va_at D clW (ad 0, uE ckH ct ad1 P1 S1 0 0) H1)
    (hI : ∀ i ∈ I, i < 26 ∧ ∃ x, G.1 (ad1 i) = some (true, x) ∧ wE ct x = uE ckH ct ad1 P1 S1 0 i) (hnd : ∀ i ∈ I, ∀ j ∈ I, ad1 i = ad1 j → i = j) (had : ∀ i, i ∉ I → ad1 i = ad i) (hE : ∀ i, i < 26 → i ∉ I → i ≠ 0 → uE ckH ct ad1 P1 S1 0 i = uE ckH ct ad P S 0 i) : MW D clW ckH ct 26 ad1 P1 A S1 0 (fun q => if ∃ i ∈ I, q = ad1 i then none else G.1 q, G.2) H1 := by
  obtain ⟨⟨hU, hP, hD, hO⟩, h2, h3, h4⟩ := hM
  have hne : ∀ i ∈ I, ∀ j, j < 26 → j ∉ I → ad1 i ≠ ad1 j := fun i hi j hj hjI e => by
    obtain ⟨-, x, hx, -⟩ := hI i hi
    rw [had j hjI] at e
    exact hD _ _ j hx hj e
  have hne0 : ∀ i ∈ I, ad1 i ≠ ad 0 := fun i hi e => hne i hi 0 (by decide) h0 (by rw [had 0 h0]; exact e)
  have hAP : AP D clW ct (fun q => if ∃ i ∈ I, q = ad1 i then none else G.1 q) H1 := fun a' e' ha => by
    dsimp only at ha
    split at ha
    · cases ha
    · exact (hP a' e' ha).kept (hq a' (fun e => hD a' e' 0 ha (by decide) e))
  refine ⟨⟨⟨fun k q hk => ?_, fun i j p q hi hj e => ?_, fun k q hk => ?_⟩, hAP, fun a' e' i ha hi e => ?_, fun q hlt => (hq q (fun e => by have := hO.2.2.1 0 (by decide); omega)).trans (hO.1 q hlt), by rw [hz]; exact hO.2.1, fun i hi => ?_, fun a' x ha => ?_, fun a' x ha => ?_⟩, by rw [hz]; exact h2, fun a' x ha => ?_, h4⟩
  · obtain ⟨hk1, rfl⟩ := uws_in hk
    by_cases hkI : k ∈ I
    · obtain ⟨-, x, hx, hw⟩ := hI k hkI
      rw [← hw]
      exact ((hP _ _ hx).2 rfl).kept (hq _ (hne0 k hkI))
    · rw [had k hkI]
      by_cases hk0 : k = 0
      · rw [hk0]; exact hat
      · rw [hE k hk1 hkI hk0]
        exact (hU.1 k _ (uws_at hk1)).kept (hq _ fun e => by
          have := hU.2.1 k 0 _ _ (uws_at hk1) (uws_at (by decide)) e
          exact hk0 this)
  · obtain ⟨hi1, rfl⟩ := uws_in hi
    obtain ⟨hj1, rfl⟩ := uws_in hj
    dsimp only at e
    by_cases hiI : i ∈ I
    · by_cases hjI : j ∈ I
      · exact hnd i hiI j hjI e
      · exact absurd e (hne i hiI j hj1 hjI)
    · by_cases hjI : j ∈ I
      · exact absurd e.symm (hne j hjI i hi1 hiI)
      · rw [had i hiI, had j hjI] at e
        exact hU.2.1 i j _ _ (uws_at hi1) (uws_at hj1) e
  · obtain ⟨hk1, rfl⟩ := uws_in hk
    dsimp only
    by_cases hkI : k ∈ I
    · obtain ⟨-, x, hx, -⟩ := hI k hkI
      exact h3 _ x hx
    · rw [had k hkI]
      exact hU.inA hk1
  · dsimp only at ha
    split at ha
    · cases ha
    · rename_i hno
      by_cases hiI : i ∈ I
      · exact hno ⟨i, hiI, e⟩
      · rw [had i hiI] at e
        exact hD a' e' i ha hi e
  · by_cases hiI : i ∈ I
    · obtain ⟨-, x, hx, -⟩ := hI i hiI
      exact hO.2.2.2.1 _ x hx
    · rw [had i hiI]
      exact hO.2.2.1 i hi
  · dsimp only at ha
    split at ha
    · cases ha
    · exact hO.2.2.2.1 a' x ha
  · dsimp only at ha
    split at ha
    · cases ha
    · exact hO.2.2.2.2 a' x ha
  · dsimp only at ha
    split at ha
    · cases ha
    · exact h3 a' x ha
/-- the numbered cells of I are other cells from now on: those that nw names, out of the free heap -/
def rAd (I : List Nat) (nw ad : Nat → Nat) : Nat → Nat := fun i => if i ∈ I then nw i else ad i
def rS (G : GS) (I : List Nat) (nw : Nat → Nat) (S : US) : US := fun i => if i ∈ I then (match G.1 (nw i) with | some e => getS e.2 | none => fun _ => 0) else S i
def rP (G : GS) (I : List Nat) (nw : Nat → Nat) (P : Nat → Nat → Option Nat) : Nat → Nat → Option Nat := fun i => if i ∈ I then (match G.1 (nw i) with | some e => getP e.2 | none => fun _ => none) else P i
def rG (G : GS) (I : List Nat) (nw : Nat → Nat) : GS := (fun q => if ∃ i ∈ I, q = nw i then none else G.1 q, G.2)
def rOk (G : GS) (I : List Nat) (nw ad : Nat → Nat) : Bool := I.all (fun i => match G.1 (nw i) with | some (true, x) => chkU ckH (rAd I nw ad) i x | _ => false) && I.all (fun i => I.all (fun j => decide (nw i = nw j) == decide (i = j)))
def rel {ρ : Type} (I : List Nat) (nw : Nat → Nat) (G : GS) (ad : Nat → Nat) (P : Nat → Nat → Option Nat) (S : US) (kp : US → GS → (Nat → Nat → Option Nat) → (Nat → Nat) → Option ρ) : Option ρ := if rOk G I nw ad = true then kp (rS G I nw S) (rG G I nw) (rP G I nw P) (rAd I nw ad) else none
/-- where a line's cells lie that are not numbered -/
def nwL (G : GS) (a : Nat) : Nat → Nat := fun i => if i = 5 then a else match G.1 a with
  | some (_, .inr q) => (match q.2[i - 6]? with | some (.ref b) => b | _ => 0)
  | _ => 0
def iL : List Nat := [5, 6, 7, 8, 9, 10, 11]
theorem rel_world {D : va_G} {ct : CT} {ad : Nat → Nat} {P : Nat → Nat → Option Nat} {A : Nat → Prop} {S : US} {G : GS} {H H1 : Heap} {I : List Nat} {nw : Nat → Nat} {k j0 : Nat} (hM : MW D clW ckH ct 26 ad P A S 0 G H) (hz : H1.size = H.size) (hq : ∀ q : Nat, q ≠ ad 0 → H1[q]? = H[q]?) (hk : k < 15) (hf : fkX k = j0 + 3) (hj : j0 ∈ I) (h0 : 0 ∉ I) (h26 : ∀ i ∈ I, i < 26) (hno : (List.range 26).all (fun i => i == 0 || I.contains i || noref I i) = true) (hno0 : (List.range 15).all (fun z => z == k || decide (fkX z < 3) || !(I.contains (fkX z - 3))) = true)
    (hat : va_at D clW (ad 0, .inr (1, ((List.range 15).map (uV fkX ad (S 0) 0 (P 0))).set k (.ref (nw j0)))) H1) (hok : rOk G I nw ad = true) : MW D clW ckH ct 26 (rAd I nw ad) (rP G I nw P) A (rS G I nw S) 0 (rG G I nw) H1 := by
  unfold rOk at hok
  rw [Bool.and_eq_true] at hok
  obtain ⟨ok1, ok2⟩ := hok
  have hin : ∀ i, i ∈ I → rAd I nw ad i = nw i := fun i hi => if_pos hi
  have hout : ∀ i, i ∉ I → rAd I nw ad i = ad i := fun i hi => if_neg hi
  have hS0 : rS G I nw S 0 = S 0 := if_neg h0
  have hP0 : rP G I nw P 0 = P 0 := if_neg h0
  have e0 : ((List.range 15).map (uV fkX ad (S 0) 0 (P 0))).set k (.ref (nw j0)) = (List.range 15).map (uV fkX (rAd I nw ad) (rS G I nw S 0) 0 (rP G I nw P 0)) := by
    rw [hS0, hP0]
    apply List.ext_getElem?
    intro z
    by_cases hz : z < 15
    · rw [uV_map_at hz]
      by_cases hkz : k = z
      · subst hkz
        rw [List.getElem?_set_self (by simpa using hk)]
        unfold uV
        rw [hf]
        dsimp only
        rw [hin j0 hj]
      · rw [List.getElem?_set_ne hkz, uV_map_at hz]
        congr 1
        refine (uV_ad fun j hj' => hout j fun hm => ?_).symm
        have := List.all_eq_true.mp hno0 z (List.mem_range.mpr hz)
        rw [hj'] at this
        simp at this
        rcases this with (h | h) | h
        · exact hkz h.symm
        · omega
        · exact h hm
    · rw [List.getElem?_eq_none (by simpa using Nat.le_of_not_lt hz), List.getElem?_eq_none (by simpa using Nat.le_of_not_lt hz)]
  have hx : ∀ i ∈ I, ∃ x, G.1 (nw i) = some (true, x) ∧ chkU ckH (rAd I nw ad) i x = true := fun i hi => by
    have := List.all_eq_true.mp ok1 i hi
    split at this
    · rename_i x e
      exact ⟨x, e, this⟩
    · cases this
  have hGe : rG G I nw = (fun q => if ∃ i ∈ I, q = rAd I nw ad i then none else G.1 q, G.2) := by
    unfold rG
    congr 1
    funext q
    have : (∃ i ∈ I, q = nw i) ↔ (∃ i ∈ I, q = rAd I nw ad i) := ⟨fun ⟨i, hi, e⟩ => ⟨i, hi, by rw [hin i hi]; exact e⟩, fun ⟨i, hi, e⟩ => ⟨i, hi, by rw [hin i hi] at e; exact e⟩⟩
    simp only [this]
  rw [hGe]
  refine hM.relab hz hq h0 ?_ (fun i hi => ⟨h26 i hi, ?_⟩) (fun i hi j hj e => ?_) hout (fun i hi hiI hi0 => ?_)
  · rw [uE_obj (show ckH 0 = .inl (1, 15, fkX) from rfl), ← e0]
    exact hat
  · obtain ⟨x, h1, h2⟩ := hx i hi
    refine ⟨x, by rw [hin i hi]; exact h1, chkU_ok h2 ?_ ?_⟩
    · unfold rS
      rw [if_pos hi, h1]
    · unfold rP
      rw [if_pos hi, h1]
  · rw [hin i hi, hin j hj] at e
    have := List.all_eq_true.mp (List.all_eq_true.mp ok2 i hi) j hj
    simp [e] at this
    exact this
  · have := List.all_eq_true.mp hno i (List.mem_range.mpr hi)
    simp [hi0, hiI] at this
    exact uE_ad this hout (if_neg hiI) (if_neg hiI)
section RD
variable {ρ : Type} {p : Program} {l : Launch} {e : Env} {R : Room} {s : State} {m : MethodId} {args : Array Value} {below : List Frame} {meth : Method} {c : Code} {H : Heap} {locs : List Loc} {Qf : ρ → State → Prop}
variable {cc : ByteArray} {pc nL : Nat} {ls : Array Slot} {rest : List Value} {own : String}
variable {D : va_G} {ct : CT} {ad : Nat → Nat} {P : Nat → Nat → Option Nat} {A : Nat → Prop} {S : US} {G0 G : GS}
/-- a field of the object itself that names a numbered cell is written -/
theorem gy_putD (E : ME p m c cc nL s args own D clW ct) (hY : YW D clW ckH ct 26 ad P A S 0 G0 G H) (hS : va_S A s.heap H locs) {I : List Nat} {nw : Nat → Nat} {j0 : Nat} {C ref : String} {T : u_T} {index : Nat} {ty0 : Nat → FieldType} (hc : clW[1]? = some (C, T, 15)) (hin : ∀ w ∈ u_ws C T 15, w ∈ lw_all) (hty : ∀ k, k < 15 → parseFieldDescriptor (T k).2.2.1 = some (ty0 k)) (hnm : ∀ a, a < 15 → ∀ b, b < 15 → a ≠ b → (T a).2.1 ≠ (T b).2.1) (k : Nat) (hk : k < 15) (hf : fkX k = j0 + 3)
    (hlink : (Cond.fieldLink own index ref (T k).2.1 (T k).2.2.1).before args s = true) (hsame : ∀ x, s.fieldFound? (T k).1 (T k).2.1 (T k).2.2.1 = some x → s.fieldFound? ref (T k).2.1 (T k).2.2.1 = some x) (hfin : (T k).2.2.2 = false) {b : Nat} (hb0 : nw j0 = b) (hn : narrow (ty0 k) (.ref b) = .ref b) (hfit : fits (ty0 k) (.ref b) = true) (hdg : decode cc pc = .ok (.putfield index, 3)) {kp : US → GS → (Nat → Nat → Option Nat) → (Nat → Nat) → Option ρ}
    (hj : j0 ∈ I) (h0 : 0 ∉ I) (h26 : ∀ i ∈ I, i < 26) (hno : (List.range 26).all (fun i => i == 0 || I.contains i || noref I i) = true) (hno0 : (List.range 15).all (fun z => z == k || decide (fkX z < 3) || !(I.contains (fkX z - 3))) = true)
    (kk : ∀ (S1 : US) (G1 : GS) (P1 : Nat → Nat → Option Nat) (ad1 : Nat → Nat) (H1 : Heap) (locs1 : List Loc), ad1 0 = ad 0 → YW D clW ckH ct 26 ad1 P1 A S1 0 G0 G1 H1 → va_S A s.heap H1 locs1 → X p l e R s m args below meth c H1 locs1 (G1.2.1 - G0.2.1) (G1.2.2 - G0.2.2) Qf (kp S1 G1 P1 ad1) (F0 m (pc + 3) ls rest)) : X p l e R s m args below meth c H locs (G.2.1 - G0.2.1) (G.2.2 - G0.2.2) Qf (rel I nw G ad P S kp) (F0 m pc ls (.ref b :: .ref (ad 0) :: rest)) := fun o ho => by
  unfold rel at ho
  split at ho
  · rename_i hok
    subst hb0
    exact w_putU E hY.1.1 hS (by decide) (show ckH 0 = .inl (1, 15, fkX) from rfl) hc hin hty hnm k hk hlink hsame hfin hn hfit hdg fun H1 locs1 e2 e3 hat s1 => kk _ (rG G I nw) _ _ H1 locs1 (if_neg h0) ⟨rel_world hY.1 e2 e3 hk hf hj h0 h26 hno hno0 hat hok, hY.2⟩ s1 o ho
  · cases ho
end RD
section VPV
variable {p : Program} {l : Launch} {e : Env} {R : Room} {s : State} {m : MethodId} {args : Array Value} {below : List Frame} {meth : Method} {c : Code} {H : Heap} {locs : List Loc} {cells slots : Nat}
variable {y x2 y2 : MethodName} {bytes cc : ByteArray} {maxL nL mc ms n index b0 : Nat} {ret : Option FieldType} {ws : List Cond} {rm : Room} {Pc : Array Value → State → Prop} {Qc : Array Value → State → Outcome → State → Prop} {free : Addr → Prop} {Ts : List Cond} {own C C2 : String} {b : Addr} {As rest st0 : List Value} {g : JFrame} {pc : Nat} {ls : Array Slot} {D : va_G} {cl : List vw_C} {ct : CT} {B : Heap → Prop}
/-- a call of a private method, on whatever object; its class is the class of another method that is selected -/
theorem va_runP (S : CallFix p m c cc nL s args Ts own) (hM : Met l y ws rm Pc Qc mc ms free) (cw : CallB R s args own index y bytes maxL ret ws rm mc ms n) (hinst : (Cond.instanceMethod y).before args s = true) (hpv : (Cond.privateMethod y).before args s = true) (hsel2 : (Cond.selects C2 x2 y2).before args s = true) (hcl2 : y2.cls = y.cls) (hp : PreV s H C b Pc As)
    (hg : g.method = m) (hn : As.length = n) (hsize : g.locals.size = nL) (hstack : g.stack = As.reverse ++ .ref b :: rest) (hW : 2 * g.monitorRoom + (rest.map fun v => v.category).sum ≤ 8) (hdg : decode cc g.pc = .ok (.invokevirtual index, 3)) (hf : cells + mc ≤ R.cells ∧ slots + ms ≤ R.slots) :
    va_Run p l e R s m args below meth c H locs cells slots mc ms g rest (Qc (Value.ref b :: As).toArray) (free) := by
  have hK : Back l R p e below s args y 3 8 (PreOf R mc ms Pc) (PostOf Qc mc ms free) := callBack cw hM hp.1
  obtain ⟨-, -, -, -, -, -, hcode, -, hy, hlen, hl⟩ := cw
  obtain ⟨hx, hb, hml, ho, -⟩ := S
  obtain ⟨-, ⟨cellB, hcB, hoB, hclB⟩, hPc⟩ := hp
  obtain ⟨mk, methM, hnamed, hmethM, hstM, habM⟩ := Cond.instanceMethod_spec hinst
  obtain ⟨methM', cM, hmethM', -, -, -, -, -, -, hsigM⟩ := Cond.code_spec hnamed hcode
  cases hmethM.symm.trans hmethM'
  obtain ⟨c2, r2, m2, q1, q2, q3, q4, kP, hkP, hkPi⟩ := Cond.selects_spec hsel2
  have hcls : m2.cls = mk.cls := by
    have h1 := findClass_of_methodNamed q3
    have h2 := findClass_of_methodNamed hnamed
    rw [hcl2] at h1
    exact Option.some.inj (h1.symm.trans h2)
  rw [hcls] at hkP
  have hselP : selectMethod e.platform s.vm cellB.cls mk = .method mk := selectMethod_private hmethM (Cond.privateMethod_at hpv mk methM hnamed hmethM)
  intro T hT X
  obtain ⟨vm₁, X₁, hstep₁⟩ := X.invokevirtual hx ho hl hnamed hmethM hstM hkP hkPi hy (a := b) (cell := cellB) (by rw [hT]; exact hcB)
    (fun z h => by rw [h] at hoB; cases hoB) hselP hmethM habM hkP hkPi (g := g) hg (argsL := As) (rest := rest) (hn.trans (hlen _ hsigM)) hstack (by rw [hb]; exact hdg)
  obtain ⟨v, ⟨U', l2, c2', s2⟩, X', ⟨g', mk', t, L, e1, e2, hq, h1, hL, h2, h3⟩, hsteps⟩ := hK m meth c ⟨T.setVm vm₁, locs, cells, slots⟩ { g with stack := rest } (.invokevirtual index) mk (Value.ref b :: As).toArray X₁ hg (hsize.trans hml.symm) (by rw [hb]; exact hdg) hW (X₁.named hnamed) ⟨hf.1, hf.2, hPc (T.setVm vm₁) hT X₁.warmed⟩
  dsimp only [Pt.U, Pt.locs, Pt.cells, Pt.slots] at X' e1 e2 h1 h2 h3 hsteps
  subst h1; subst h2; subst h3
  exact ⟨v, (T.setVm vm₁).calling g' mk' (Value.ref b :: As).toArray, t, U', L, hT, X', hL, e1, e2, hq, fun target h => hstep₁ _ fun acts => by rw [doInvoke_state]; exact hsteps.trans h⟩
theorem rqP (E : ME p m c cc nL s args own D cl ct) (hB : B H) (hrecv : ∃ cellB : Cell, H[b0]? = some cellB ∧ cellB.vm.isStatics = false ∧ s.vm.findClass C = some cellB.cls) (hM : Met l y ws rm (mP D cl ct (.ref b0 :: As) H.size B) Qc mc ms free) (cw : CallB R s args own index y bytes maxL ret ws rm mc ms n ∧ (Cond.instanceMethod y).before args s = true ∧ (Cond.privateMethod y).before args s = true ∧ (Cond.selects C2 x2 y2).before args s = true ∧ y2.cls = y.cls)
    (hn : As.length = n) (hsize : ls.size = nL) (hst : st0 = As.reverse ++ .ref b0 :: rest) (hW : (rest.map fun v => v.category).sum ≤ 8) (hdg : decode cc pc = .ok (.invokevirtual index, 3)) (hf : cells + mc ≤ R.cells ∧ slots + ms ≤ R.slots) : ∃ arr, RunL 3 p l e R s m args below meth c H locs cells slots mc ms (F0 m pc ls st0) rest (Qc arr) free :=
  ⟨_, va_runP E.1 hM cw.1 cw.2.1 cw.2.2.1 cw.2.2.2.1 cw.2.2.2.2 ⟨mP_blind, hrecv, fun U hU hWm => ⟨rfl, by rw [hU], by rw [hU]; exact hB, va_K.moved hWm.alike E.2.1, JW.warm hWm E.2.2⟩⟩ rfl hn hsize hst (lv_room hW) hdg hf⟩
end VPV
theorem lw_U {own : String} {idx : Nat} {C owner : String} {x y : MethodName} {b : ByteArray} {L : Nat} {r : Option FieldType} (h1 : Cond.methodLink own idx x ∈ lw_all) (h2 : Cond.sameMethod x.cls owner x.name x.desc ∈ lw_all) (h3 : Cond.selects C x y ∈ lw_all) (h4 : Cond.instanceMethod y ∈ lw_all) (h5 : Cond.initialized y.cls ∈ lw_all) (h6 : Cond.code y b L r ∈ lw_all) : GoodIn lw_all (va_wsU own idx C owner x y (ws_ y b L r)) := by
  refine lw_app ?_ (lw_meth h6)
  intro w hw
  simp only [List.mem_cons, List.not_mem_nil, or_false] at hw
  rcases hw with e | e | e | e | e
  · rw [e]; exact h1
  · rw [e]; exact h2
  · rw [e]; exact h3
  · rw [e]; exact h4
  · rw [e]; exact h5
theorem lw_O {own : String} {idx : Nat} {C owner : String} {x y : MethodName} {b : ByteArray} {L : Nat} {r : Option FieldType} (h1 : Cond.methodLink own idx x ∈ lw_all) (h2 : Cond.sameMethod x.cls owner x.name x.desc ∈ lw_all) (h7 : Cond.instanceMethod ⟨owner, x.name, x.desc⟩ ∈ lw_all) (h3 : Cond.selects C x y ∈ lw_all) (h4 : Cond.instanceMethod y ∈ lw_all) (h5 : Cond.initialized y.cls ∈ lw_all) (h6 : Cond.code y b L r ∈ lw_all) : GoodIn lw_all (va_wsO own idx C owner x y (ws_ y b L r)) := by
  refine lw_app ?_ (lw_meth h6)
  intro w hw
  simp only [List.mem_cons, List.not_mem_nil, or_false] at hw
  rcases hw with e | e | e | e | e | e
  · rw [e]; exact h1
  · rw [e]; exact h2
  · rw [e]; exact h7
  · rw [e]; exact h3
  · rw [e]; exact h4
  · rw [e]; exact h5
/-- a String's address, or nothing -/
def okRS (h : AH) (r : Option Nat) : Bool := match r with
  | none => true
  | some y => match h y with
    | some (_, .inr q) => q.1 == 13
    | _ => false
theorem anyS_of {s : State} {H : Heap} {D : va_G} {ct : CT} {h : AH} {y : Nat} (hK : va_K D clW (tyW ct) s) (hP : AP D clW ct h H) (hy : okRS h (some y) = true) : va_Any "java/lang/String" s H y := by
  unfold okRS at hy
  dsimp only at hy
  split at hy
  · rename_i bw q e
    obtain ⟨r, cell, r0, r1, r2, r3, r4, r5⟩ := (hP y _ e).1
    have hq : q.1 = 13 := by simpa using hy
    rw [hq] at r0 r2
    have hf : s.vm.findClass "java/lang/String" = some cell.cls := by rw [r2]; exact (hK.1 13 _ rfl).2.1
    obtain ⟨kC, hkC, -⟩ := Vm.findClass_spec hf
    exact ⟨cell, r1, r4, ⟨kC, hkC⟩, fun comp h => by
      cases h.symm.trans hf
      exact va_asg _ _⟩
  · cases hy
section YS
variable {ρ : Type} {p : Program} {l : Launch} {e : Env} {R : Room} {s : State} {m : MethodId} {args : Array Value} {below : List Frame} {meth : Method} {c : Code} {H : Heap} {locs : List Loc} {Qf : ρ → State → Prop}
variable {cc : ByteArray} {pc nL : Nat} {ls : Array Slot} {rest : List Value} {own : String}
variable {D : va_G} {ck : Nat → UC} {ct : CT} {N : Nat} {ad : Nat → Nat} {P : Nat → Nat → Option Nat} {A : Nat → Prop} {S : US} {w : Int64} {G0 G : GS}
theorem gy_aastS {q : Nat} {j : Int32} {r : Option Nat} {kp : GS → Option ρ} (E : ME p m c cc nL s args own D clW ct) (hY : YW D clW ck ct N ad P A S w G0 G H) (hS : va_S A s.heap H locs) (hdg : decode cc pc = .ok (.aastore, 1))
    (kk : ∀ (G1 : GS) (H1 : Heap) (locs1 : List Loc), YW D clW ck ct N ad P A S w G0 G1 H1 → va_S A s.heap H1 locs1 → X p l e R s m args below meth c H1 locs1 (G1.2.1 - G0.2.1) (G1.2.2 - G0.2.2) Qf (kp G1) (F0 m (pc + 1) ls rest)) : X p l e R s m args below meth c H locs (G.2.1 - G0.2.1) (G.2.2 - G0.2.2) Qf (if okRS G.1 r = true then hPutQ G q 5 j r kp else none) (F0 m pc ls (va_rf r :: .int j :: .ref q :: rest)) := X.ite (fun hok o ho => by
  obtain ⟨n, f, h1, hin, h3⟩ := hPutQ_some ho
  obtain ⟨⟨hx, hb, hml, hown, hts⟩, hK, hJ⟩ := E
  have hat : va_at D clW (q, .inl (ct.1 5, n, .inr (.inr (.inr (.inr f))))) H := (hY.1.1.2.1 q _ h1).2 rfl
  have fin : ∀ (H1 : Heap) (locs1 : List Loc), va_P D clW ([(q, .inl (ct.1 5, n, .inr (.inr (.inr (.inr (va_up f j.toNatClampNeg r))))))]) H1 → H1.size = H.size → (∀ r, r ≠ q → H1[r]? = H[r]?) → va_S A s.heap H1 locs1 → X p l e R s m args below meth c H1 locs1 (G.2.1 - G0.2.1) (G.2.2 - G0.2.2) Qf (kp (hset G.1 q (true, .inl (5, n, .inr (.inr (.inr (.inr (va_up f j.toNatClampNeg r)))))), G.2)) (F0 m (pc + 1) ls rest) := fun H1 locs1 p1 e2 e3 s1 => kk _ H1 locs1 (hY.put h1 e2 e3 (p1 0 _ rfl)) s1
  have hlt : j.toNatClampNeg < n := Nat.not_le.mp fun z => hin (Or.inr z)
  have h0 : ¬ j < 0 := fun z => hin (Or.inl z)
  have hcell : H[q]? = some (vp_cell (ct.1 5) (n, .inr (.inr (.inr (.inr f))))) := hat
  have hAq := hY.1.2.2.1 q _ h1
  cases r with
  | none =>
    refine va_WaastN (C := "java/lang/String") hx hb hcell ((hK.2 5 _ rfl).1 n (fun j => va_rf (f j))) (fun h => by cases h) (by show ¬ (j < 0 ∨ (arrV _ _ _).slots.size ≤ _); rw [arrV_size]; exact hin) rfl rfl hdg fun H1 e z oq => ?_
    refine fin H1 _ (fun k x hk => ?_) z oq (hS.put z oq hAq) o h3
    cases k with
    | succ k => simp at hk
    | zero =>
      cases hk
      show H1[q]? = some (vp_cell _ _)
      rw [e]
      rw [vp_cell_q, vp_cell_q, arrV_store]
      congr 2
      funext x
      by_cases hq : x = j.toNatClampNeg
      · subst hq
        simp [updV, va_up, va_rf]
      · simp [updV, va_up, hq]
  | some v =>
    obtain ⟨cellV, g1, g3, ⟨kC, hkC⟩, hasg⟩ := anyS_of hK hY.1.1.2.1 hok
    obtain ⟨kA, comp, k1, k2, k3, -⟩ := (hK.2 5 _ rfl).2
    obtain ⟨kE, hkE, -⟩ := Vm.findClass_spec k3
    refine W.aast hx hb hcell (fun q => by show (arrV _ _ _).vm ≠ _; exact fun h => by cases h) (fun h => by cases h) k1 k2 rfl hkE ⟨h0, by show _ < (arrV _ _ _).slots.size; rw [arrV_size]; exact hlt⟩ g1 (fun q h => by rw [h] at g3; exact absurd g3 (by simp [VmData.isStatics])) hkC (hasg _ k3) rfl rfl hdg fun H1 e z oq => ?_
    refine fin H1 _ (fun k x hk => ?_) z oq (hS.put z oq hAq) o h3
    cases k with
    | succ k => simp at hk
    | zero =>
      cases hk
      show H1[q]? = some (vp_cell _ _)
      rw [e]
      rw [vp_cell_q, vp_cell_q, arrV_store]
      congr 2
      funext x
      by_cases hq : x = j.toNatClampNeg
      · subst hq
        simp [updV, va_up, va_rf]
      · simp [updV, va_up, hq]) (fun _ => X.none)
end YS
section XHn
variable {p : Program} {l : Launch} {e : Env} {R : Room} {s : State} {m : MethodId} {args : Array Value} {below : List Frame} {meth : Method} {c : Code} {H : Heap} {locs : List Loc} {cells slots : Nat}
variable {cc : ByteArray} {pc nL : Nat} {ls : Array Slot} {rest : List Value} {own : String}
variable {D : va_G} {cl : List vw_C} {ct : CT}
variable {index maxL b0 mc ms n : Nat} {st0 As : List Value} {y : MethodName} {bytes : ByteArray} {rm : Room} {ws : List Cond} {B : Heap → Prop} {A1 : Nat → Prop} {Qc : Array Value → State → Outcome → State → Prop}
theorem rqIN {host : String} (E : ME p m c cc nL s args own D cl ct) (hB : B H) (hM : Met l y ws rm (mP D cl ct (.ref b0 :: As) H.size B) Qc mc ms A1) (cw : va_CN R s args own index y host bytes maxL none ws rm mc ms n ∧ y.name = "<init>" ∧ (Cond.instanceMethod y).before args s = true)
    (hn : As.length = n) (hsize : ls.size = nL) (hst : st0 = As.reverse ++ .ref b0 :: rest) (hW : (rest.map fun v => v.category).sum ≤ 8) (hdg : decode cc pc = .ok (.invokespecial index, 3)) (hf : cells + mc ≤ R.cells ∧ slots + ms ≤ R.slots) : ∃ arr, RunL 3 p l e R s m args below meth c H locs cells slots mc ms (F0 m pc ls st0) rest (Qc arr) A1 :=
  ⟨_, va_runIN E.1 hM cw ⟨mP_blind, fun U hU hWm => ⟨rfl, by rw [hU], by rw [hU]; exact hB, va_K.moved hWm.alike E.2.1, JW.warm hWm E.2.2⟩⟩ rfl hn hsize hst (lv_room hW) hdg hf⟩
end XHn
