set_option maxRecDepth 100000
/-! THE PLAIN LAW, 20: what holds between two calls -/
def cutM (ct : CT) (M : List Nat) (h : AH) : AH := fun a => if a ∈ M ∧ ct.2.2.1 ≤ a then none else h a
theorem cutM_sub {ct : CT} {M : List Nat} {h : AH} : Sub (cutM ct M h) h := fun a e z => by
  unfold cutM at z
  split at z
  · cases z
  · exact z
theorem cutM_out {ct : CT} {M : List Nat} {h : AH} {a : Nat} (h1 : a ∉ M) : cutM ct M h a = h a := if_neg (fun z => h1 z.1)
theorem cutM_gr {ct : CT} {M M' : List Nat} {N : Nat → Prop} {G G' : GS} {c z : Nat} (hb : Bd G) (hg : Gr N G G' c z) (hN : ∀ a, N a → a ∈ M ∧ ct.2.2.1 ≤ a) (hM : ∀ a, a ∈ M' → ct.2.2.1 ≤ a → a ∈ M ∨ G.2.1 ≤ a) : Sub (cutM ct M G.1) (cutM ct M' G'.1) := fun a e h => by
  unfold cutM at h
  split at h
  · cases h
  · rename_i hn
    have hlt := hb a e h
    unfold cutM
    rw [if_neg]
    · exact hg.1 a e (fun x => hn (hN a x)) h
    · rintro ⟨z1, z2⟩
      rcases hM a z1 z2 with h1 | h1
      · exact hn ⟨h1, z2⟩
      · omega
/-- lines kept, oldest first; what was seen -/
def ActH (k : AH) (o n m : Nat) (f : Nat → Option Nat) (c : Nat) (R : Nat → Nat → Nat) : Prop := ∀ i, i < c → (∃ b, f i = some b ∧ LnH k o b (R i)) ∧ ROk n m (R i) ∧ R i 0 ≤ 999
def ActM (S : US) (a c : Nat) (R : Nat → Nat → Nat) : Prop := ∀ i, i < c → ∀ j, j < 49 → S a (49 * i + j) = J (R i j)
def SeeH (k : AH) (n : Nat) (f : Nat → Option Nat) (c : Nat) (sn : Nat → Nat) : Prop := ∀ i, i < c → (∃ (b : Nat) (o : Bool) (g : Nat → Int32), f i = some b ∧ k b = some (o, .inl (0, 3, .inl g)) ∧ g 0 = J (sn (3 * i)) ∧ g 1 = J (sn (3 * i + 1)) ∧ g 2 = J (sn (3 * i + 2))) ∧ sn (3 * i) < n ∧ sn (3 * i + 1) ≤ 20 ∧ sn (3 * i + 2) ≤ 99
def SeeM (S : US) (a c : Nat) (sn : Nat → Nat) : Prop := ∀ i, i < 3 * c → S a i = J (sn i)
theorem ActH.sub {k k' : AH} {o n m c : Nat} {f : Nat → Option Nat} {R : Nat → Nat → Nat} (hs : Sub k k') (H : ActH k o n m f c R) : ActH k' o n m f c R := fun i hi => by
  obtain ⟨⟨b, h1, h2⟩, h3⟩ := H i hi
  exact ⟨⟨b, h1, h2.sub hs⟩, h3⟩
theorem SeeH.sub {k k' : AH} {n c : Nat} {f : Nat → Option Nat} {sn : Nat → Nat} (hs : Sub k k') (H : SeeH k n f c sn) : SeeH k' n f c sn := fun i hi => by
  obtain ⟨⟨b, o, g, h1, h2, h4⟩, h3⟩ := H i hi
  exact ⟨⟨b, o, g, h1, hs _ _ h2, h4⟩, h3⟩
def AI (ct : CT) (k : AH) (G : GS) (P : Nat → Nat → Option Nat) (S2 : US) (o n m j q e c : Nat) (f : Nat → Option Nat) (R : Nat → Nat → Nat) : Prop := P 0 9 = some q ∧ OLst ct G.1 q e c f ∧ ActH k o n m f c R ∧ c ≤ j ∧ S2 0 42 = J c ∧ ActM S2 15 c R
def SI (ct : CT) (k : AH) (G : GS) (P : Nat → Nat → Option Nat) (S2 : US) (n q e c : Nat) (f : Nat → Option Nat) (sn : Nat → Nat) : Prop := P 0 10 = some q ∧ OLst ct G.1 q e c f ∧ SeeH k n f c sn ∧ c ≤ 8 ∧ S2 0 51 = J c ∧ SeeM S2 24 c sn
theorem OLst.gr {ct : CT} {M : Nat → Prop} {G G' : GS} {c z q e n : Nat} {f : Nat → Option Nat} (H : OLst ct G.1 q e n f) (hg : Gr M G G' c z) (hq : ¬ M q) (he : ¬ M e) : OLst ct G'.1 q e n f := ⟨H.1.gr hg hq he, H.2⟩
theorem AI.keep {ct : CT} {k k' : AH} {N : Nat → Prop} {G G' : GS} {P P' : Nat → Nat → Option Nat} {S2 S2' : US} {o n m j j' q e c x z : Nat} {f : Nat → Option Nat} {R : Nat → Nat → Nat} (H : AI ct k G P S2 o n m j q e c f R) (hk : Sub k k') (hg : Gr N G G' x z) (hq : ¬ N q) (he : ¬ N e) (hP : P' 0 9 = P 0 9) (h42 : S2' 0 42 = S2 0 42) (h15 : S2' 15 = S2 15) (hj : j ≤ j') : AI ct k' G' P' S2' o n m j' q e c f R := by
  obtain ⟨h1, h2, h3, h4, h5, h6⟩ := H
  refine ⟨hP.trans h1, h2.gr hg hq he, h3.sub hk, by omega, h42.trans h5, ?_⟩
  unfold ActM
  rw [h15]
  exact h6
theorem SI.keep {ct : CT} {k k' : AH} {N : Nat → Prop} {G G' : GS} {P P' : Nat → Nat → Option Nat} {S2 S2' : US} {n q e c x z : Nat} {f : Nat → Option Nat} {sn : Nat → Nat} (H : SI ct k G P S2 n q e c f sn) (hk : Sub k k') (hg : Gr N G G' x z) (hq : ¬ N q) (he : ¬ N e) (hP : P' 0 10 = P 0 10) (h51 : S2' 0 51 = S2 0 51) (h24 : S2' 24 = S2 24) : SI ct k' G' P' S2' n q e c f sn := by
  obtain ⟨h1, h2, h3, h4, h5, h6⟩ := H
  refine ⟨hP.trans h1, h2.gr hg hq he, h3.sub hk, h4, h51.trans h5, ?_⟩
  unfold SeeM
  rw [h24]
  exact h6
/-- the tape: bytes, signed there, unsigned here -/
def sbJ (b : Nat) : Int32 := (J b).toInt8.toInt32
def TapI (S S2 : US) (t : Nat) : Prop := S 0 6 = J t ∧ S2 0 12 = J t ∧ ∀ i, i < t → ∃ b, b < 256 ∧ S2 5 i = J b ∧ S 3 i = sbJ b
def FltI (S S2 : US) : Prop := S 0 7 = S2 0 14 ∧ ∀ k, k < 3 → S 4 k = S2 6 k
theorem TapI.keep {S S' S2 S2' : US} {t : Nat} (H : TapI S S2 t) (h1 : S' 0 6 = S 0 6) (h2 : S2' 0 12 = S2 0 12) (h3 : S' 3 = S 3) (h4 : S2' 5 = S2 5) : TapI S' S2' t := by
  obtain ⟨g1, g2, g3⟩ := H
  refine ⟨h1.trans g1, h2.trans g2, ?_⟩
  rw [h3, h4]
  exact g3
theorem FltI.keep {S S' S2 S2' : US} (H : FltI S S2) (h1 : S' 0 7 = S 0 7) (h2 : S2' 0 14 = S2 0 14) (h3 : S' 4 = S 4) (h4 : S2' 6 = S2 6) : FltI S' S2' := by
  obtain ⟨g1, g2⟩ := H
  refine ⟨by rw [h1, h2]; exact g1, ?_⟩
  rw [h3, h4]
  exact g2
/-- knots: words of digits -/
def dgN (d : Nat → Nat) : Nat → Nat
  | 0 => 0
  | n + 1 => 10 * dgN d n + d n
theorem dgN_s {d : Nat → Nat} {n : Nat} : dgN d (n + 1) = 10 * dgN d n + d n := rfl
/-- a text of bytes -/
def StrH (k : AH) (b n : Nat) (g : Nat → Int32) : Prop := ∃ (o : Bool) (v : Nat) (x y : Value) (o2 : Bool) (f : Nat → Int32), k b = some (o, .inr (13, [.ref v, .int 0, x, y])) ∧ k v = some (o2, .inl (2, n, .inl f)) ∧ ∀ j, j < n → f j = g j
theorem StrH.sub {k k' : AH} {b n : Nat} {g : Nat → Int32} (hs : Sub k k') (H : StrH k b n g) : StrH k' b n g := by
  obtain ⟨o, v, x, y, o2, f, h1, h2, h3⟩ := H
  exact ⟨o, v, x, y, o2, f, hs _ _ h1, hs _ _ h2, h3⟩
def WdH (k : AH) (P : Nat → Nat → Option Nat) (c : Nat) (d : Nat → Nat → Nat) (kl : Nat → Nat) : Prop := c ≤ 8 ∧ ∃ (q : Nat) (f : Nat → Option Nat), P 1 1 = some q ∧ LstH k q c f ∧ ∀ i, i < c → (1 ≤ kl i ∧ kl i ≤ 4 ∧ ∀ j, j < kl i → d i j ≤ 9) ∧ ∃ b, f i = some b ∧ StrH k b (kl i) (fun j => J (48 + d i j))
def WdM (S2 : US) (c : Nat) (d : Nat → Nat → Nat) (kl : Nat → Nat) : Prop := S2 0 3 = J c ∧ ∀ i, i < c → S2 2 i = J (dgN (d i) (kl i)) ∧ S2 3 i = J (kl i)
def WdI (k : AH) (P : Nat → Nat → Option Nat) (S2 : US) : Prop := ∃ (c : Nat) (d : Nat → Nat → Nat) (kl : Nat → Nat), WdH k P c d kl ∧ WdM S2 c d kl
theorem WdI.keep {k k' : AH} {P P' : Nat → Nat → Option Nat} {S2 S2' : US} (H : WdI k P S2) (hk : Sub k k') (hP : P' 1 1 = P 1 1) (h0 : S2' 0 3 = S2 0 3) (h2 : S2' 2 = S2 2) (h3 : S2' 3 = S2 3) : WdI k' P' S2' := by
  obtain ⟨c, d, kl, ⟨w1, q, f, w2, w3, w4⟩, w5, w6⟩ := H
  refine ⟨c, d, kl, ⟨w1, q, f, hP.trans w2, w3.sub hk, fun i hi => ?_⟩, h0.trans w5, ?_⟩
  · obtain ⟨g1, b, g2, g3⟩ := w4 i hi
    exact ⟨g1, b, g2, g3.sub hk⟩
  · rw [h2, h3]
    exact w6
/-- a list as a copy is made of it -/
def LstC (h : AH) (q n : Nat) (f : Nat → Option Nat) : Prop := ∃ (o : Bool) (md : Int32) (e : Nat) (o2 : Bool) (cap : Nat) (g : Nat → Option Nat), h q = some (o, .inr (10, [.int md, .ref e, .int (J n)])) ∧ h e = some (o2, .inl (4, cap, .inr (.inr (.inr (.inr g))))) ∧ n ≤ cap ∧ cap < 50000 ∧ ∀ i, i < n → g i = f i
theorem LstC.sub {h h' : AH} {q n : Nat} {f : Nat → Option Nat} (hs : Sub h h') (H : LstC h q n f) : LstC h' q n f := by
  obtain ⟨o, md, e, o2, cap, g, h1, h2, h3⟩ := H
  exact ⟨o, md, e, o2, cap, g, hs _ _ h1, hs _ _ h2, h3⟩
/-- the image -/
def ImI (k : AH) (P : Nat → Nat → Option Nat) (S2 : US) (o n m j : Nat) : Prop := (P 0 11 = none ∧ S2 0 57 = J 0) ∨ (S2 0 57 = J 1 ∧ ∃ (b : Nat) (ri : Nat → Nat) (qa ca : Nat) (fa : Nat → Option Nat) (Ra : Nat → Nat → Nat) (qs cs : Nat) (fs : Nat → Option Nat) (sn : Nat → Nat), (P 0 11 = some b ∧ LnH k o b ri ∧ ROk n m ri ∧ ri 0 ≤ 999) ∧ (P 0 12 = some qa ∧ LstC k qa ca fa ∧ ca ≤ j ∧ ActH k o n m fa ca Ra) ∧ (P 0 13 = some qs ∧ LstC k qs cs fs ∧ cs ≤ 8 ∧ SeeH k n fs cs sn) ∧ S2 0 58 = J ca ∧ S2 0 59 = J cs ∧ (∀ i, i < 49 → S2 28 i = J (ri i)) ∧ ActM S2 29 ca Ra ∧ SeeM S2 30 cs sn)
theorem ImI.keep {k k' : AH} {P P' : Nat → Nat → Option Nat} {S2 S2' : US} {o n m j j' : Nat} (H : ImI k P S2 o n m j) (hk : Sub k k') (hP1 : P' 0 11 = P 0 11) (hP2 : P' 0 12 = P 0 12) (hP3 : P' 0 13 = P 0 13) (h57 : S2' 0 57 = S2 0 57) (h58 : S2' 0 58 = S2 0 58) (h59 : S2' 0 59 = S2 0 59) (h28 : S2' 28 = S2 28) (h29 : S2' 29 = S2 29) (h30 : S2' 30 = S2 30) (hj : j ≤ j') : ImI k' P' S2' o n m j' := by
  unfold ImI ActM SeeM at *
  rw [hP1, hP2, hP3, h57, h58, h59, h28, h29, h30]
  rcases H with H | ⟨h0, b, ri, qa, ca, fa, Ra, qs, cs, fs, sn, ⟨a1, a2, a3⟩, ⟨b1, b2, b3, b4⟩, ⟨c1, c2, c3, c4⟩, h⟩
  · exact Or.inl H
  · exact Or.inr ⟨h0, b, ri, qa, ca, fa, Ra, qs, cs, fs, sn, ⟨a1, a2.sub hk, a3⟩, ⟨b1, b2.sub hk, by omega, b4.sub hk⟩, ⟨c1, c2.sub hk, c3, c4.sub hk⟩, h⟩
/-- the room that is left: so many calls are done, so many bytes lie on the tape -/
def RmI (ct : CT) (G : GS) (j t : Nat) : Prop := G.2.1 + 2000 * t ≤ ct.2.2.1 + 24000 + 49000 * j ∧ G.2.2 + 10000 * t ≤ 29800 + 228000 * j
theorem RmI.rm {ct : CT} {G : GS} {j t c z : Nat} (B : GB ct G) (h : RmI ct G j t) (hj : j < 24) (hc : c ≤ 49000 + 2000 * t) (hz : z ≤ 228000 + 10000 * t) : Rm ct G c z := by
  obtain ⟨-, ⟨h0, hS, -⟩, -⟩ := B
  obtain ⟨-, -, -, -, -, -, -, -, hn, hm⟩ := hS
  obtain ⟨h1, h2⟩ := h
  unfold Rm nmax zmax
  rw [hn, hm]
  omega
def Sep (ct : CT) (q0 q1 e1 q2 e2 : Nat) : Prop := ct.2.2.1 ≤ q0 ∧ (q0 ≠ q1 ∧ q0 ≠ e1 ∧ q0 ≠ q2 ∧ q0 ≠ e2) ∧ q1 ≠ q2 ∧ q1 ≠ e2 ∧ q2 ≠ e1 ∧ (e1 = e2 → e1 < ct.2.2.1)
abbrev cutI (ct : CT) (q0 q1 e1 q2 e2 : Nat) (h : AH) : AH := cutM ct [q0, q1, e1, q2, e2] h
def OutI (G : GS) (q0 : Nat) : Prop := ∃ g : Nat → Int64, G.1 q0 = some (true, .inl (3, 1, .inr (.inl g)))
abbrev ID : Type := RU × (Nat → Nat) × (Nat × Nat × Nat × (Nat → Option Nat) × (Nat → Nat → Nat)) × (Nat × Nat × Nat × (Nat → Option Nat) × (Nat → Nat)) × Nat
def InvD (ct : CT) (a0 q0 j : Nat) (S : US) (G : GS) (P : Nat → Nat → Option Nat) (ad : Nat → Nat) (S2 : US) (u : RU) (r : Nat → Nat) (q1 e1 c1 : Nat) (f1 : Nat → Option Nat) (R1 : Nat → Nat → Nat) (q2 e2 c2 : Nat) (f2 : Nat → Option Nat) (sn : Nat → Nat) (t : Nat) : Prop :=
  (ad 0 = a0 ∧ GB ct G ∧ RmI ct G j t ∧ OutI G q0 ∧ Sep ct q0 q1 e1 q2 e2 ∧ t ≤ 20 * j) ∧
  Core ct P (cutI ct q0 q1 e1 q2 e2 G.1) S S2 u r ∧
  AI ct (cutI ct q0 q1 e1 q2 e2 G.1) G P S2 a0 u.1 u.2.1 j q1 e1 c1 f1 R1 ∧
  SI ct (cutI ct q0 q1 e1 q2 e2 G.1) G P S2 u.1 q2 e2 c2 f2 sn ∧
  TapI S S2 t ∧ FltI S S2 ∧ WdI (cutI ct q0 q1 e1 q2 e2 G.1) P S2 ∧ ImI (cutI ct q0 q1 e1 q2 e2 G.1) P S2 a0 u.1 u.2.1 j
def Inv (ct : CT) (a0 q0 j : Nat) (S : US) (G : GS) (P : Nat → Nat → Option Nat) (ad : Nat → Nat) (S2 : US) : Prop := ∃ u r q1 e1 c1 f1 R1 q2 e2 c2 f2 sn t, InvD ct a0 q0 j S G P ad S2 u r q1 e1 c1 f1 R1 q2 e2 c2 f2 sn t
theorem Core.sub {ct : CT} {P : Nat → Nat → Option Nat} {h h' : AH} {S S2 : US} {u : RU} {r : Nat → Nat} (c : Core ct P h S S2 u r) (hs : Sub h h') : Core ct P h' S S2 u r := ⟨c.1, c.2.1, c.2.2.1, c.2.2.2.1.sub hs, c.2.2.2.2⟩
/-- a method that only looks -/
theorem InvD.look' {ct : CT} {a0 q0 j j' : Nat} {S S' : US} {G G' : GS} {P : Nat → Nat → Option Nat} {ad : Nat → Nat} {S2 S2' : US} {u : RU} {r : Nat → Nat} {q1 e1 c1 : Nat} {f1 : Nat → Option Nat} {R1 : Nat → Nat → Nat} {q2 e2 c2 : Nat} {f2 : Nat → Option Nat} {sn : Nat → Nat} {t c z : Nat} (H : InvD ct a0 q0 j S G P ad S2 u r q1 e1 c1 f1 R1 q2 e2 c2 f2 sn t) (hS : KeepH S S') (hM : KeepM S2 S2') (hg : Gr (fun a => a = q0) G G' c z) (hj : j ≤ j') (hR : RmI ct G' j' t) (ho : OutI G' q0) : InvD ct a0 q0 j' S' G' P ad S2' u r q1 e1 c1 f1 R1 q2 e2 c2 f2 sn t := by
  obtain ⟨⟨h1, h2, h3, h4, h5, h6⟩, hC, hA, hI, hT, hF, hW, hIm⟩ := H
  obtain ⟨s1, ⟨s2, s3, s4, s5⟩, s6⟩ := id h5
  have hk : Sub (cutI ct q0 q1 e1 q2 e2 G.1) (cutI ct q0 q1 e1 q2 e2 G'.1) := cutM_gr h2.1 hg (fun a ha => by rw [ha]; exact ⟨List.mem_cons_self, s1⟩) (fun a h _ => Or.inl h)
  exact ⟨⟨h1, h2.gr hg (fun a ha => by rw [ha]; exact s1), hR, ho, h5, by omega⟩, (hC.sub hk).keep hS hM, hA.keep hk hg (fun z => s2 z.symm) (fun z => s3 z.symm) rfl (hM.2.2 42 (by decide) (by decide)) (hM.1 15 (by decide)) (by omega), hI.keep hk hg (fun z => s4 z.symm) (fun z => s5 z.symm) rfl (hM.2.2 51 (by decide) (by decide)) (hM.1 24 (by decide)), hT.keep (hS.2 6 (by decide)) (hM.2.2 12 (by decide) (by decide)) (hS.1 3 (by decide)) (hM.1 5 (by decide)), hF.keep (hS.2 7 (by decide)) (hM.2.2 14 (by decide) (by decide)) (hS.1 4 (by decide)) (hM.1 6 (by decide)), hW.keep hk rfl (hM.2.2 3 (by decide) (by decide)) (hM.1 2 (by decide)) (hM.1 3 (by decide)), hIm.keep hk rfl rfl rfl (hM.2.2 57 (by decide) (by decide)) (hM.2.2 58 (by decide) (by decide)) (hM.2.2 59 (by decide) (by decide)) (hM.1 28 (by decide)) (hM.1 29 (by decide)) (hM.1 30 (by decide)) (by omega)⟩
theorem RmI.gr {ct : CT} {M : Nat → Prop} {G G' : GS} {j t c z : Nat} (h : RmI ct G j t) (hg : Gr M G G' c z) (hc : c ≤ 49000) (hz : z ≤ 228000) : RmI ct G' (j + 1) t := by
  obtain ⟨m1, m2⟩ := h
  have m3 := hg.2.1.2
  have m4 := hg.2.2.1.2
  exact ⟨by omega, by omega⟩
theorem InvD.look {ct : CT} {a0 q0 j : Nat} {S S' : US} {G G' : GS} {P : Nat → Nat → Option Nat} {ad : Nat → Nat} {S2 S2' : US} {u : RU} {r : Nat → Nat} {q1 e1 c1 : Nat} {f1 : Nat → Option Nat} {R1 : Nat → Nat → Nat} {q2 e2 c2 : Nat} {f2 : Nat → Option Nat} {sn : Nat → Nat} {t c z : Nat} (H : InvD ct a0 q0 j S G P ad S2 u r q1 e1 c1 f1 R1 q2 e2 c2 f2 sn t) (hS : KeepH S S') (hM : KeepM S2 S2') (hg : Gr (fun a => a = q0) G G' c z) (hc : c ≤ 49000) (hz : z ≤ 228000) (ho : OutI G' q0) : InvD ct a0 q0 (j + 1) S' G' P ad S2' u r q1 e1 c1 f1 R1 q2 e2 c2 f2 sn t := H.look' hS hM hg (by omega) (H.1.2.2.1.gr hg hc hz) ho
/-- what is answered is put into the law's array -/
theorem Inv.put {ct : CT} {a0 q0 j : Nat} {S : US} {G : GS} {P : Nat → Nat → Option Nat} {ad : Nat → Nat} {S2 : US} {g : Nat → Int64} (H : Inv ct a0 q0 j S G P ad S2) (x : Nat → Int64) (h : G.1 q0 = some (true, .inl (3, 1, .inr (.inl g)))) : Inv ct a0 q0 j S (setG G q0 (true, .inl (3, 1, .inr (.inl x)))) P ad S2 := by
  obtain ⟨u, r, q1, e1, c1, f1, R1, q2, e2, c2, f2, sn, t, H⟩ := H
  exact ⟨u, r, q1, e1, c1, f1, R1, q2, e2, c2, f2, sn, t, H.look' (c := 0) (z := 0) KeepH.rf KeepM.rf (grw_set h rfl (fun z => by cases z)) (Nat.le_refl _) H.1.2.2.1 ⟨_, setG_at⟩⟩
theorem RulM.of2 {S S' : US} {u : RU} (h : RulM S u) (h0 : ∀ k, 1 ≤ k → k < 7 → S' 0 k = S 0 k) (h1 : S' 1 = S 1) (h4 : S' 4 = S 4) : RulM S' u := by
  refine ⟨(h0 1 (by omega) (by omega)).trans h.1, (h0 2 (by omega) (by omega)).trans h.2.1, (h0 4 (by omega) (by omega)).trans h.2.2.1, fun w hw => by rw [h1]; exact h.2.2.2.1 w hw, ?_, ?_⟩
  · have h2 := h.2.2.2.2.1
    unfold CForm at h2 ⊢
    split at h2
    · exact (h0 5 (by omega) (by omega)).trans h2
    · rw [h0 5 (by omega) (by omega), h4]; exact h2
  · have h2 := h.2.2.2.2.2
    unfold CForm at h2 ⊢
    split at h2
    · exact (h0 6 (by omega) (by omega)).trans h2
    · rw [h0 6 (by omega) (by omega), h4]; exact h2
/-- numbers change, no cell -/
def KeepX (S S' : US) : Prop := (∀ a, (a = 2 ∨ a = 3 ∨ a = 5 ∨ a = 15 ∨ a = 24 ∨ a = 28 ∨ a = 29 ∨ a = 30) → S' a = S a) ∧ ∀ k, k ≠ 0 → k ≠ 55 → S' 0 k = S 0 k
theorem InvD.st {ct : CT} {a0 q0 j : Nat} {S S' : US} {G : GS} {P : Nat → Nat → Option Nat} {ad : Nat → Nat} {S2 S2' : US} {u : RU} {r r' : Nat → Nat} {q1 e1 c1 : Nat} {f1 : Nat → Option Nat} {R1 : Nat → Nat → Nat} {q2 e2 c2 : Nat} {f2 : Nat → Option Nat} {sn : Nat → Nat} {t : Nat} (H : InvD ct a0 q0 j S G P ad S2 u r q1 e1 c1 f1 R1 q2 e2 c2 f2 sn t) (hC : Core ct P (cutI ct q0 q1 e1 q2 e2 G.1) S' S2' u r') (h06 : S' 0 6 = S 0 6) (h3 : S' 3 = S 3) (hF : FltI S' S2') (hM : KeepX S2 S2') : InvD ct a0 q0 j S' G P ad S2' u r' q1 e1 c1 f1 R1 q2 e2 c2 f2 sn t := by
  obtain ⟨h1, -, hA, hI, hT, -, hW, hIm⟩ := H
  have hb : Sub (cutI ct q0 q1 e1 q2 e2 G.1) (cutI ct q0 q1 e1 q2 e2 G.1) := Sub.rf
  have hg : Gr (fun _ => False) G G 0 0 := Gr.rf
  exact ⟨h1, hC, hA.keep hb hg (fun z => z) (fun z => z) rfl (hM.2 42 (by decide) (by decide)) (hM.1 15 (by decide)) (Nat.le_refl _), hI.keep hb hg (fun z => z) (fun z => z) rfl (hM.2 51 (by decide) (by decide)) (hM.1 24 (by decide)), hT.keep h06 (hM.2 12 (by decide) (by decide)) h3 (hM.1 5 (by decide)), hF, hW.keep hb rfl (hM.2 3 (by decide) (by decide)) (hM.1 2 (by decide)) (hM.1 3 (by decide)), hIm.keep hb rfl rfl rfl (hM.2 57 (by decide) (by decide)) (hM.2 58 (by decide) (by decide)) (hM.2 59 (by decide) (by decide)) (hM.1 28 (by decide)) (hM.1 29 (by decide)) (hM.1 30 (by decide)) (Nat.le_refl _)⟩
theorem InvD.ref {ct : CT} {a0 q0 j k : Nat} {S : US} {G : GS} {P : Nat → Nat → Option Nat} {ad : Nat → Nat} {S2 : US} {u : RU} {r : Nat → Nat} {q1 e1 c1 : Nat} {f1 : Nat → Option Nat} {R1 : Nat → Nat → Nat} {q2 e2 c2 : Nat} {f2 : Nat → Option Nat} {sn : Nat → Nat} {t : Nat} (H : InvD ct a0 q0 j S G P ad S2 u r q1 e1 c1 f1 R1 q2 e2 c2 f2 sn t) (hk : k < 3) : InvD ct a0 q0 j (u2 S 4 k (S 4 k + J 1)) G P ad (u2 S2 6 k (S2 6 k + J 1)) u r q1 e1 c1 f1 R1 q2 e2 c2 f2 sn t := by
  have hC := H.2.1
  refine H.st ⟨hC.1, hC.2.1, hC.2.2.1, hC.2.2.2.1.of (u2_row' (by decide)), hC.2.2.2.2.1.of (fun i hi => u2_row' (by unfold lc; omega)), hC.2.2.2.2.2.1.of (fun k _ => by rw [u2_row' (by decide)]) (u2_row' (by decide)) (u2_row' (by decide)), hC.2.2.2.2.2.2.of (u2_row' (by decide))⟩ (by rw [u2_row' (by decide)]) (u2_row' (by decide)) ⟨?_, fun i hi => ?_⟩ ⟨fun a ha => u2_row' (by omega), fun k _ _ => by rw [u2_row' (by decide)]⟩
  · rw [u2_row' (by decide), u2_row' (by decide)]
    exact H.2.2.2.2.2.1.1
  · have h1 := H.2.2.2.2.2.1.2 i hi
    by_cases e : i = k
    · subst e
      rw [u2_at, u2_at, h1]
    · rw [u2_off (by omega), u2_off (by omega)]
      exact h1
theorem InvD.row {ct : CT} {a0 q0 j : Nat} {S S' : US} {G : GS} {P : Nat → Nat → Option Nat} {ad : Nat → Nat} {S2 S2' : US} {u : RU} {r r' : Nat → Nat} {q1 e1 c1 : Nat} {f1 : Nat → Option Nat} {R1 : Nat → Nat → Nat} {q2 e2 c2 : Nat} {f2 : Nat → Option Nat} {sn : Nat → Nat} {t : Nat} (H : InvD ct a0 q0 j S G P ad S2 u r q1 e1 c1 f1 R1 q2 e2 c2 f2 sn t) (hS : HR S 0 r' S') (hM : MR S2 0 r' S2') (hR : ROk u.1 u.2.1 r') (hd : r' 0 ≤ 999) : InvD ct a0 q0 j S' G P ad S2' u r' q1 e1 c1 f1 R1 q2 e2 c2 f2 sn t := by
  have hC := H.2.1
  have e0 : S' 0 = S 0 := hS.2 0 (by decide) (by decide)
  have e3 : S' 3 = S 3 := hS.2 3 (by decide) (by decide)
  have e4 : S' 4 = S 4 := hS.2 4 (by decide) (by decide)
  have m : ∀ a, a ≠ 14 → a ≠ 16 → a ≠ 17 → a ≠ 18 → S2' a = S2 a := hM.2.1
  have m0 : S2' 0 = S2 0 := m 0 (by decide) (by decide) (by decide) (by decide)
  refine H.st ⟨hC.1, hR, hd, hC.2.2.2.1.of hS.2.one, hS.1, hM.2.rul hC.2.2.2.2.2.1, hM.1⟩ (by rw [e0]) e3 (H.2.2.2.2.2.1.keep (by rw [e0]) (by rw [m0]) e4 (m 6 (by decide) (by decide) (by decide) (by decide))) ⟨fun a ha => m a (by omega) (by omega) (by omega) (by omega), fun k _ _ => by rw [m0]⟩
theorem InvD.z {ct : CT} {a0 q0 j : Nat} {S : US} {G : GS} {P : Nat → Nat → Option Nat} {ad : Nat → Nat} {S2 : US} {u : RU} {r : Nat → Nat} {q1 e1 c1 : Nat} {f1 : Nat → Option Nat} {R1 : Nat → Nat → Nat} {q2 e2 c2 : Nat} {f2 : Nat → Option Nat} {sn : Nat → Nat} {t : Nat} (H : InvD ct a0 q0 j S G P ad S2 u r q1 e1 c1 f1 R1 q2 e2 c2 f2 sn t) : InvD ct a0 q0 j S G P ad (Z0 S2) u r q1 e1 c1 f1 R1 q2 e2 c2 f2 sn t := H.look' (c := 0) (z := 0) KeepH.rf Z0_k Gr.rf (Nat.le_refl _) H.1.2.2.1 H.1.2.2.2.1
/-- .. as methods see it -/
theorem InvD.core {ct : CT} {a0 q0 j : Nat} {S : US} {G : GS} {P : Nat → Nat → Option Nat} {ad : Nat → Nat} {S2 : US} {u : RU} {r : Nat → Nat} {q1 e1 c1 : Nat} {f1 : Nat → Option Nat} {R1 : Nat → Nat → Nat} {q2 e2 c2 : Nat} {f2 : Nat → Option Nat} {sn : Nat → Nat} {t : Nat} (H : InvD ct a0 q0 j S G P ad S2 u r q1 e1 c1 f1 R1 q2 e2 c2 f2 sn t) : Core ct P G.1 S S2 u r := H.2.1.sub cutM_sub
/-- what a throw costs -/
theorem gr_thr {M : Nat → Prop} {G : GS} : Gr M G (G.1, G.2.1 + 1, G.2.2 + 6) 1 6 := ⟨fun _ _ _ h => h, ⟨Nat.le_succ _, Nat.le_refl _⟩, ⟨Nat.le_add_right _ _, Nat.le_refl _⟩, fun hb a e ha => Nat.lt_succ_of_lt (hb a e ha), fun _ h => h⟩
theorem hPutJ_eq {ρ : Type} {G : GS} {q : Nat} {g : Nat → Int64} {v : Int64} {kp : GS → Option ρ} (h : G.1 q = some (true, .inl (3, 1, .inr (.inl g)))) : hPutJ G q 0 v kp = kp (setG G q (true, .inl (3, 1, .inr (.inl (vp_updL g 0 v))))) := by
  unfold hPutJ setG
  rw [h]
  rfl
theorem hJ_eq {ρ : Type} {h : AH} {q : Nat} {o : Bool} {g : Nat → Int64} {kp : Int64 → Option ρ} (h1 : h q = some (o, .inl (3, 1, .inr (.inl g)))) : hJ h q 0 kp = kp (g 0) := by
  unfold hJ
  rw [h1]
  rfl
theorem vpL_at {g : Nat → Int64} {v : Int64} : vp_updL g 0 v 0 = v := by simp [vp_updL]
theorem out_put {G G' : GS} {q0 c z : Nat} {g : Nat → Int64} {v : Int64} (h : G'.1 q0 = some (true, .inl (3, 1, .inr (.inl g)))) (hg : Gr (fun _ => False) G G' c z) : Gr (fun a => a = q0) G (setG G' q0 (true, .inl (3, 1, .inr (.inl (vp_updL g 0 v))))) c z ∧ OutI (setG G' q0 (true, .inl (3, 1, .inr (.inl (vp_updL g 0 v))))) q0 := ⟨(hg.mono (fun _ h => h.elim)).tr (grw_set (M := fun a => a = q0) h rfl (fun z => by cases z)), _, setG_at⟩
