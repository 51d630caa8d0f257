set_option maxRecDepth 100000
def s5_here (ct : CT) (ad : Nat → Nat) (P : Nat → Nat → Option Nat) (S : US) (G0 : GS) (q0 : Nat) : Option (Int32 × GS) :=
  hI G0.1 q0 4 5 (fun v1 => hI G0.1 q0 4 0 (fun v2 => (if v2 ≤ v1 then some ((-1 : Int32), G0) else hR G0.1 q0 4 12 (fun r3 => if r3 = some (ad 0) then (hI G0.1 q0 4 5 (fun v4 => if v4 < 0 ∨ 700 ≤ v4.toNatClampNeg then none else (some (((S (3) v4.toNatClampNeg) &&& (255 : Int32)), G0)))) else none))))

def s5_isLetter (ct : CT) (ad : Nat → Nat) (P : Nat → Nat → Option Nat) (S : US) (G0 : GS) (q0 : Nat) : Option (Bool × GS) :=
  hC G0.1 q0 4 (callK (s5_here ct ad P S G0 q0) (fun o1 => callK (s1_in o1.1 (97 : Int32) (122 : Int32)) (fun o2 => some (o2, o1.2))))

def s5_isDigit (ct : CT) (ad : Nat → Nat) (P : Nat → Nat → Option Nat) (S : US) (G0 : GS) (q0 : Nat) : Option (Bool × GS) :=
  hC G0.1 q0 4 (callK (s5_here ct ad P S G0 q0) (fun o1 => callK (s1_in o1.1 (48 : Int32) (57 : Int32)) (fun o2 => some (o2, o1.2))))

def s5_next_L102 (q0 : Nat) (S : US) (P : (Nat → Nat → Option Nat)) (ad : (Nat → Nat)) (ct : CT) (rc26 : (GS → Option GS)) (G25 : GS) : Option GS :=
  hC G25.1 q0 4 (callK (s5_isDigit ct ad P S G25 q0) (fun o27 => (if (bI o27.1) = 0 then hPut o27.2 q0 4 6 (.int (2 : Int32)) (fun G28 => hI G28.1 q0 4 5 (fun v29 => hPut G28 q0 4 8 (.int v29) (fun G30 => some G30))) else hI o27.2.1 q0 4 9 (fun v31 => hC o27.2.1 q0 4 (callK (s5_here ct ad P S o27.2 q0) (fun o32 => hPut o32.2 q0 4 9 (.int (if ((((10 : Int32) * v31) + o32.1) - (48 : Int32)) < (100000 : Int32) then ((((10 : Int32) * v31) + o32.1) - (48 : Int32)) else (100000 : Int32))) (fun G33 => hI G33.1 q0 4 5 (fun v34 => hPut G33 q0 4 5 (.int (v34 + (1 : Int32))) (fun G35 => rc26 G35)))))))))
def s5_next_L62 (q0 : Nat) (S : US) (P : (Nat → Nat → Option Nat)) (ad : (Nat → Nat)) (ct : CT) (rc37 : (GS → Option GS)) (G36 : GS) : Option GS :=
  hC G36.1 q0 4 (callK (s5_isLetter ct ad P S G36 q0) (fun o38 => (if (bI o38.1) = 0 then hPut o38.2 q0 4 6 (.int (1 : Int32)) (fun G39 => hI G39.1 q0 4 5 (fun v40 => hPut G39 q0 4 8 (.int v40) (fun G41 => some G41))) else hI o38.2.1 q0 4 5 (fun v42 => hPut o38.2 q0 4 5 (.int (v42 + (1 : Int32))) (fun G43 => rc37 G43)))))
def s5_next_L0 (q0 : Nat) (S : US) (P : (Nat → Nat → Option Nat)) (ad : (Nat → Nat)) (ct : CT) (rc2 : (GS → Option GS)) (G1 : GS) : Option GS :=
  hC G1.1 q0 4 (callK (s5_here ct ad P S G1 q0) (fun o3 => (if o3.1 = (32 : Int32) then hI o3.2.1 q0 4 5 (fun v4 => hPut o3.2 q0 4 5 (.int (v4 + (1 : Int32))) (fun G5 => rc2 G5)) else hC o3.2.1 q0 4 (callK (s5_here ct ad P S o3.2 q0) (fun o6 => (if o6.1 = (10 : Int32) then hI o6.2.1 q0 4 5 (fun v47 => hPut o6.2 q0 4 5 (.int (v47 + (1 : Int32))) (fun G48 => rc2 G48)) else hI o6.2.1 q0 4 5 (fun v7 => hPut o6.2 q0 4 7 (.int v7) (fun G8 => hC G8.1 q0 4 (callK (s5_here ct ad P S G8 q0) (fun o9 => (if o9.1 = (-1 : Int32) then hPut o9.2 q0 4 6 (.int (0 : Int32)) (fun G44 => hI G44.1 q0 4 5 (fun v45 => hPut G44 q0 4 8 (.int v45) (fun G46 => some G46))) else hC o9.2.1 q0 4 (callK (s5_isLetter ct ad P S o9.2 q0) (fun o10 => (if (bI o10.1) = 0 then hC o10.2.1 q0 4 (callK (s5_isDigit ct ad P S o10.2 q0) (fun o11 => (if (bI o11.1) = 0 then hC o11.2.1 q0 4 (callK (s5_here ct ad P S o11.2 q0) (fun o12 => hC o12.2.1 (ct.2.1 50) 13 (callK (sS_indexOf o12.2.1 (ct.2.1 50) o12.1) (fun o13 => (if o13 < 0 then hPut o12.2 q0 4 6 (.int (4 : Int32)) (fun G14 => hI G14.1 q0 4 5 (fun v15 => hPut G14 q0 4 5 (.int (v15 + (1 : Int32))) (fun G16 => hI G16.1 q0 4 5 (fun v17 => hPut G16 q0 4 8 (.int v17) (fun G18 => some G18))))) else hPut o12.2 q0 4 6 (.int (3 : Int32)) (fun G19 => hI G19.1 q0 4 5 (fun v20 => hPut G19 q0 4 5 (.int (v20 + (1 : Int32))) (fun G21 => hI G21.1 q0 4 5 (fun v22 => hPut G21 q0 4 8 (.int v22) (fun G23 => some G23)))))))))) else hPut o11.2 q0 4 9 (.int (0 : Int32)) (fun G24 => loopK (fun rc (x : GS) => s5_next_L102 q0 S P ad ct rc x) FUEL G24)))) else loopK (fun rc (x : GS) => s5_next_L62 q0 S P ad ct rc x) FUEL o10.2))))))))))))))
def s5_next (ct : CT) (ad : Nat → Nat) (P : Nat → Nat → Option Nat) (S : US) (G0 : GS) (q0 : Nat) : Option GS :=
  loopK (fun rc (x : GS) => s5_next_L0 q0 S P ad ct rc x) FUEL G0

def s5_is_L28 (q0 : Nat) (S : US) (ad : (Nat → Nat)) (G0 : GS) (ct : CT) (b2 : Nat) (rc7 : (Int32 → Option (Bool × GS))) (v6 : Int32) : Option (Bool × GS) :=
  hC G0.1 b2 13 (callK (sS_length G0.1 b2) (fun o8 => (if o8 ≤ v6 then some (true, G0) else hC G0.1 b2 13 (callK (sS_charAt ct G0.1 b2 v6) (fun o9 => hR G0.1 q0 4 12 (fun r10 => if r10 = some (ad 0) then (hI G0.1 q0 4 7 (fun v11 => if (v11 + v6) < 0 ∨ 700 ≤ (v11 + v6).toNatClampNeg then none else ((if o9 = ((S (3) (v11 + v6).toNatClampNeg) &&& (255 : Int32)) then rc7 (v6 + (1 : Int32)) else some (false, G0))))) else none))))))
def s5_is (ct : CT) (ad : Nat → Nat) (P : Nat → Nat → Option Nat) (S : US) (G0 : GS) (q0 : Nat) (p1 : (Option Nat)) : Option (Bool × GS) :=
  hI G0.1 q0 4 6 (fun v1 => (if v1 = (1 : Int32) then onR p1 (fun b2 => hC G0.1 b2 13 (callK (sS_length G0.1 b2) (fun o3 => hI G0.1 q0 4 8 (fun v4 => hI G0.1 q0 4 7 (fun v5 => (if o3 = (v4 - v5) then loopK (fun rc (x : Int32) => s5_is_L28 q0 S ad G0 ct b2 rc x) FUEL (0 : Int32) else some (false, G0))))))) else some (false, G0)))

def s5_which_L2 (q0 : Nat) (p1 : (Option Nat)) (S : US) (P : (Nat → Nat → Option Nat)) (ad : (Nat → Nat)) (ct : CT) (rc3 : ((GS × Int32) → Option (Int32 × GS))) (G1 : GS) (v2 : Int32) : Option (Int32 × GS) :=
  onR p1 (fun b4 => hL G1.1 b4 5 (fun v5 => (if v5 ≤ v2 then some ((-1 : Int32), G1) else hQ G1.1 b4 5 v2 (fun r6 => hC G1.1 q0 4 (callK (s5_is ct ad P S G1 q0 r6) (fun o7 => (if (bI o7.1) = 0 then rc3 (o7.2, (v2 + (1 : Int32))) else some (v2, o7.2))))))))
def s5_which (ct : CT) (ad : Nat → Nat) (P : Nat → Nat → Option Nat) (S : US) (G0 : GS) (q0 : Nat) (p1 : (Option Nat)) : Option (Int32 × GS) :=
  loopK (fun rc (x : (GS × Int32)) => s5_which_L2 q0 p1 S P ad ct rc x.1 x.2) FUEL (G0, (0 : Int32))

def s5_written_L13 (q0 : Nat) (S : US) (ad : (Nat → Nat)) (ct : CT) (q1 : Nat) (rc7 : ((GS × Int32) → Option ((Option Nat) × GS))) (G5 : GS) (v6 : Int32) : Option ((Option Nat) × GS) :=
  hI G5.1 q0 4 8 (fun v8 => (if v8 ≤ v6 then hC G5.1 q1 11 (callK (sB_toString ct G5 q1) (fun o9 => some (o9.1, o9.2))) else hR G5.1 q0 4 12 (fun r10 => if r10 = some (ad 0) then (if v6 < 0 ∨ 700 ≤ v6.toNatClampNeg then none else (hC G5.1 q1 11 (callK (sB_append ct G5 q1 (((S (3) v6.toNatClampNeg).toUInt32 % 65536).toInt32)) (fun o11 => rc7 (o11.2, (v6 + (1 : Int32))))))) else none)))
def s5_written (ct : CT) (ad : Nat → Nat) (P : Nat → Nat → Option Nat) (S : US) (G0 : GS) (q0 : Nat) : Option ((Option Nat) × GS) :=
  newB ct G0 4 (.inr (11, [.null, .int 0, .int 0, .int 0])) (fun q1 G2 => callK (sB_init ct G2 q1) (fun o3 => hI o3.1 q0 4 7 (fun v4 => loopK (fun rc (x : (GS × Int32)) => s5_written_L13 q0 S ad ct q1 rc x.1 x.2) FUEL (o3, v4))))

def s5_isSign (ct : CT) (ad : Nat → Nat) (P : Nat → Nat → Option Nat) (S : US) (G0 : GS) (q0 : Nat) (p1 : Int32) : Option (Bool × GS) :=
  hI G0.1 q0 4 6 (fun v1 => (if v1 = (3 : Int32) then hR G0.1 q0 4 12 (fun r2 => if r2 = some (ad 0) then (hI G0.1 q0 4 7 (fun v3 => if v3 < 0 ∨ 700 ≤ v3.toNatClampNeg then none else ((if (S (3) v3.toNatClampNeg) = p1 then some (true, G0) else some (false, G0))))) else none) else some (false, G0)))

def s5_sign (ct : CT) (ad : Nat → Nat) (P : Nat → Nat → Option Nat) (S : US) (G0 : GS) (q0 : Nat) : Option (Int32 × GS) :=
  hR G0.1 q0 4 12 (fun r1 => if r1 = some (ad 0) then (hI G0.1 q0 4 7 (fun v2 => if v2 < 0 ∨ 700 ≤ v2.toNatClampNeg then none else (hC G0.1 q0 4 (callK (s5_next ct ad P S G0 q0) (fun o3 => (if vp_nar .char ((S (3) v2.toNatClampNeg).toUInt32 % 65536).toInt32 = ((S (3) v2.toNatClampNeg).toUInt32 % 65536).toInt32 then some (((S (3) v2.toNatClampNeg).toUInt32 % 65536).toInt32, o3) else none)))))) else none)

def s5_passes (ct : CT) (ad : Nat → Nat) (P : Nat → Nat → Option Nat) (S : US) (G0 : GS) (q0 : Nat) (p1 : (Option Nat)) : Option (Bool × GS) :=
  hC G0.1 q0 4 (callK (s5_is ct ad P S G0 q0 p1) (fun o1 => (if (bI o1.1) = 0 then some (o1.1, o1.2) else hC o1.2.1 q0 4 (callK (s5_next ct ad P S o1.2 q0) (fun o2 => some (o1.1, o2))))))
