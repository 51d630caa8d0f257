set_option maxRecDepth 100000
def sA_newCapacity (ct : CT) (G0 : GS) (q0 : Nat) (p1 : Int32) : Option (Int32 × GS) :=
  hR G0.1 q0 11 0 (fun r1 => onR r1 (fun b2 => hL G0.1 b2 2 (fun v3 => hI G0.1 q0 11 1 (fun v4 => hI G0.1 q0 11 1 (fun v5 => callK (sV_newLength v3 ((p1 <<< (v4 &&& 31)) - v3) (v3 + ((2 : Int32) <<< (v5 &&& 31)))) (fun o6 => (if o6 = (2147483647 : Int32) then none else hI G0.1 q0 11 1 (fun v7 => some ((o6 >>> (v7 &&& 31)), G0)))))))))

def sY_copyOf_3 (ct : CT) (G0 : GS) (p1 : (Option Nat)) (p2 : Int32) : Option ((Option Nat) × GS) :=
  onR p1 (fun b1 => hL G0.1 b1 2 (fun v2 => (if p2 = v2 then none else if p2 < 0 ∨ 67108864 < p2.toNatClampNeg then none else newB ct G0 p2.toNatClampNeg (.inl (2, p2.toNatClampNeg, .inl (fun _ => 0))) (fun q3 G4 => hL G4.1 b1 2 (fun v5 => hCpyB G4 b1 (0 : Int32) q3 (0 : Int32) (if p2 < v5 then p2 else v5) (fun G6 => some ((some q3), G6)))))))

def sA_ensureCapacityInternal (ct : CT) (G0 : GS) (q0 : Nat) (p1 : Int32) : Option GS :=
  hR G0.1 q0 11 0 (fun r1 => onR r1 (fun b2 => hL G0.1 b2 2 (fun v3 => hI G0.1 q0 11 1 (fun v4 => (if (p1 - (v3 >>> (v4 &&& 31))) ≤ 0 then some G0 else hR G0.1 q0 11 0 (fun r5 => hC G0.1 q0 11 (callK (sA_newCapacity ct G0 q0 p1) (fun o6 => hI o6.2.1 q0 11 1 (fun v7 => callK (sY_copyOf_3 ct o6.2 r5 (o6.1 <<< (v7 &&& 31))) (fun o8 => hPut o8.2 q0 11 0 (va_rf o8.1) (fun G9 => some G9)))))))))))

def sA_init (ct : CT) (G0 : GS) (q0 : Nat) (p1 : Int32) : Option GS :=
  (if (1 : Int32) = 0 then none else if p1 < 0 ∨ 67108864 < p1.toNatClampNeg then none else newB ct G0 p1.toNatClampNeg (.inl (2, p1.toNatClampNeg, .inl (fun _ => 0))) (fun q1 G2 => hPut G2 q0 11 0 (.ref q1) (fun G3 => hPut G3 q0 11 1 (.int (0 : Int32)) (fun G4 => some G4))))

def sB_init (ct : CT) (G0 : GS) (q0 : Nat) : Option GS :=
  callK (sA_init ct G0 q0 (16 : Int32)) (fun o1 => some o1)

def sA_append_J56 (q0 : Nat) (o2 : GS) : Option ((Option Nat) × GS) :=
  hR o2.1 q0 11 0 (fun r13 => hI o2.1 q0 11 3 (fun v14 => hPut o2 q0 11 3 (.int (v14 + (1 : Int32))) (fun G15 => none)))
def sA_append_J45 (q0 : Nat) (o2 : GS) : Option ((Option Nat) × GS) :=
  hC o2.1 q0 11 (callK (sA_isLatin1 o2.1 q0) (fun o11 => joinB (fun (x12 : Unit) => sA_append_J56 q0 o2) (fun j12 => (if (bI o11) = 0 then j12 () else none))))
def sA_append (ct : CT) (G0 : GS) (q0 : Nat) (p1 : Int32) : Option ((Option Nat) × GS) :=
  hI G0.1 q0 11 3 (fun v1 => hC G0.1 q0 11 (callK (sA_ensureCapacityInternal ct G0 q0 (v1 + (1 : Int32))) (fun o2 => hC o2.1 q0 11 (callK (sA_isLatin1 o2.1 q0) (fun o3 => joinB (fun (x4 : Unit) => sA_append_J45 q0 o2) (fun j4 => (if (bI o3) = 0 then j4 () else callK (sT_canEncode_2 p1) (fun o5 => (if (bI o5) = 0 then j4 () else hR o2.1 q0 11 0 (fun r6 => hI o2.1 q0 11 3 (fun v7 => hPut o2 q0 11 3 (.int (v7 + (1 : Int32))) (fun G8 => onR r6 (fun b9 => hPutZ G8 b9 2 v7 (vp_nar .byte p1.toInt8.toInt32) (fun G10 => some ((some q0), G10)))))))))))))))

def sB_append (ct : CT) (G0 : GS) (q0 : Nat) (p1 : Int32) : Option ((Option Nat) × GS) :=
  hC G0.1 q0 11 (callK (sA_append ct G0 q0 p1) (fun o1 => some ((some q0), o1.2)))

def sB_length (ct : CT) (G0 : GS) (q0 : Nat) : Option (Int32 × GS) :=
  hC G0.1 q0 11 (callK (sA_length G0.1 q0) (fun o1 => some (o1, G0)))

def sY_checkLength (ct : CT) (G0 : GS) (p1 : Int32) (p2 : Int32) : Option GS :=
  (if p1 ≤ p2 then some G0 else none)

def sY_copyOfRangeByte (ct : CT) (G0 : GS) (p1 : (Option Nat)) (p2 : Int32) (p3 : Int32) : Option ((Option Nat) × GS) :=
  callK (sY_checkLength ct G0 p2 p3) (fun o1 => if (p3 - p2) < 0 ∨ 67108864 < (p3 - p2).toNatClampNeg then none else newB ct o1 (p3 - p2).toNatClampNeg (.inl (2, (p3 - p2).toNatClampNeg, .inl (fun _ => 0))) (fun q2 G3 => onR p1 (fun b4 => hL G3.1 b4 2 (fun v5 => hCpyB G3 b4 p2 q2 (0 : Int32) (if (p3 - p2) < (v5 - p2) then (p3 - p2) else (v5 - p2)) (fun G6 => some ((some q2), G6))))))

def sY_copyOfRange (ct : CT) (G0 : GS) (p1 : (Option Nat)) (p2 : Int32) (p3 : Int32) : Option ((Option Nat) × GS) :=
  (if p2 = 0 then onR p1 (fun b2 => hL G0.1 b2 2 (fun v3 => (if p3 = v3 then none else callK (sY_copyOfRangeByte ct G0 (some b2) p2 p3) (fun o4 => some (o4.1, o4.2))))) else callK (sY_copyOfRangeByte ct G0 p1 p2 p3) (fun o1 => some (o1.1, o1.2)))

def sS_init_2_J79 (q0 : Nat) (ct : CT) (o2 : (Option Nat)) (o3 : (Int32 × GS)) : Option GS :=
  hPut o3.2 q0 13 1 (.int (1 : Int32)) (fun G7 => callK (sY_copyOfRange ct G7 o2 (0 : Int32) (o3.1 <<< ((1 : Int32) &&& 31))) (fun o8 => hPut o8.2 q0 13 0 (va_rf o8.1) (fun G9 => some G9)))
def sS_init_2 (ct : CT) (G0 : GS) (q0 : Nat) (p1 : (Option Nat)) (p2 : (Option Nat)) : Option GS :=
  onR p1 (fun b1 => hC G0.1 b1 11 (callK (sA_getValue G0.1 b1) (fun o2 => hC G0.1 b1 11 (callK (sB_length ct G0 b1) (fun o3 => hC o3.2.1 b1 11 (callK (sA_isLatin1 o3.2.1 b1) (fun o4 => (if (bI o4) = 0 then joinB (fun (x5 : Unit) => sS_init_2_J79 q0 ct o2 o3) (fun j5 => (if (1 : Int32) = 0 then j5 () else hI o3.2.1 b1 11 2 (fun v6 => (if v6 = 0 then j5 () else none)))) else hPut o3.2 q0 13 1 (.int (0 : Int32)) (fun G10 => callK (sY_copyOfRange ct G10 o2 (0 : Int32) o3.1) (fun o11 => hPut o11.2 q0 13 0 (va_rf o11.1) (fun G12 => some G12)))))))))))

def sS_init (ct : CT) (G0 : GS) (q0 : Nat) (p1 : (Option Nat)) : Option GS :=
  callK (sS_init_2 ct G0 q0 p1 none) (fun o1 => some o1)

def sB_toString (ct : CT) (G0 : GS) (q0 : Nat) : Option ((Option Nat) × GS) :=
  newB ct G0 4 (.inr (13, [.null, .int 0, .int 0, .int 0])) (fun q1 G2 => callK (sS_init ct G2 q1 (some q0)) (fun o3 => some ((some q1), o3)))
