set_option maxRecDepth 100000
def sV_newLength (p1 : Int32) (p2 : Int32) (p3 : Int32) : Option Int32 :=
  (if (p1 + (if p2 < p3 then p3 else p2)) ≤ (0 : Int32) then none else (if (2147483639 : Int32) < (p1 + (if p2 < p3 then p3 else p2)) then none else some (p1 + (if p2 < p3 then p3 else p2))))

def sS_coder (h : AH) (q0 : Nat) : Option Int32 :=
  (if (1 : Int32) = 0 then (if vp_nar .byte (1 : Int32) = (1 : Int32) then some (1 : Int32) else none) else hI h q0 13 1 (fun v1 => (if vp_nar .byte v1 = v1 then some v1 else none)))

def sS_length (h : AH) (q0 : Nat) : Option Int32 :=
  hR h q0 13 0 (fun r1 => onR r1 (fun b2 => hL h b2 2 (fun v3 => hC h q0 13 (callK (sS_coder h q0) (fun o4 => some (v3 >>> (o4 &&& 31)))))))

def sS_isLatin1 (h : AH) (q0 : Nat) : Option Bool :=
  (if (1 : Int32) = 0 then some false else hI h q0 13 1 (fun v1 => (if v1 = 0 then some true else some false)))

def sT_charAt (ct : CT) (h : AH) (p1 : (Option Nat)) (p2 : Int32) : Option Int32 :=
  onR p1 (fun b1 => hL h b1 2 (fun v2 => callK (sS_checkIndex ct h p2 v2) (fun o3 => hZ h b1 2 p2 (fun v4 => (if vp_nar .char ((v4 &&& (255 : Int32)).toUInt32 % 65536).toInt32 = ((v4 &&& (255 : Int32)).toUInt32 % 65536).toInt32 then some (((v4 &&& (255 : Int32)).toUInt32 % 65536).toInt32) else none)))))

def sS_charAt (ct : CT) (h : AH) (q0 : Nat) (p1 : Int32) : Option Int32 :=
  hC h q0 13 (callK (sS_isLatin1 h q0) (fun o1 => (if (bI o1) = 0 then hR h q0 13 0 (fun r2 => none) else hR h q0 13 0 (fun r3 => callK (sT_charAt ct h r3 p1) (fun o4 => (if vp_nar .char o4 = o4 then some o4 else none))))))

def sT_canEncode (p1 : Int32) : Option Bool :=
  (if p1 < 0 then some false else (if (255 : Int32) < p1 then some false else some true))

def sT_canEncode_2 (p1 : Int32) : Option Bool :=
  (if (255 : Int32) < p1 then some false else some true)

def sT_indexOfChar_L7 (p1 : (Option Nat)) (p2 : Int32) (p4 : Int32) (h : AH) (rc2 : (Int32 → Option Int32)) (v1 : Int32) : Option Int32 :=
  (if p4 ≤ v1 then some (-1 : Int32) else onR p1 (fun b3 => hZ h b3 2 v1 (fun v4 => (if v4 = p2.toInt8.toInt32 then some v1 else rc2 (v1 + (1 : Int32))))))
def sT_indexOfChar (h : AH) (p1 : (Option Nat)) (p2 : Int32) (p3 : Int32) (p4 : Int32) : Option Int32 :=
  loopK (fun rc (x : Int32) => sT_indexOfChar_L7 p1 p2 p4 h rc x) FUEL p3

def sT_indexOf (h : AH) (p1 : (Option Nat)) (p2 : Int32) (p3 : Int32) (p4 : Int32) : Option Int32 :=
  callK (sT_canEncode p2) (fun o1 => (if (bI o1) = 0 then some (-1 : Int32) else onR p1 (fun b2 => hL h b2 2 (fun v3 => (if (if p3 < (0 : Int32) then (0 : Int32) else p3) < (if v3 < p4 then v3 else p4) then callK (sT_indexOfChar h (some b2) p2 (if p3 < (0 : Int32) then (0 : Int32) else p3) (if v3 < p4 then v3 else p4)) (fun o4 => some o4) else some (-1 : Int32))))))

def sS_indexOf_2 (h : AH) (q0 : Nat) (p1 : Int32) (p2 : Int32) : Option Int32 :=
  hC h q0 13 (callK (sS_isLatin1 h q0) (fun o1 => (if (bI o1) = 0 then hR h q0 13 0 (fun r2 => hC h q0 13 (callK (sS_length h q0) (fun o3 => none))) else hR h q0 13 0 (fun r4 => hC h q0 13 (callK (sS_length h q0) (fun o5 => callK (sT_indexOf h r4 p1 p2 o5) (fun o6 => some o6)))))))

def sS_indexOf (h : AH) (q0 : Nat) (p1 : Int32) : Option Int32 :=
  hC h q0 13 (callK (sS_indexOf_2 h q0 p1 (0 : Int32)) (fun o1 => some o1))

def sT_equals_L9 (h : AH) (b1 : Nat) (b3 : Nat) (rc6 : (Int32 → Option Bool)) (v5 : Int32) : Option Bool :=
  hL h b1 2 (fun v7 => (if v7 ≤ v5 then some true else hZ h b1 2 v5 (fun v8 => hZ h b3 2 v5 (fun v9 => (if v8 = v9 then rc6 (v5 + (1 : Int32)) else some false)))))
def sT_equals (h : AH) (p1 : (Option Nat)) (p2 : (Option Nat)) : Option Bool :=
  onR p1 (fun b1 => hL h b1 2 (fun v2 => onR p2 (fun b3 => hL h b3 2 (fun v4 => (if v2 = v4 then loopK (fun rc (x : Int32) => sT_equals_L9 h b1 b3 rc x) FUEL (0 : Int32) else some false)))))

def sS_equals_J36 (q0 : Nat) (h : AH) (b1 : Nat) : Option Bool :=
  hR h q0 13 0 (fun r3 => hR h b1 13 0 (fun r4 => callK (sT_equals h r3 r4) (fun o5 => (if (bI o5) = 0 then some false else some true))))
def sS_equals (h : AH) (q0 : Nat) (p1 : (Option Nat)) : Option Bool :=
  (if (some q0) = p1 then some true else onR p1 (fun b1 => hC h b1 13 ((if (1 : Int32) = 0 then some false else hC h b1 13 (joinB (fun (x2 : Unit) => sS_equals_J36 q0 h b1) (fun j2 => (if (1 : Int32) = 0 then j2 () else hI h q0 13 1 (fun v6 => hI h b1 13 1 (fun v7 => (if v6 = v7 then j2 () else some false))))))))))

def sV_mismatch_L70 (p1 : (Option Nat)) (p2 : Int32) (p3 : (Option Nat)) (p4 : Int32) (p5 : Int32) (h : AH) (rc2 : (Int32 → Option Int32)) (v1 : Int32) : Option Int32 :=
  (if p5 ≤ v1 then some (-1 : Int32) else onR p1 (fun b3 => hZ h b3 2 (p2 + v1) (fun v4 => onR p3 (fun b5 => hZ h b5 2 (p4 + v1) (fun v6 => (if v4 = v6 then rc2 (v1 + (1 : Int32)) else some v1))))))
def sV_mismatch (h : AH) (p1 : (Option Nat)) (p2 : Int32) (p3 : (Option Nat)) (p4 : Int32) (p5 : Int32) : Option Int32 :=
  (if p5 ≤ (7 : Int32) then loopK (fun rc (x : Int32) => sV_mismatch_L70 p1 p2 p3 p4 p5 h rc x) FUEL (0 : Int32) else onR p1 (fun b7 => hZ h b7 2 p2 (fun v8 => onR p3 (fun b9 => hZ h b9 2 p4 (fun v10 => (if v8 = v10 then none else some (0 : Int32)))))))

def sS_startsWith_J63 (h : AH) (r4 : (Option Nat)) (b6 : Nat) (v7 : Int32) (v10 : Int32) : Option Bool :=
  callK (sV_mismatch h r4 v10 (some b6) (0 : Int32) v7) (fun o12 => (if 0 ≤ o12 then some false else some true))
def sS_startsWith (h : AH) (q0 : Nat) (p1 : (Option Nat)) (p2 : Int32) : Option Bool :=
  (if p2 < 0 then some false else hC h q0 13 (callK (sS_length h q0) (fun o1 => onR p1 (fun b2 => hC h b2 13 (callK (sS_length h b2) (fun o3 => (if p2 ≤ (o1 - o3) then hR h q0 13 0 (fun r4 => hR h b2 13 0 (fun r5 => onR r5 (fun b6 => hL h b6 2 (fun v7 => hC h q0 13 (callK (sS_coder h q0) (fun o8 => hC h b2 13 (callK (sS_coder h b2) (fun o9 => (if o8 = o9 then joinB (fun (x11 : Int32) => sS_startsWith_J63 h r4 b6 v7 x11) (fun j11 => (if o8 = (1 : Int32) then j11 (p2 <<< ((1 : Int32) &&& 31)) else j11 p2)) else (if o8 = 0 then some false else (if v7 ≤ (0 : Int32) then some true else none))))))))))) else some false)))))))

def sN_stringSize_L16 (v1 : Int32) (v2 : Int32) (rc6 : ((Int32 × Int32) → Option Int32)) (v4 : Int32) (v5 : Int32) : Option Int32 :=
  (if (10 : Int32) ≤ v5 then some ((10 : Int32) + v2) else (if v1 ≤ v4 then rc6 (((10 : Int32) * v4), (v5 + (1 : Int32))) else some (v5 + v2)))
def sN_stringSize_J11 (v1 : Int32) (v2 : Int32) : Option Int32 :=
  loopK (fun rc (x : (Int32 × Int32)) => sN_stringSize_L16 v1 v2 rc x.1 x.2) FUEL ((-10 : Int32), (1 : Int32))
def sN_stringSize (p1 : Int32) : Option Int32 :=
  joinB (fun (x3 : (Int32 × Int32)) => sN_stringSize_J11 x3.1 x3.2) (fun j3 => (if p1 < 0 then j3 (p1, (1 : Int32)) else j3 ((-p1), (0 : Int32))))

def sA_isLatin1 (h : AH) (q0 : Nat) : Option Bool :=
  (if (1 : Int32) = 0 then some false else hI h q0 11 1 (fun v1 => (if v1 = 0 then some true else some false)))

def sA_getValue (h : AH) (q0 : Nat) : Option (Option Nat) :=
  hR h q0 11 0 (fun r1 => some r1)

def sA_length (h : AH) (q0 : Nat) : Option Int32 :=
  hI h q0 11 3 (fun v1 => some v1)

def sJ_init (ct : CT) (G0 : GS) (q0 : Nat) : Option GS :=
  some G0

def sK_init (ct : CT) (G0 : GS) (q0 : Nat) : Option GS :=
  callK (sJ_init ct G0 q0) (fun o1 => hPut o1 q0 10 0 (.int (0 : Int32)) (fun G2 => some G2))

def sL_init (ct : CT) (G0 : GS) (q0 : Nat) : Option GS :=
  callK (sK_init ct G0 q0) (fun o1 => hPut o1 q0 10 1 (.ref (ct.2.1 0)) (fun G2 => some G2))

def sY_copyOf_2 (ct : CT) (G0 : GS) (p1 : (Option Nat)) (p2 : Int32) (p3 : (Option Nat)) : Option ((Option Nat) × GS) :=
  (if p3 = (some (ct.2.1 6)) then if p2 < 0 ∨ 67108864 < p2.toNatClampNeg then none else newB ct G0 p2.toNatClampNeg (.inl (4, p2.toNatClampNeg, .inr (.inr (.inr (.inr (fun _ => none)))))) (fun q1 G2 => onR p1 (fun b3 => hL G2.1 b3 4 (fun v4 => hCpyQ G2 b3 (0 : Int32) q1 (0 : Int32) (if p2 < v4 then p2 else v4) (fun G5 => some ((some q1), G5))))) else none)

def sY_copyOf (ct : CT) (G0 : GS) (p1 : (Option Nat)) (p2 : Int32) : Option ((Option Nat) × GS) :=
  onR p1 (fun b1 => hK4 G0 b1 (callK (sY_copyOf_2 ct G0 (some b1) p2 (some (ct.2.1 6))) (fun o2 => some (o2.1, o2.2))))

def sL_grow_2_J20 (q0 : Nat) (p1 : Int32) (G0 : GS) (ct : CT) (v3 : Int32) : Option ((Option Nat) × GS) :=
  callK (sV_newLength v3 (p1 - v3) (v3 >>> ((1 : Int32) &&& 31))) (fun o9 => hR G0.1 q0 10 1 (fun r10 => callK (sY_copyOf ct G0 r10 o9) (fun o11 => hPut o11.2 q0 10 1 (va_rf o11.1) (fun G12 => some (o11.1, G12)))))
def sL_grow_2 (ct : CT) (G0 : GS) (q0 : Nat) (p1 : Int32) : Option ((Option Nat) × GS) :=
  hR G0.1 q0 10 1 (fun r1 => onR r1 (fun b2 => hL G0.1 b2 4 (fun v3 => joinB (fun (x4 : Unit) => sL_grow_2_J20 q0 p1 G0 ct v3) (fun j4 => (if 0 < v3 then j4 () else hR G0.1 q0 10 1 (fun r5 => (if r5 = (some (ct.2.1 0)) then if (if (10 : Int32) < p1 then p1 else (10 : Int32)) < 0 ∨ 67108864 < (if (10 : Int32) < p1 then p1 else (10 : Int32)).toNatClampNeg then none else newB ct G0 (if (10 : Int32) < p1 then p1 else (10 : Int32)).toNatClampNeg (.inl (4, (if (10 : Int32) < p1 then p1 else (10 : Int32)).toNatClampNeg, .inr (.inr (.inr (.inr (fun _ => none)))))) (fun q6 G7 => hPut G7 q0 10 1 (.ref q6) (fun G8 => some ((some q6), G8))) else j4 ())))))))

def sL_grow (ct : CT) (G0 : GS) (q0 : Nat) : Option ((Option Nat) × GS) :=
  hI G0.1 q0 10 2 (fun v1 => hC G0.1 q0 10 (callK (sL_grow_2 ct G0 q0 (v1 + (1 : Int32))) (fun o2 => some (o2.1, o2.2))))

def sL_add_2 (ct : CT) (G0 : GS) (q0 : Nat) (p1 : (Option Nat)) (p2 : (Option Nat)) (p3 : Int32) : Option GS :=
  onR p2 (fun b1 => hL G0.1 b1 4 (fun v2 => (if p3 = v2 then hC G0.1 q0 10 (callK (sL_grow ct G0 q0) (fun o5 => onR o5.1 (fun b6 => if okR o5.2.1 p1 = true then hPutQ o5.2 b6 4 p3 p1 (fun G7 => hPut G7 q0 10 2 (.int (p3 + (1 : Int32))) (fun G8 => some G8)) else none))) else if okR G0.1 p1 = true then hPutQ G0 b1 4 p3 p1 (fun G3 => hPut G3 q0 10 2 (.int (p3 + (1 : Int32))) (fun G4 => some G4)) else none)))

def sL_add (ct : CT) (G0 : GS) (q0 : Nat) (p1 : (Option Nat)) : Option (Bool × GS) :=
  hI G0.1 q0 10 0 (fun v1 => hPut G0 q0 10 0 (.int (v1 + (1 : Int32))) (fun G2 => hR G2.1 q0 10 1 (fun r3 => hI G2.1 q0 10 2 (fun v4 => hC G2.1 q0 10 (callK (sL_add_2 ct G2 q0 p1 r3 v4) (fun o5 => some (true, o5)))))))

def sL_fastRemove (ct : CT) (G0 : GS) (q0 : Nat) (p1 : (Option Nat)) (p2 : Int32) : Option GS :=
  hI G0.1 q0 10 0 (fun v1 => hPut G0 q0 10 0 (.int (v1 + (1 : Int32))) (fun G2 => hI G2.1 q0 10 2 (fun v3 => (if (v3 - (1 : Int32)) ≤ p2 then hPut G2 q0 10 2 (.int (v3 - (1 : Int32))) (fun G4 => onR p1 (fun b5 => if okR G4.1 none = true then hPutQ G4 b5 4 (v3 - (1 : Int32)) none (fun G6 => some G6) else none)) else onR p1 (fun b7 => hCpyQ G2 b7 (p2 + (1 : Int32)) b7 p2 ((v3 - (1 : Int32)) - p2) (fun G8 => hPut G8 q0 10 2 (.int (v3 - (1 : Int32))) (fun G9 => if okR G9.1 none = true then hPutQ G9 b7 4 (v3 - (1 : Int32)) none (fun G10 => some G10) else none)))))))

def sL_remove (ct : CT) (G0 : GS) (q0 : Nat) (p1 : Int32) : Option ((Option Nat) × GS) :=
  hI G0.1 q0 10 2 (fun v1 => callK (sO_checkIndex p1 v1) (fun o2 => hR G0.1 q0 10 1 (fun r3 => onR r3 (fun b4 => hQ G0.1 b4 4 p1 (fun r5 => hC G0.1 q0 10 (callK (sL_fastRemove ct G0 q0 (some b4) p1) (fun o6 => some (r5, o6))))))))

def sL_toArray (ct : CT) (G0 : GS) (q0 : Nat) : Option ((Option Nat) × GS) :=
  hR G0.1 q0 10 1 (fun r1 => hI G0.1 q0 10 2 (fun v2 => callK (sY_copyOf ct G0 r1 v2) (fun o3 => some (o3.1, o3.2))))

def sM_init (ct : CT) (G0 : GS) (q0 : Nat) : Option GS :=
  some G0

def sN_init (ct : CT) (G0 : GS) (q0 : Nat) (p1 : Int32) : Option GS :=
  callK (sM_init ct G0 q0) (fun o1 => hPut o1 q0 12 0 (.int p1) (fun G2 => some G2))

def sN_valueOf (ct : CT) (G0 : GS) (p1 : Int32) : Option ((Option Nat) × GS) :=
  (if p1 < (-128 : Int32) then newB ct G0 1 (.inr (12, [.int 0])) (fun q1 G2 => callK (sN_init ct G2 q1 p1) (fun o3 => some ((some q1), o3))) else (if (127 : Int32) < p1 then newB ct G0 1 (.inr (12, [.int 0])) (fun q4 G5 => callK (sN_init ct G5 q4 p1) (fun o6 => some ((some q4), o6))) else if (p1 + (128 : Int32)) < 0 ∨ 256 ≤ (p1 + (128 : Int32)).toNatClampNeg then none else (some ((some (ct.2.1 (1000 + (p1 + (128 : Int32)).toNatClampNeg))), G0))))
