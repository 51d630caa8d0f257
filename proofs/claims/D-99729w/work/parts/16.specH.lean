set_option maxRecDepth 100000
def FDEEP : Nat := 100
def sP_checkIndex (p1 : Int32) (p2 : Int32) (p3 : (Option Nat)) : Option Int32 :=
  (if p1 < 0 then none else (if p1 < p2 then some p1 else none))

def sS_checkIndex (ct : CT) (h : AH) (p1 : Int32) (p2 : Int32) : Option Unit :=
  callK (sP_checkIndex p1 p2 (rfZ ct)) (fun o1 => some ())

def sA_charAt (ct : CT) (h : AH) (q0 : Nat) (p1 : Int32) : Option Int32 :=
  hI h q0 11 1 (fun v1 => hR h q0 11 0 (fun r2 => hI h q0 11 3 (fun v3 => onR r2 (fun b4 => hL h b4 2 (fun v5 => callK (sS_checkIndex ct h p1 (if (v5 >>> (v1 &&& 31)) < v3 then (v5 >>> (v1 &&& 31)) else v3)) (fun o6 => (if v1 = 0 then hZ h b4 2 p1 (fun v7 => (if vp_nar .char ((v7 &&& (255 : Int32)).toUInt32 % 65536).toInt32 = ((v7 &&& (255 : Int32)).toUInt32 % 65536).toInt32 then some (((v7 &&& (255 : Int32)).toUInt32 % 65536).toInt32) else none)) else none)))))))

def sB_charAt (ct : CT) (h : AH) (q0 : Nat) (p1 : Int32) : Option Int32 :=
  hC h q0 11 (callK (sA_charAt ct h q0 p1) (fun o1 => (if vp_nar .char o1 = o1 then some o1 else none)))

def s7_by (p1 : Int32) (p2 : Int32) (p3 : Int32) : Option Int32 :=
  (if p1 = (38 : Int32) then (if p2 = 0 then some (0 : Int32) else (if p3 = 0 then some (0 : Int32) else some (1 : Int32))) else (if p1 = (42 : Int32) then some (p2 * p3) else (if p1 = (43 : Int32) then some (p2 + p3) else (if p1 = (45 : Int32) then some (p2 - p3) else (if p1 = (47 : Int32) then (if p3 = 0 then some (0 : Int32) else if p3 = 0 then none else (some (p2 / p3))) else (if p1 = (60 : Int32) then (if p3 ≤ p2 then some (0 : Int32) else some (1 : Int32)) else (if p1 = (61 : Int32) then (if p2 = p3 then some (1 : Int32) else some (0 : Int32)) else (if p2 = 0 then (if p3 = 0 then some (0 : Int32) else some (1 : Int32)) else some (1 : Int32)))))))))

def sL_elementData (h : AH) (q0 : Nat) (p1 : Int32) : Option (Option Nat) :=
  hR h q0 10 1 (fun r1 => onR r1 (fun b2 => hQ h b2 4 p1 (fun r3 => some r3)))

def sO_checkIndex (p1 : Int32) (p2 : Int32) : Option Int32 :=
  callK (sP_checkIndex p1 p2 none) (fun o1 => some o1)

def sL_get (h : AH) (q0 : Nat) (p1 : Int32) : Option (Option Nat) :=
  hI h q0 10 2 (fun v1 => callK (sO_checkIndex p1 v1) (fun o2 => hC h q0 10 (callK (sL_elementData h q0 p1) (fun o3 => some o3))))

def sL_size (h : AH) (q0 : Nat) : Option Int32 :=
  hI h q0 10 2 (fun v1 => some v1)

def sL_isEmpty (h : AH) (q0 : Nat) : Option Bool :=
  hI h q0 10 2 (fun v1 => (if v1 = 0 then some true else some false))

def sN_intValue (h : AH) (q0 : Nat) : Option Int32 :=
  hI h q0 12 0 (fun v1 => some v1)

def sN_bitCount (p1 : Int32) : Option Int32 :=
  letB (p1 - ((p1.toUInt32 >>> ((1 : Int32).toUInt32 &&& Int32.toUInt32 31)).toInt32 &&& (1431655765 : Int32))) (fun e1 => letB ((e1 &&& (858993459 : Int32)) + ((e1.toUInt32 >>> ((2 : Int32).toUInt32 &&& Int32.toUInt32 31)).toInt32 &&& (858993459 : Int32))) (fun e2 => letB ((e2 + (e2.toUInt32 >>> ((4 : Int32).toUInt32 &&& Int32.toUInt32 31)).toInt32) &&& (252645135 : Int32)) (fun e3 => letB (e3 + (e3.toUInt32 >>> ((8 : Int32).toUInt32 &&& Int32.toUInt32 31)).toInt32) (fun e4 => letB (e4 + (e4.toUInt32 >>> ((16 : Int32).toUInt32 &&& Int32.toUInt32 31)).toInt32) (fun e5 => some (e5 &&& (63 : Int32)))))))

def s7_of_L22 (q0 : Nat) (h : AH) (ct : CT) (rcF : (Nat → Option Int32)) (rc8 : ((Int32 × Int32) → Option Int32)) (v6 : Int32) (v7 : Int32) : Option Int32 :=
  hR h q0 6 0 (fun r9 => onR r9 (fun b10 => hC h b10 10 (callK (sL_size h b10) (fun o11 => (if o11 ≤ v7 then some v6 else hR h q0 6 1 (fun r12 => onR r12 (fun b13 => hC h b13 11 (callK (sB_charAt ct h b13 (v7 - (1 : Int32))) (fun o14 => hR h q0 6 0 (fun r15 => onR r15 (fun b16 => hC h b16 10 (callK (sL_get h b16 v7) (fun o17 => onR o17 (fun b18 => hF h b18 (callK (rcF b18) (fun o19 => callK (s7_by o14 v6 o19) (fun o20 => rc8 (o20, (v7 + (1 : Int32))))))))))))))))))))
def s7_of (S : US) (ct : CT) (h : AH) (rcF : Nat → Option Int32) (q0 : Nat) : Option Int32 :=
  hR h q0 6 0 (fun r1 => onR r1 (fun b2 => hC h b2 10 (callK (sL_get h b2 (0 : Int32)) (fun o3 => onR o3 (fun b4 => hF h b4 (callK (rcF b4) (fun o5 => loopK (fun rc (x : (Int32 × Int32)) => s7_of_L22 q0 h ct rcF rc x.1 x.2) FUEL (o5, (1 : Int32)))))))))

def s8_of (S : US) (ct : CT) (h : AH) (rcF : Nat → Option Int32) (q0 : Nat) : Option Int32 :=
  hI h q0 7 0 (fun v1 => some v1)

def s9_of (S : US) (ct : CT) (h : AH) (rcF : Nat → Option Int32) (q0 : Nat) : Option Int32 :=
  hI h q0 8 0 (fun v1 => if v1 < 0 ∨ 6 ≤ v1.toNatClampNeg then none else (some (S (2) v1.toNatClampNeg)))

def s10_of (S : US) (ct : CT) (h : AH) (rcF : Nat → Option Int32) (q0 : Nat) : Option Int32 :=
  hR h q0 9 0 (fun r1 => onR r1 (fun b2 => callK (rcF b2) (fun o3 => (if o3 = 0 then some (1 : Int32) else some (0 : Int32)))))

def sF_of : Nat → US → CT → AH → Nat → Option Int32
  | 0, _, _, _, _ => none
  | n + 1, S, ct, h, b => match h b with
    | some (_, .inr q) => if q.1 = 6 then s7_of S ct h (sF_of n S ct h) b else if q.1 = 7 then s8_of S ct h (sF_of n S ct h) b else if q.1 = 8 then s9_of S ct h (sF_of n S ct h) b else if q.1 = 9 then s10_of S ct h (sF_of n S ct h) b else none
    | _ => none

def s1_feed_J71 (S1 : US) (v2 : Int32) (rc3 : ((US × Int32) → Option (Int32 × US))) (y5 : Int32) : Option (Int32 × US) :=
  if ((S1 (0) 6) + v2) < 0 ∨ 700 ≤ ((S1 (0) 6) + v2).toNatClampNeg then none else letB (u2 S1 (3) ((S1 (0) 6) + v2).toNatClampNeg (vp_nar .byte (y5 >>> (((24 : Int32) - ((8 : Int32) * (v2 - v2 / (4 : Int32) * (4 : Int32)))) &&& 31)).toInt8.toInt32)) (fun S7 => rc3 (S7, (v2 + (1 : Int32))))
def s1_feed_L18 (p1 : Int32) (p2 : Int32) (p3 : Int32) (p4 : Int32) (p5 : Int32) (rc3 : ((US × Int32) → Option (Int32 × US))) (S1 : US) (v2 : Int32) : Option (Int32 × US) :=
  (if (20 : Int32) ≤ v2 then letB (u2 S1 (0) 6 ((S1 (0) 6) + (20 : Int32))) (fun S4 => some ((S4 (0) 6), S4)) else joinB (fun (x6 : Int32) => s1_feed_J71 S1 v2 rc3 x6) (fun j6 => (if (4 : Int32) ≤ v2 then (if (8 : Int32) ≤ v2 then (if (12 : Int32) ≤ v2 then (if (16 : Int32) ≤ v2 then j6 p5 else j6 p4) else j6 p3) else j6 p2) else j6 p1)))
def s1_feed (S : US) (p1 : Int32) (p2 : Int32) (p3 : Int32) (p4 : Int32) (p5 : Int32) : Option (Int32 × US) :=
  (if ((S (0) 6) + (20 : Int32)) ≤ (700 : Int32) then loopK (fun rc (x : (US × Int32)) => s1_feed_L18 p1 p2 p3 p4 p5 rc x.1 x.2) FUEL (S, (0 : Int32)) else some ((-1 : Int32), S))

def s1_fault (S : US) : Option Int32 :=
  some (S (0) 7)

def s1_in (p1 : Int32) (p2 : Int32) (p3 : Int32) : Option Bool :=
  (if p1 < p2 then some false else (if p3 < p1 then some false else some true))

def s1_refuse (S : US) (p1 : Int32) : Option (Int32 × US) :=
  if p1 < 0 ∨ 3 ≤ p1.toNatClampNeg then none else (if p1 < 0 ∨ 3 ≤ p1.toNatClampNeg then none else letB (u2 S (4) p1.toNatClampNeg ((S (4) p1.toNatClampNeg) + (1 : Int32))) (fun S1 => some ((-1 : Int32), S1)))

def s1_within (p1 : Int32) (p2 : Int32) (p3 : Int32) : Option Int32 :=
  some (if p2 < (if p1 < p3 then p1 else p3) then (if p1 < p3 then p1 else p3) else p2)

def s3_be_L52 (L : Nat) (M : Nat) (rc6 : ((US × Int32) → Option US)) (S4 : US) (v5 : Int32) : Option US :=
  (if (6 : Int32) ≤ v5 then letB (u2 S4 (lc L 0) 6 (S4 (lc M 0) 6)) (fun S7 => some S7) else if v5 < 0 ∨ 6 ≤ v5.toNatClampNeg then none else (if v5 < 0 ∨ 6 ≤ v5.toNatClampNeg then none else letB (u2 S4 (lc L 4) v5.toNatClampNeg (S4 (lc M 4) v5.toNatClampNeg)) (fun S8 => if v5 < 0 ∨ 6 ≤ v5.toNatClampNeg then none else (if v5 < 0 ∨ 6 ≤ v5.toNatClampNeg then none else letB (u2 S8 (lc L 5) v5.toNatClampNeg (S8 (lc M 5) v5.toNatClampNeg)) (fun S9 => rc6 (S9, (v5 + (1 : Int32))))))))
def s3_be_L2 (L : Nat) (M : Nat) (rc3 : ((US × Int32) → Option US)) (S1 : US) (v2 : Int32) : Option US :=
  (if (12 : Int32) ≤ v2 then loopK (fun rc (x : (US × Int32)) => s3_be_L52 L M rc x.1 x.2) FUEL (S1, (0 : Int32)) else if v2 < 0 ∨ 12 ≤ v2.toNatClampNeg then none else (if v2 < 0 ∨ 12 ≤ v2.toNatClampNeg then none else letB (u2 S1 (lc L 1) v2.toNatClampNeg (S1 (lc M 1) v2.toNatClampNeg)) (fun S10 => if v2 < 0 ∨ 12 ≤ v2.toNatClampNeg then none else (if v2 < 0 ∨ 12 ≤ v2.toNatClampNeg then none else letB (u2 S10 (lc L 2) v2.toNatClampNeg (S10 (lc M 2) v2.toNatClampNeg)) (fun S11 => if v2 < 0 ∨ 12 ≤ v2.toNatClampNeg then none else (if v2 < 0 ∨ 12 ≤ v2.toNatClampNeg then none else letB (u2 S11 (lc L 3) v2.toNatClampNeg (S11 (lc M 3) v2.toNatClampNeg)) (fun S12 => rc3 (S12, (v2 + (1 : Int32))))))))))
def s3_be (S : US) (L : Nat) (M : Nat) : Option US :=
  loopK (fun rc (x : (US × Int32)) => s3_be_L2 L M rc x.1 x.2) FUEL (S, (0 : Int32))

def s3_isOpen (S : US) (L : Nat) (p1 : Int32) : Option Bool :=
  if p1 < 0 ∨ 12 ≤ p1.toNatClampNeg then none else ((if (S (lc L 2) p1.toNatClampNeg) = 0 then some true else some false))

def s2_after (S : US) (p1 : Int32) : Option Int32 :=
  if (S (1) 2) = 0 then none else (some ((p1 + (1 : Int32)) - (p1 + (1 : Int32)) / (S (1) 2) * (S (1) 2)))

def s2_before (S : US) (p1 : Int32) : Option Int32 :=
  if (S (1) 2) = 0 then none else (some (((p1 + (S (1) 2)) - (1 : Int32)) - ((p1 + (S (1) 2)) - (1 : Int32)) / (S (1) 2) * (S (1) 2)))

def s3_beside (S : US) (L : Nat) (p1 : Int32) : Option Int32 :=
  callK (s2_before S p1) (fun o1 => if o1 < 0 ∨ 12 ≤ o1.toNatClampNeg then none else (callK (s2_after S p1) (fun o2 => if o2 < 0 ∨ 12 ≤ o2.toNatClampNeg then none else (some ((S (lc L 1) o1.toNatClampNeg) + (S (lc L 1) o2.toNatClampNeg))))))

def s2_women (S : US) (P : Nat → Nat → Option Nat) (h : AH) : Option Int32 :=
  letB (P (1) 0) (fun r1 => onR r1 (fun b2 => hC h b2 10 (callK (sL_size h b2) (fun o3 => some o3))))

def s3_womenAt_L4 (L : Nat) (p1 : Int32) (S : US) (P : (Nat → Nat → Option Nat)) (h : AH) (rc3 : ((Int32 × Int32) → Option Int32)) (v1 : Int32) (v2 : Int32) : Option Int32 :=
  callK (s2_women S P h) (fun o4 => (if o4 ≤ v2 then some v1 else if v2 < 0 ∨ 6 ≤ v2.toNatClampNeg then none else ((if (S (lc L 4) v2.toNatClampNeg) = p1 then rc3 ((v1 ||| ((1 : Int32) <<< (v2 &&& 31))), (v2 + (1 : Int32))) else rc3 (v1, (v2 + (1 : Int32)))))))
def s3_womenAt (S : US) (P : Nat → Nat → Option Nat) (h : AH) (L : Nat) (p1 : Int32) : Option Int32 :=
  loopK (fun rc (x : (Int32 × Int32)) => s3_womenAt_L4 L p1 S P h rc x.1 x.2) FUEL ((0 : Int32), (0 : Int32))

def s3_asked (S : US) (ct : CT) (P : Nat → Nat → Option Nat) (h : AH) (L : Nat) (p1 : (Option Nat)) (p2 : Int32) : Option (Int32 × US) :=
  if p2 < 0 ∨ 12 ≤ p2.toNatClampNeg then none else (if (0 : Int32) < 0 ∨ 6 ≤ (0 : Int32).toNatClampNeg then none else letB (u2 S (2) (0 : Int32).toNatClampNeg (S (lc L 1) p2.toNatClampNeg)) (fun S1 => if p2 < 0 ∨ 12 ≤ p2.toNatClampNeg then none else (if (1 : Int32) < 0 ∨ 6 ≤ (1 : Int32).toNatClampNeg then none else letB (u2 S1 (2) (1 : Int32).toNatClampNeg (S1 (lc L 2) p2.toNatClampNeg)) (fun S2 => if p2 < 0 ∨ 12 ≤ p2.toNatClampNeg then none else (if (2 : Int32) < 0 ∨ 6 ≤ (2 : Int32).toNatClampNeg then none else letB (u2 S2 (2) (2 : Int32).toNatClampNeg (S2 (lc L 3) p2.toNatClampNeg)) (fun S3 => callK (s3_beside S3 L p2) (fun o4 => if (3 : Int32) < 0 ∨ 6 ≤ (3 : Int32).toNatClampNeg then none else letB (u2 S3 (2) (3 : Int32).toNatClampNeg o4) (fun S5 => callK (s3_womenAt S5 P h L p2) (fun o6 => callK (sN_bitCount o6) (fun o7 => if (4 : Int32) < 0 ∨ 6 ≤ (4 : Int32).toNatClampNeg then none else letB (u2 S5 (2) (4 : Int32).toNatClampNeg o7) (fun S8 => if (5 : Int32) < 0 ∨ 6 ≤ (5 : Int32).toNatClampNeg then none else letB (u2 S8 (2) (5 : Int32).toNatClampNeg (S8 (lc L 0) 6)) (fun S9 => onR p1 (fun b10 => callK (sF_of FDEEP S9 ct h b10) (fun o11 => some (o11, S9)))))))))))))))

def s3_frays (S : US) (ct : CT) (P : Nat → Nat → Option Nat) (h : AH) (L : Nat) (p1 : Int32) : Option (Int32 × US) :=
  callK (s3_isOpen S L p1) (fun o1 => (if (bI o1) = 0 then letB (P (1) 4) (fun r2 => (caseR r2 (if p1 < 0 ∨ 12 ≤ p1.toNatClampNeg then none else (if p1 < 0 ∨ 12 ≤ p1.toNatClampNeg then none else (if ((S (lc L 3) p1.toNatClampNeg) + (1 : Int32)) = 0 then none else (letB (((S (lc L 1) p1.toNatClampNeg) / (9 : Int32)) / ((S (lc L 3) p1.toNatClampNeg) + (1 : Int32))) (fun e4 => callK (s1_within e4 (0 : Int32) (20 : Int32)) (fun o5 => some (o5, S))))))) (fun b3 => letB (P (1) 4) (fun r6 => callK (s3_asked S ct P h L r6 p1) (fun o7 => callK (s1_within o7.1 (0 : Int32) (20 : Int32)) (fun o8 => some (o8, o7.2))))))) else some ((0 : Int32), S)))

def s3_goOn (S : US) (L : Nat) (p1 : Int32) : Option US :=
  if p1 < 0 ∨ 6 ≤ p1.toNatClampNeg then none else (callK (s2_after S (S (lc L 4) p1.toNatClampNeg)) (fun o1 => if p1 < 0 ∨ 6 ≤ p1.toNatClampNeg then none else letB (u2 S (lc L 4) p1.toNatClampNeg o1) (fun S2 => some S2)))

def s3_pull (S : US) (L : Nat) (p1 : Int32) (p2 : Int32) : Option US :=
  if p1 < 0 ∨ 12 ≤ p1.toNatClampNeg then none else (callK (s1_within ((S (lc L 1) p1.toNatClampNeg) + p2) (0 : Int32) (99 : Int32)) (fun o1 => if p1 < 0 ∨ 12 ≤ p1.toNatClampNeg then none else letB (u2 S (lc L 1) p1.toNatClampNeg o1) (fun S2 => some S2)))

def s3_loosen_J77 (L : Nat) (p1 : Int32) (S1 : US) (S6 : US) : Option US :=
  callK (s2_after S6 p1) (fun o8 => callK (s3_isOpen S6 L o8) (fun o9 => (if (bI o9) = 0 then callK (s2_after S6 p1) (fun o10 => callK (s3_pull S6 L o10 ((S1 (lc L 1) p1.toNatClampNeg) / (2 : Int32))) (fun o11 => some o11)) else some S6)))
def s3_loosen (S : US) (L : Nat) (p1 : Int32) (p2 : Int32) : Option US :=
  if p1 < 0 ∨ 12 ≤ p1.toNatClampNeg then none else (if p1 < 0 ∨ 12 ≤ p1.toNatClampNeg then none else letB (u2 S (lc L 2) p1.toNatClampNeg (if (0 : Int32) < ((S (lc L 2) p1.toNatClampNeg) - p2) then ((S (lc L 2) p1.toNatClampNeg) - p2) else (0 : Int32))) (fun S1 => callK (s3_isOpen S1 L p1) (fun o2 => (if (bI o2) = 0 then some S1 else if p1 < 0 ∨ 12 ≤ p1.toNatClampNeg then none else (if p1 < 0 ∨ 12 ≤ p1.toNatClampNeg then none else letB (u2 S1 (lc L 1) p1.toNatClampNeg (0 : Int32)) (fun S3 => callK (s2_before S3 p1) (fun o4 => callK (s3_isOpen S3 L o4) (fun o5 => joinB (fun (x7 : US) => s3_loosen_J77 L p1 S1 x7) (fun j7 => (if (bI o5) = 0 then callK (s2_before S3 p1) (fun o12 => callK (s3_pull S3 L o12 ((S1 (lc L 1) p1.toNatClampNeg) / (2 : Int32))) (fun o13 => j7 o13)) else j7 S3))))))))))

def s3_mend (S : US) (P : Nat → Nat → Option Nat) (h : AH) (L : Nat) (p1 : Int32) : Option US :=
  if p1 < 0 ∨ 6 ≤ p1.toNatClampNeg then none else ((if (S (lc L 5) p1.toNatClampNeg) = 0 then some S else if p1 < 0 ∨ 6 ≤ p1.toNatClampNeg then none else (if p1 < 0 ∨ 6 ≤ p1.toNatClampNeg then none else letB (u2 S (lc L 5) p1.toNatClampNeg ((S (lc L 5) p1.toNatClampNeg) - (1 : Int32))) (fun S1 => if p1 < 0 ∨ 6 ≤ p1.toNatClampNeg then none else (if p1 < 0 ∨ 6 ≤ p1.toNatClampNeg then none else (if (S1 (lc L 4) p1.toNatClampNeg) < 0 ∨ 12 ≤ (S1 (lc L 4) p1.toNatClampNeg).toNatClampNeg then none else (letB (P (1) 0) (fun r2 => onR r2 (fun b3 => hC h b3 10 (callK (sL_get h b3 p1) (fun o4 => onR o4 (fun b5 => hC h b5 12 (hC h b5 12 (callK (sN_intValue h b5) (fun o6 => if (S1 (lc L 4) p1.toNatClampNeg) < 0 ∨ 12 ≤ (S1 (lc L 4) p1.toNatClampNeg).toNatClampNeg then none else letB (u2 S1 (lc L 2) (S1 (lc L 4) p1.toNatClampNeg).toNatClampNeg (if (((S1 (lc L 2) (S1 (lc L 4) p1.toNatClampNeg).toNatClampNeg) + ((2 : Int32) * o6)) + (3 : Int32)) < (99 : Int32) then (((S1 (lc L 2) (S1 (lc L 4) p1.toNatClampNeg).toNatClampNeg) + ((2 : Int32) * o6)) + (3 : Int32)) else (99 : Int32))) (fun S7 => some S7))))))))))))))))

def s3_pulls (S : US) (ct : CT) (P : Nat → Nat → Option Nat) (h : AH) (L : Nat) (p1 : Int32) : Option (Int32 × US) :=
  callK (s3_isOpen S L p1) (fun o1 => (if (bI o1) = 0 then letB (P (1) 5) (fun r2 => (caseR r2 (callK (s3_beside S L p1) (fun o4 => if p1 < 0 ∨ 12 ≤ p1.toNatClampNeg then none else (callK (s1_within ((o4 - ((2 : Int32) * (S (lc L 1) p1.toNatClampNeg))) / (9 : Int32)) (-9 : Int32) (9 : Int32)) (fun o5 => some (o5, S))))) (fun b3 => letB (P (1) 5) (fun r6 => callK (s3_asked S ct P h L r6 p1) (fun o7 => callK (s1_within o7.1 (-9 : Int32) (9 : Int32)) (fun o8 => some (o8, o7.2))))))) else some ((0 : Int32), S)))

def s3_pass_L116 (L : Nat) (P : (Nat → Nat → Option Nat)) (h : AH) (rc12 : ((US × Int32) → Option US)) (S10 : US) (v11 : Int32) : Option US :=
  callK (s2_women S10 P h) (fun o13 => (if o13 ≤ v11 then letB (u2 S10 (lc L 0) 6 ((S10 (lc L 0) 6) + (1 : Int32))) (fun S14 => some S14) else if (S10 (1) 3) = 0 then none else ((if ((S10 (lc L 0) 6) - (S10 (lc L 0) 6) / (S10 (1) 3) * (S10 (1) 3)) = ((S10 (1) 3) - (1 : Int32)) then callK (s3_mend S10 P h L v11) (fun o16 => callK (s3_goOn o16 L v11) (fun o17 => rc12 (o17, (v11 + (1 : Int32))))) else letB (u2 S10 (lc L 0) 6 ((S10 (lc L 0) 6) + (1 : Int32))) (fun S15 => some S15)))))
def s3_pass_L76 (L : Nat) (P : (Nat → Nat → Option Nat)) (h : AH) (ct : CT) (rc9 : ((US × Int32) → Option US)) (S7 : US) (v8 : Int32) : Option US :=
  (if (S7 (1) 2) ≤ v8 then loopK (fun rc (x : (US × Int32)) => s3_pass_L116 L P h rc x.1 x.2) FUEL (S7, (0 : Int32)) else callK (s3_isOpen S7 L v8) (fun o18 => (if (bI o18) = 0 then callK (s3_frays S7 ct P h L v8) (fun o19 => callK (s3_loosen o19.2 L v8 o19.1) (fun o20 => rc9 (o20, (v8 + (1 : Int32))))) else rc9 (S7, (v8 + (1 : Int32))))))
def s3_pass_L35 (L : Nat) (P : (Nat → Nat → Option Nat)) (h : AH) (ct : CT) (rc6 : ((US × Int32) → Option US)) (S4 : US) (v5 : Int32) : Option US :=
  (if (S4 (1) 2) ≤ v5 then loopK (fun rc (x : (US × Int32)) => s3_pass_L76 L P h ct rc x.1 x.2) FUEL (S4, (0 : Int32)) else callK (s3_isOpen S4 L v5) (fun o21 => (if (bI o21) = 0 then if v5 < 0 ∨ 12 ≤ v5.toNatClampNeg then none else (callK (s3_pull S4 L v5 (S4 (lc L 6) v5.toNatClampNeg)) (fun o22 => rc6 (o22, (v5 + (1 : Int32))))) else rc6 (S4, (v5 + (1 : Int32))))))
def s3_pass_L2 (L : Nat) (P : (Nat → Nat → Option Nat)) (h : AH) (ct : CT) (rc3 : ((US × Int32) → Option US)) (S1 : US) (v2 : Int32) : Option US :=
  (if (S1 (1) 2) ≤ v2 then loopK (fun rc (x : (US × Int32)) => s3_pass_L35 L P h ct rc x.1 x.2) FUEL (S1, (0 : Int32)) else callK (s3_pulls S1 ct P h L v2) (fun o23 => if v2 < 0 ∨ 12 ≤ v2.toNatClampNeg then none else letB (u2 o23.2 (lc L 6) v2.toNatClampNeg o23.1) (fun S24 => rc3 (S24, (v2 + (1 : Int32))))))
def s3_pass (S : US) (ct : CT) (P : Nat → Nat → Option Nat) (h : AH) (L : Nat) : Option US :=
  loopK (fun rc (x : (US × Int32)) => s3_pass_L2 L P h ct rc x.1 x.2) FUEL (S, (0 : Int32))

def s1_opensIn_L14 (p1 : Int32) (P : (Nat → Nat → Option Nat)) (h : AH) (ct : CT) (rc4 : ((US × Int32) → Option (Int32 × US))) (S2 : US) (v3 : Int32) : Option (Int32 × US) :=
  (if (60 : Int32) < v3 then some ((-1 : Int32), S2) else callK (s3_isOpen S2 1 p1) (fun o5 => (if (bI o5) = 0 then callK (s3_pass S2 ct P h 1) (fun o6 => rc4 (o6, (v3 + (1 : Int32)))) else some (v3, S2))))
def s1_opensIn (S : US) (ct : CT) (P : Nat → Nat → Option Nat) (h : AH) (p1 : Int32) : Option (Int32 × US) :=
  callK (s3_be S 1 0) (fun o1 => loopK (fun rc (x : (US × Int32)) => s1_opensIn_L14 p1 P h ct rc x.1 x.2) FUEL (o1, (0 : Int32)))

def s1_first_L7 (P : (Nat → Nat → Option Nat)) (h : AH) (ct : CT) (rc5 : ((US × Int32 × Int32 × Int32) → Option (Int32 × US))) (S1 : US) (v2 : Int32) (v3 : Int32) (v4 : Int32) : Option (Int32 × US) :=
  (if (S1 (1) 2) ≤ v4 then some (v2, S1) else callK (s1_opensIn S1 ct P h v4) (fun o6 => (if o6.1 < (1 : Int32) then rc5 (o6.2, v2, v3, (v4 + (1 : Int32))) else (if o6.1 < v3 then rc5 (o6.2, v4, o6.1, (v4 + (1 : Int32))) else rc5 (o6.2, v2, v3, (v4 + (1 : Int32)))))))
def s1_first (S : US) (ct : CT) (P : Nat → Nat → Option Nat) (h : AH) : Option (Int32 × US) :=
  loopK (fun rc (x : (US × Int32 × Int32 × Int32)) => s1_first_L7 P h ct rc x.1 x.2.1 x.2.2.1 x.2.2.2) FUEL (S, (-1 : Int32), (100000 : Int32), (0 : Int32))

def s3_allThread_L4 (L : Nat) (S : US) (P : (Nat → Nat → Option Nat)) (h : AH) (rc3 : ((Int32 × Int32) → Option Int32)) (v1 : Int32) (v2 : Int32) : Option Int32 :=
  callK (s2_women S P h) (fun o4 => (if o4 ≤ v2 then some v1 else if v2 < 0 ∨ 6 ≤ v2.toNatClampNeg then none else (rc3 ((v1 + (S (lc L 5) v2.toNatClampNeg)), (v2 + (1 : Int32))))))
def s3_allThread (S : US) (P : Nat → Nat → Option Nat) (h : AH) (L : Nat) : Option Int32 :=
  loopK (fun rc (x : (Int32 × Int32)) => s3_allThread_L4 L S P h rc x.1 x.2) FUEL ((0 : Int32), (0 : Int32))

def s1_spent_L14 (P : (Nat → Nat → Option Nat)) (h : AH) (ct : CT) (rc4 : ((US × Int32) → Option (Int32 × US))) (S2 : US) (v3 : Int32) : Option (Int32 × US) :=
  (if (60 : Int32) < v3 then some ((-1 : Int32), S2) else callK (s3_allThread S2 P h 1) (fun o5 => (if o5 = 0 then some (v3, S2) else callK (s3_pass S2 ct P h 1) (fun o6 => rc4 (o6, (v3 + (1 : Int32)))))))
def s1_spent (S : US) (ct : CT) (P : Nat → Nat → Option Nat) (h : AH) : Option (Int32 × US) :=
  callK (s3_be S 1 0) (fun o1 => loopK (fun rc (x : (US × Int32)) => s1_spent_L14 P h ct rc x.1 x.2) FUEL (o1, (0 : Int32)))

def s3_isLike_L4 (L : Nat) (M : Nat) (S : US) (rc3 : ((Int32 × Int32) → Option Bool)) (v1 : Int32) (v2 : Int32) : Option Bool :=
  (if (S (1) 2) ≤ v2 then (if v1 = 0 then some false else if v1 = 1 then some true else none) else if v2 < 0 ∨ 12 ≤ v2.toNatClampNeg then none else (if v2 < 0 ∨ 12 ≤ v2.toNatClampNeg then none else ((if (S (lc L 1) v2.toNatClampNeg) = (S (lc M 1) v2.toNatClampNeg) then if v2 < 0 ∨ 12 ≤ v2.toNatClampNeg then none else (if v2 < 0 ∨ 12 ≤ v2.toNatClampNeg then none else ((if (S (lc L 2) v2.toNatClampNeg) = (S (lc M 2) v2.toNatClampNeg) then rc3 ((v1 &&& (1 : Int32)), (v2 + (1 : Int32))) else rc3 ((v1 &&& (0 : Int32)), (v2 + (1 : Int32)))))) else rc3 ((v1 &&& (0 : Int32)), (v2 + (1 : Int32)))))))
def s3_isLike (S : US) (L : Nat) (M : Nat) : Option Bool :=
  loopK (fun rc (x : (Int32 × Int32)) => s3_isLike_L4 L M S rc x.1 x.2) FUEL ((1 : Int32), (0 : Int32))

def s1_steady_L14 (P : (Nat → Nat → Option Nat)) (h : AH) (ct : CT) (rc4 : ((US × Int32) → Option (Int32 × US))) (S2 : US) (v3 : Int32) : Option (Int32 × US) :=
  (if (60 : Int32) < v3 then some ((-1 : Int32), S2) else callK (s3_be S2 2 1) (fun o5 => callK (s3_pass o5 ct P h 1) (fun o6 => callK (s3_isLike o6 1 2) (fun o7 => (if (bI o7) = 0 then rc4 (o6, (v3 + (1 : Int32))) else some (v3, o6))))))
def s1_steady (S : US) (ct : CT) (P : Nat → Nat → Option Nat) (h : AH) : Option (Int32 × US) :=
  callK (s3_be S 1 0) (fun o1 => loopK (fun rc (x : (US × Int32)) => s1_steady_L14 P h ct rc x.1 x.2) FUEL (o1, (1 : Int32)))

def s1_gaps_L4 (S : US) (rc3 : ((Int32 × Int32) → Option Int32)) (v1 : Int32) (v2 : Int32) : Option Int32 :=
  (if (S (1) 2) ≤ v2 then (if v1 = 0 then callK (s3_isOpen S 0 (0 : Int32)) (fun o4 => (if (bI o4) = 0 then some v1 else some (1 : Int32))) else some v1) else callK (s3_isOpen S 0 v2) (fun o5 => (if (bI o5) = 0 then rc3 (v1, (v2 + (1 : Int32))) else callK (s2_before S v2) (fun o6 => callK (s3_isOpen S 0 o6) (fun o7 => (if (bI o7) = 0 then rc3 ((v1 + (1 : Int32)), (v2 + (1 : Int32))) else rc3 (v1, (v2 + (1 : Int32)))))))))
def s1_gaps (S : US) : Option Int32 :=
  loopK (fun rc (x : (Int32 × Int32)) => s1_gaps_L4 S rc x.1 x.2) FUEL ((0 : Int32), (0 : Int32))

def s1_right (p1 : Int32) : Option Unit :=
  (if p1 = 0 then none else some ())

def s1_isOf (p1 : Int32) (p2 : Int32) : Option Bool :=
  (if ((p1 >>> (p2 &&& 31)) &&& (1 : Int32)) = (1 : Int32) then some true else some false)

def s1_found (p1 : Int32) : Option Unit :=
  (if p1 = 0 then none else some ())

def s1_idle_L4 (S : US) (P : (Nat → Nat → Option Nat)) (h : AH) (rc3 : ((Int32 × Int32) → Option Int32)) (v1 : Int32) (v2 : Int32) : Option Int32 :=
  callK (s2_women S P h) (fun o4 => (if o4 ≤ v2 then some v1 else if v2 < 0 ∨ 6 ≤ v2.toNatClampNeg then none else ((if (S (lc 0 5) v2.toNatClampNeg) = 0 then rc3 ((v1 ||| ((1 : Int32) <<< (v2 &&& 31))), (v2 + (1 : Int32))) else if v2 < 0 ∨ 6 ≤ v2.toNatClampNeg then none else (callK (s3_womenAt S P h 0 (S (lc 0 4) v2.toNatClampNeg)) (fun o5 => (if (o5 &&& (((1 : Int32) <<< (v2 &&& 31)) - (1 : Int32))) = 0 then rc3 (v1, (v2 + (1 : Int32))) else rc3 ((v1 ||| ((1 : Int32) <<< (v2 &&& 31))), (v2 + (1 : Int32))))))))))
def s1_idle (S : US) (P : Nat → Nat → Option Nat) (h : AH) : Option Int32 :=
  loopK (fun rc (x : (Int32 × Int32)) => s1_idle_L4 S P h rc x.1 x.2) FUEL ((0 : Int32), (0 : Int32))

def s3_allSeam_L4 (L : Nat) (S : US) (rc3 : ((Int32 × Int32) → Option Int32)) (v1 : Int32) (v2 : Int32) : Option Int32 :=
  (if (S (1) 2) ≤ v2 then some v1 else if v2 < 0 ∨ 12 ≤ v2.toNatClampNeg then none else (rc3 ((v1 + (S (lc L 2) v2.toNatClampNeg)), (v2 + (1 : Int32)))))
def s3_allSeam (S : US) (L : Nat) : Option Int32 :=
  loopK (fun rc (x : (Int32 × Int32)) => s3_allSeam_L4 L S rc x.1 x.2) FUEL ((0 : Int32), (0 : Int32))

def s3_open_L4 (L : Nat) (S : US) (rc3 : ((Int32 × Int32) → Option Int32)) (v1 : Int32) (v2 : Int32) : Option Int32 :=
  (if (S (1) 2) ≤ v2 then some v1 else callK (s3_isOpen S L v2) (fun o4 => (if (bI o4) = 0 then rc3 (v1, (v2 + (1 : Int32))) else rc3 ((v1 ||| ((1 : Int32) <<< (v2 &&& 31))), (v2 + (1 : Int32))))))
def s3_open (S : US) (L : Nat) : Option Int32 :=
  loopK (fun rc (x : (Int32 × Int32)) => s3_open_L4 L S rc x.1 x.2) FUEL ((0 : Int32), (0 : Int32))

def s1_count (S : US) (P : Nat → Nat → Option Nat) (h : AH) (p1 : Int32) : Option Int32 :=
  (if p1 = (0 : Int32) then some (S (1) 2) else (if p1 = (1 : Int32) then callK (s2_women S P h) (fun o1 => some o1) else (if p1 = (2 : Int32) then letB (P (1) 1) (fun r2 => onR r2 (fun b3 => hC h b3 10 (callK (sL_size h b3) (fun o4 => some o4)))) else (if p1 = (3 : Int32) then some (S (1) 3) else (if p1 = (4 : Int32) then some (S (lc 0 0) 6) else (if p1 = (5 : Int32) then callK (s3_open S 0) (fun o5 => some o5) else (if p1 = (6 : Int32) then callK (s3_allSeam S 0) (fun o6 => some o6) else (if p1 = (7 : Int32) then callK (s3_allThread S P h 0) (fun o7 => some o7) else (if p1 = (8 : Int32) then callK (s1_idle S P h) (fun o8 => some o8) else (if p1 = (9 : Int32) then letB (P (0) 9) (fun r9 => onR r9 (fun b10 => hC h b10 10 (callK (sL_size h b10) (fun o11 => some o11)))) else (if p1 = (10 : Int32) then letB (P (0) 10) (fun r12 => onR r12 (fun b13 => hC h b13 10 (callK (sL_size h b13) (fun o14 => some o14)))) else (if p1 = (11 : Int32) then some (S (0) 6) else callK (s1_in p1 (12 : Int32) (14 : Int32)) (fun o15 => callK (s1_found (bI o15)) (fun o16 => if (p1 - (12 : Int32)) < 0 ∨ 3 ≤ (p1 - (12 : Int32)).toNatClampNeg then none else (some (S (4) (p1 - (12 : Int32)).toNatClampNeg))))))))))))))))

def s1_aStretch (S : US) (p1 : Int32) : Option Unit :=
  callK (s1_in p1 (0 : Int32) ((S (1) 2) - (1 : Int32))) (fun o1 => callK (s1_found (bI o1)) (fun o2 => some ()))

def s1_stretch (S : US) (ct : CT) (P : Nat → Nat → Option Nat) (h : AH) (p1 : Int32) (p2 : Int32) : Option (Int32 × US) :=
  callK (s1_aStretch S p1) (fun o1 => (if p2 = (0 : Int32) then if p1 < 0 ∨ 12 ≤ p1.toNatClampNeg then none else (some ((S (lc 0 1) p1.toNatClampNeg), S)) else (if p2 = (1 : Int32) then if p1 < 0 ∨ 12 ≤ p1.toNatClampNeg then none else (some ((S (lc 0 2) p1.toNatClampNeg), S)) else (if p2 = (2 : Int32) then if p1 < 0 ∨ 12 ≤ p1.toNatClampNeg then none else (some ((S (lc 0 3) p1.toNatClampNeg), S)) else (if p2 = (3 : Int32) then callK (s3_womenAt S P h 0 p1) (fun o2 => some (o2, S)) else (if p2 = (4 : Int32) then callK (s3_frays S ct P h 0 p1) (fun o3 => some (o3.1, o3.2)) else (if p2 = (5 : Int32) then callK (s1_found (1 : Int32)) (fun o6 => callK (s3_pulls S ct P h 0 p1) (fun o7 => some (o7.1, o7.2))) else callK (s1_found (0 : Int32)) (fun o4 => callK (s3_pulls S ct P h 0 p1) (fun o5 => some (o5.1, o5.2))))))))))

def s1_aWoman (S : US) (P : Nat → Nat → Option Nat) (h : AH) (p1 : Int32) : Option Unit :=
  callK (s2_women S P h) (fun o1 => callK (s1_in p1 (0 : Int32) (o1 - (1 : Int32))) (fun o2 => callK (s1_found (bI o2)) (fun o3 => some ())))

def s1_oneOf (p1 : Int32) (p2 : Int32) : Option Unit :=
  callK (s1_in p1 (0 : Int32) p2) (fun o1 => callK (s1_found (bI o1)) (fun o2 => some ()))

def s1_woman (S : US) (P : Nat → Nat → Option Nat) (h : AH) (p1 : Int32) (p2 : Int32) : Option Int32 :=
  callK (s1_aWoman S P h p1) (fun o1 => callK (s1_oneOf p2 (2 : Int32)) (fun o2 => (if p2 = 0 then letB (P (1) 0) (fun r3 => onR r3 (fun b4 => hC h b4 10 (callK (sL_get h b4 p1) (fun o5 => onR o5 (fun b6 => hC h b6 12 (hC h b6 12 (callK (sN_intValue h b6) (fun o7 => some o7)))))))) else (if p2 = (1 : Int32) then if p1 < 0 ∨ 6 ≤ p1.toNatClampNeg then none else (some (S (lc 0 4) p1.toNatClampNeg)) else if p1 < 0 ∨ 6 ≤ p1.toNatClampNeg then none else (some (S (lc 0 5) p1.toNatClampNeg))))))

def s3_after_L2 (L : Nat) (p1 : Int32) (P : (Nat → Nat → Option Nat)) (h : AH) (ct : CT) (rc3 : ((US × Int32) → Option US)) (S1 : US) (v2 : Int32) : Option US :=
  (if p1 ≤ v2 then some S1 else callK (s3_pass S1 ct P h L) (fun o4 => rc3 (o4, (v2 + (1 : Int32)))))
def s3_after (S : US) (ct : CT) (P : Nat → Nat → Option Nat) (h : AH) (L : Nat) (p1 : Int32) : Option US :=
  loopK (fun rc (x : (US × Int32)) => s3_after_L2 L p1 P h ct rc x.1 x.2) FUEL (S, (0 : Int32))

def s1_tryOn (S : US) (ct : CT) (P : Nat → Nat → Option Nat) (h : AH) (p1 : Int32) : Option US :=
  callK (s3_be S 1 0) (fun o1 => callK (s3_after o1 ct P h 1 p1) (fun o2 => some o2))

def s1_then (S : US) (ct : CT) (P : Nat → Nat → Option Nat) (h : AH) (p1 : Int32) (p2 : Int32) (p3 : Int32) : Option (Int32 × US) :=
  callK (s1_aStretch S p1) (fun o1 => callK (s1_oneOf p3 (1 : Int32)) (fun o2 => callK (s1_in p2 (0 : Int32) (60 : Int32)) (fun o3 => callK (s1_right (bI o3)) (fun o4 => (if p3 = 0 then callK (s1_tryOn S ct P h p2) (fun o6 => if p1 < 0 ∨ 12 ≤ p1.toNatClampNeg then none else (some ((o6 (lc 1 1) p1.toNatClampNeg), o6))) else callK (s1_tryOn S ct P h p2) (fun o5 => if p1 < 0 ∨ 12 ≤ p1.toNatClampNeg then none else (some ((o5 (lc 1 2) p1.toNatClampNeg), o5))))))))

def s3_loosest_L4 (L : Nat) (S : US) (rc3 : ((Int32 × Int32) → Option Int32)) (v1 : Int32) (v2 : Int32) : Option Int32 :=
  (if (S (1) 2) ≤ v2 then some v1 else if v2 < 0 ∨ 12 ≤ v2.toNatClampNeg then none else (if v1 < 0 ∨ 12 ≤ v1.toNatClampNeg then none else ((if (S (lc L 1) v1.toNatClampNeg) ≤ (S (lc L 1) v2.toNatClampNeg) then rc3 (v1, (v2 + (1 : Int32))) else rc3 (v2, (v2 + (1 : Int32)))))))
def s3_loosest (S : US) (L : Nat) : Option Int32 :=
  loopK (fun rc (x : (Int32 × Int32)) => s3_loosest_L4 L S rc x.1 x.2) FUEL ((0 : Int32), (1 : Int32))

def s3_tightest_L4 (L : Nat) (S : US) (rc3 : ((Int32 × Int32) → Option Int32)) (v1 : Int32) (v2 : Int32) : Option Int32 :=
  (if (S (1) 2) ≤ v2 then some v1 else if v2 < 0 ∨ 12 ≤ v2.toNatClampNeg then none else (if v1 < 0 ∨ 12 ≤ v1.toNatClampNeg then none else ((if (S (lc L 1) v2.toNatClampNeg) ≤ (S (lc L 1) v1.toNatClampNeg) then rc3 (v1, (v2 + (1 : Int32))) else rc3 (v2, (v2 + (1 : Int32)))))))
def s3_tightest (S : US) (L : Nat) : Option Int32 :=
  loopK (fun rc (x : (Int32 × Int32)) => s3_tightest_L4 L S rc x.1 x.2) FUEL ((0 : Int32), (1 : Int32))

def s1_later (S : US) (ct : CT) (P : Nat → Nat → Option Nat) (h : AH) (p1 : Int32) (p2 : Int32) : Option (Int32 × US) :=
  callK (s1_oneOf p2 (3 : Int32)) (fun o1 => callK (s1_in p1 (0 : Int32) (60 : Int32)) (fun o2 => callK (s1_right (bI o2)) (fun o3 => callK (s1_tryOn S ct P h p1) (fun o4 => (if p2 = (0 : Int32) then callK (s3_open o4 1) (fun o5 => some (o5, o4)) else (if p2 = (1 : Int32) then callK (s3_tightest o4 1) (fun o6 => some (o6, o4)) else (if p2 = (2 : Int32) then callK (s3_tightest o4 1) (fun o7 => if o7 < 0 ∨ 12 ≤ o7.toNatClampNeg then none else (callK (s3_loosest o4 1) (fun o8 => if o8 < 0 ∨ 12 ≤ o8.toNatClampNeg then none else (some (((o4 (lc 1 1) o7.toNatClampNeg) - (o4 (lc 1 1) o8.toNatClampNeg)), o4))))) else callK (s3_allThread o4 P h 0) (fun o9 => callK (s3_allThread o4 P h 1) (fun o10 => some ((o9 - o10), o4))))))))))

def s1_opens (S : US) (ct : CT) (P : Nat → Nat → Option Nat) (h : AH) (p1 : Int32) : Option (Int32 × US) :=
  callK (s1_aStretch S p1) (fun o1 => callK (s1_opensIn S ct P h p1) (fun o2 => some (o2.1, o2.2)))

def s1_where (S : US) (ct : CT) (P : Nat → Nat → Option Nat) (h : AH) (p1 : Int32) (p2 : Int32) (p3 : Int32) : Option (Int32 × US) :=
  callK (s1_aWoman S P h p1) (fun o1 => callK (s1_oneOf p3 (1 : Int32)) (fun o2 => callK (s1_in p2 (0 : Int32) (60 : Int32)) (fun o3 => callK (s1_right (bI o3)) (fun o4 => (if p3 = 0 then callK (s1_tryOn S ct P h p2) (fun o6 => if p1 < 0 ∨ 6 ≤ p1.toNatClampNeg then none else (some ((o6 (lc 1 4) p1.toNatClampNeg), o6))) else callK (s1_tryOn S ct P h p2) (fun o5 => if p1 < 0 ∨ 6 ≤ p1.toNatClampNeg then none else (some ((o5 (lc 1 5) p1.toNatClampNeg), o5))))))))

def s1_holds_L2 (p1 : Int32) (p2 : Int32) (P : (Nat → Nat → Option Nat)) (h : AH) (ct : CT) (rc3 : ((US × Int32) → Option (Bool × US))) (S1 : US) (v2 : Int32) : Option (Bool × US) :=
  (if p2 ≤ v2 then some (true, S1) else callK (s3_pass S1 ct P h 1) (fun o4 => callK (s3_isOpen o4 1 p1) (fun o5 => (if (bI o5) = 0 then rc3 (o4, (v2 + (1 : Int32))) else some (false, o4)))))
def s1_holds (S : US) (ct : CT) (P : Nat → Nat → Option Nat) (h : AH) (p1 : Int32) (p2 : Int32) : Option (Bool × US) :=
  loopK (fun rc (x : (US × Int32)) => s1_holds_L2 p1 p2 P h ct rc x.1 x.2) FUEL (S, (0 : Int32))

def s1_toHold_L17 (p1 : Int32) (p2 : Int32) (P : (Nat → Nat → Option Nat)) (h : AH) (ct : CT) (rc6 : ((US × Int32) → Option (Int32 × US))) (S4 : US) (v5 : Int32) : Option (Int32 × US) :=
  (if (99 : Int32) < v5 then some ((-1 : Int32), S4) else callK (s3_be S4 1 0) (fun o7 => if p1 < 0 ∨ 12 ≤ p1.toNatClampNeg then none else (if p1 < 0 ∨ 12 ≤ p1.toNatClampNeg then none else letB (u2 o7 (lc 1 2) p1.toNatClampNeg (if ((o7 (lc 1 2) p1.toNatClampNeg) + v5) < (99 : Int32) then ((o7 (lc 1 2) p1.toNatClampNeg) + v5) else (99 : Int32))) (fun S8 => callK (s1_holds S8 ct P h p1 p2) (fun o9 => (if (bI o9.1) = 0 then rc6 (o9.2, (v5 + (1 : Int32))) else some (v5, o9.2)))))))
def s1_toHold (S : US) (ct : CT) (P : Nat → Nat → Option Nat) (h : AH) (p1 : Int32) (p2 : Int32) : Option (Int32 × US) :=
  callK (s1_aStretch S p1) (fun o1 => callK (s1_in p2 (1 : Int32) (60 : Int32)) (fun o2 => callK (s1_right (bI o2)) (fun o3 => loopK (fun rc (x : (US × Int32)) => s1_toHold_L17 p1 p2 P h ct rc x.1 x.2) FUEL (S, (0 : Int32)))))

def s3_openMany (S : US) (L : Nat) : Option Int32 :=
  callK (s3_open S L) (fun o1 => callK (sN_bitCount o1) (fun o2 => some o2))

def s1_toSend_L30 (p1 : Int32) (p2 : Int32) (p3 : Int32) (P : (Nat → Nat → Option Nat)) (h : AH) (ct : CT) (rc9 : ((US × Int32 × Int32 × Int32) → Option (Int32 × US))) (S5 : US) (v6 : Int32) (v7 : Int32) (v8 : Int32) : Option (Int32 × US) :=
  (if (S5 (1) 2) ≤ v8 then (if p3 = 0 then some (v6, S5) else some (v7, S5)) else callK (s3_be S5 1 0) (fun o10 => if p1 < 0 ∨ 6 ≤ p1.toNatClampNeg then none else letB (u2 o10 (lc 1 4) p1.toNatClampNeg v8) (fun S11 => callK (s3_after S11 ct P h 1 p2) (fun o12 => callK (s3_openMany o12 1) (fun o13 => (if o13 < v7 then rc9 (o12, v8, o13, (v8 + (1 : Int32))) else rc9 (o12, v6, v7, (v8 + (1 : Int32)))))))))
def s1_toSend (S : US) (ct : CT) (P : Nat → Nat → Option Nat) (h : AH) (p1 : Int32) (p2 : Int32) (p3 : Int32) : Option (Int32 × US) :=
  callK (s1_aWoman S P h p1) (fun o1 => callK (s1_oneOf p3 (1 : Int32)) (fun o2 => callK (s1_in p2 (1 : Int32) (60 : Int32)) (fun o3 => callK (s1_right (bI o3)) (fun o4 => loopK (fun rc (x : (US × Int32 × Int32 × Int32)) => s1_toSend_L30 p1 p2 p3 P h ct rc x.1 x.2.1 x.2.2.1 x.2.2.2) FUEL (S, (-1 : Int32), (100000 : Int32), (0 : Int32))))))

def s1_bestStitch_L23 (p1 : Int32) (p2 : Int32) (P : (Nat → Nat → Option Nat)) (h : AH) (ct : CT) (rc8 : ((US × Int32 × Int32 × Int32) → Option (Int32 × US))) (S4 : US) (v5 : Int32) (v6 : Int32) (v7 : Int32) : Option (Int32 × US) :=
  (if (3 : Int32) ≤ v7 then some (v5, S4) else callK (s3_be S4 1 0) (fun o9 => if p1 < 0 ∨ 12 ≤ p1.toNatClampNeg then none else letB (u2 o9 (lc 1 3) p1.toNatClampNeg v7) (fun S10 => callK (s3_after S10 ct P h 1 p2) (fun o11 => if p1 < 0 ∨ 12 ≤ p1.toNatClampNeg then none else ((if v6 < (o11 (lc 1 2) p1.toNatClampNeg) then rc8 (o11, v7, (o11 (lc 1 2) p1.toNatClampNeg), (v7 + (1 : Int32))) else rc8 (o11, v5, v6, (v7 + (1 : Int32)))))))))
def s1_bestStitch (S : US) (ct : CT) (P : Nat → Nat → Option Nat) (h : AH) (p1 : Int32) (p2 : Int32) : Option (Int32 × US) :=
  callK (s1_aStretch S p1) (fun o1 => callK (s1_in p2 (1 : Int32) (60 : Int32)) (fun o2 => callK (s1_right (bI o2)) (fun o3 => loopK (fun rc (x : (US × Int32 × Int32 × Int32)) => s1_bestStitch_L23 p1 p2 P h ct rc x.1 x.2.1 x.2.2.1 x.2.2.2) FUEL (S, (-1 : Int32), (-1 : Int32), (0 : Int32)))))

def s2_far (S : US) (p1 : Int32) (p2 : Int32) : Option Int32 :=
  some (if ((S (1) 2) - (if 0 ≤ (p1 - p2) then (p1 - p2) else 0 - (p1 - p2))) < (if 0 ≤ (p1 - p2) then (p1 - p2) else 0 - (p1 - p2)) then ((S (1) 2) - (if 0 ≤ (p1 - p2) then (p1 - p2) else 0 - (p1 - p2))) else (if 0 ≤ (p1 - p2) then (p1 - p2) else 0 - (p1 - p2)))

def s1_steps (S : US) (p1 : Int32) (p2 : Int32) : Option Int32 :=
  if p1 < 0 ∨ 6 ≤ p1.toNatClampNeg then none else (callK (s2_far S (S (lc 0 4) p1.toNatClampNeg) p2) (fun o1 => some o1))

def s1_closedFrom_L2 (p1 : Int32) (S : US) (rc2 : (Int32 → Option Int32)) (v1 : Int32) : Option Int32 :=
  (if (S (1) 2) ≤ v1 then some v1 else if (S (1) 2) = 0 then none else (callK (s3_isOpen S 0 ((p1 + v1) - (p1 + v1) / (S (1) 2) * (S (1) 2))) (fun o3 => (if (bI o3) = 0 then rc2 (v1 + (1 : Int32)) else some v1))))
def s1_closedFrom (S : US) (p1 : Int32) : Option Int32 :=
  loopK (fun rc (x : Int32) => s1_closedFrom_L2 p1 S rc x) FUEL (0 : Int32)

def s1_closed_L9 (p1 : Int32) (S : US) (rc4 : ((Int32 × Int32) → Option Int32)) (v2 : Int32) (v3 : Int32) : Option Int32 :=
  (if (S (1) 2) ≤ v3 then (if p1 = 0 then callK (s1_closedFrom S v2) (fun o6 => some o6) else callK (s1_closedFrom S v2) (fun o5 => (if o5 = 0 then some (-1 : Int32) else some v2))) else callK (s1_closedFrom S v3) (fun o7 => callK (s1_closedFrom S v2) (fun o8 => (if o7 ≤ o8 then rc4 (v2, (v3 + (1 : Int32))) else rc4 (v3, (v3 + (1 : Int32)))))))
def s1_closed (S : US) (p1 : Int32) : Option Int32 :=
  callK (s1_oneOf p1 (1 : Int32)) (fun o1 => loopK (fun rc (x : (Int32 × Int32)) => s1_closed_L9 p1 S rc x.1 x.2) FUEL ((0 : Int32), (1 : Int32)))

def s1_strainFrom_L5 (p1 : Int32) (p2 : Int32) (S : US) (rc3 : ((Int32 × Int32) → Option Int32)) (v1 : Int32) (v2 : Int32) : Option Int32 :=
  (if p2 ≤ v2 then some v1 else if (S (1) 2) = 0 then none else (if ((p1 + v2) - (p1 + v2) / (S (1) 2) * (S (1) 2)) < 0 ∨ 12 ≤ ((p1 + v2) - (p1 + v2) / (S (1) 2) * (S (1) 2)).toNatClampNeg then none else (letB (v1 + (S (lc 0 1) ((p1 + v2) - (p1 + v2) / (S (1) 2) * (S (1) 2)).toNatClampNeg)) (fun e4 => rc3 (e4, (v2 + (1 : Int32)))))))
def s1_strainFrom (S : US) (p1 : Int32) (p2 : Int32) : Option Int32 :=
  loopK (fun rc (x : (Int32 × Int32)) => s1_strainFrom_L5 p1 p2 S rc x.1 x.2) FUEL ((0 : Int32), (0 : Int32))

def s1_tight_L33 (p1 : Int32) (p2 : Int32) (S : US) (rc6 : ((Int32 × Int32) → Option Int32)) (v4 : Int32) (v5 : Int32) : Option Int32 :=
  (if (S (1) 2) ≤ v5 then (if p2 = 0 then callK (s1_strainFrom S v4 p1) (fun o7 => some o7) else some v4) else callK (s1_strainFrom S v5 p1) (fun o8 => callK (s1_strainFrom S v4 p1) (fun o9 => (if o8 ≤ o9 then rc6 (v4, (v5 + (1 : Int32))) else rc6 (v5, (v5 + (1 : Int32)))))))
def s1_tight (S : US) (p1 : Int32) (p2 : Int32) : Option Int32 :=
  callK (s1_oneOf p2 (1 : Int32)) (fun o1 => callK (s1_in p1 (1 : Int32) (12 : Int32)) (fun o2 => callK (s1_right (bI o2)) (fun o3 => (if p1 ≤ (S (1) 2) then loopK (fun rc (x : (Int32 × Int32)) => s1_tight_L33 p1 p2 S rc x.1 x.2) FUEL ((0 : Int32), (1 : Int32)) else some (-1 : Int32)))))

def s1_isSo_L52 (P : (Nat → Nat → Option Nat)) (h : AH) (ct : CT) (S7 : US) (v8 : Int32) (rc9 : ((US × Int32) → Option (Bool × US))) (rc11 : (Int32 → Option (Bool × US))) (v10 : Int32) : Option (Bool × US) :=
  letB (P (0) 10) (fun r12 => onR r12 (fun b13 => hC h b13 10 (callK (sL_size h b13) (fun o14 => (if o14 ≤ v10 then callK (s3_pass S7 ct P h 1) (fun o15 => rc9 (o15, (v8 + (1 : Int32)))) else letB (P (0) 10) (fun r16 => onR r16 (fun b17 => hC h b17 10 (callK (sL_get h b17 v10) (fun o18 => onR o18 (fun b19 => hT h b19 0 (hZ h b19 0 (1 : Int32) (fun v20 => (if v20 = v8 then hZ h b19 0 (0 : Int32) (fun v21 => if v21 < 0 ∨ 12 ≤ v21.toNatClampNeg then none else (hZ h b19 0 (2 : Int32) (fun v22 => (if (S7 (lc 1 2) v21.toNatClampNeg) = v22 then rc11 (v10 + (1 : Int32)) else some (false, S7))))) else rc11 (v10 + (1 : Int32)))))))))))))))
def s1_isSo_L45 (P : (Nat → Nat → Option Nat)) (h : AH) (ct : CT) (v1 : Int32) (rc9 : ((US × Int32) → Option (Bool × US))) (S7 : US) (v8 : Int32) : Option (Bool × US) :=
  (if v1 < v8 then some (true, S7) else loopK (fun rc (x : Int32) => s1_isSo_L52 P h ct S7 v8 rc9 rc x) FUEL (0 : Int32))
def s1_isSo_L4 (S : US) (P : (Nat → Nat → Option Nat)) (h : AH) (ct : CT) (rc3 : ((Int32 × Int32) → Option (Bool × US))) (v1 : Int32) (v2 : Int32) : Option (Bool × US) :=
  letB (P (0) 10) (fun r4 => onR r4 (fun b5 => hC h b5 10 (callK (sL_size h b5) (fun o6 => (if o6 ≤ v2 then loopK (fun rc (x : (US × Int32)) => s1_isSo_L45 P h ct v1 rc x.1 x.2) FUEL (S, (0 : Int32)) else letB (P (0) 10) (fun r23 => onR r23 (fun b24 => hC h b24 10 (callK (sL_get h b24 v2) (fun o25 => onR o25 (fun b26 => hT h b26 0 (hZ h b26 0 (1 : Int32) (fun v27 => rc3 ((if v1 < v27 then v27 else v1), (v2 + (1 : Int32)))))))))))))))
def s1_isSo (S : US) (ct : CT) (P : Nat → Nat → Option Nat) (h : AH) : Option (Bool × US) :=
  loopK (fun rc (x : (Int32 × Int32)) => s1_isSo_L4 S P h ct rc x.1 x.2) FUEL ((0 : Int32), (0 : Int32))

def s1_gales_L90 (P : (Nat → Nat → Option Nat)) (h : AH) (ct : CT) (v7 : Int32) (v11 : Int32) (v12 : Int32) (rc13 : ((US × Int32 × Int32) → Option (Int32 × US))) (y17 : Int32) (rc21 : ((US × Int32) → Option (Int32 × US))) (S19 : US) (v20 : Int32) : Option (Int32 × US) :=
  (if (S19 (1) 2) ≤ v20 then callK (s3_pass S19 ct P h 1) (fun o22 => rc13 (o22, (v11 * y17), (v12 + (1 : Int32)))) else callK (s1_isOf v7 v12) (fun o23 => (if (bI o23) = 0 then callK (s3_pass S19 ct P h 1) (fun o24 => rc13 (o24, (v11 * y17), (v12 + (1 : Int32)))) else callK (s3_isOpen S19 1 v20) (fun o25 => (if (bI o25) = 0 then callK (s3_pull S19 1 v20 (15 : Int32)) (fun o26 => rc21 (o26, (v20 + (1 : Int32)))) else rc21 (S19, (v20 + (1 : Int32))))))))
def s1_gales_J84 (P : (Nat → Nat → Option Nat)) (h : AH) (ct : CT) (v7 : Int32) (S10 : US) (v11 : Int32) (v12 : Int32) (rc13 : ((US × Int32 × Int32) → Option (Int32 × US))) (y17 : Int32) : Option (Int32 × US) :=
  loopK (fun rc (x : (US × Int32)) => s1_gales_L90 P h ct v7 v11 v12 rc13 y17 rc x.1 x.2) FUEL (S10, (0 : Int32))
def s1_gales_L58 (p1 : Int32) (p2 : Int32) (P : (Nat → Nat → Option Nat)) (h : AH) (ct : CT) (v6 : Int32) (v7 : Int32) (rc8 : ((US × Int32 × Int32) → Option (Int32 × US))) (rc13 : ((US × Int32 × Int32) → Option (Int32 × US))) (S10 : US) (v11 : Int32) (v12 : Int32) : Option (Int32 × US) :=
  (if p1 ≤ v12 then callK (s3_open S10 1) (fun o14 => callK (s3_open S10 0) (fun o15 => (if (o14 &&& (o15 ^^^ (-1 : Int32))) = 0 then rc8 (S10, v6, (v7 + (1 : Int32))) else rc8 (S10, (v6 + v11), (v7 + (1 : Int32)))))) else callK (s1_isOf v7 v12) (fun o16 => joinB (fun (x18 : Int32) => s1_gales_J84 P h ct v7 S10 v11 v12 rc13 x18) (fun j18 => (if (bI o16) = 0 then j18 ((10 : Int32) - p2) else j18 p2))))
def s1_gales_L32 (p1 : Int32) (p2 : Int32) (P : (Nat → Nat → Option Nat)) (h : AH) (ct : CT) (rc8 : ((US × Int32 × Int32) → Option (Int32 × US))) (S5 : US) (v6 : Int32) (v7 : Int32) : Option (Int32 × US) :=
  (if ((1 : Int32) <<< (p1 &&& 31)) ≤ v7 then some (v6, S5) else callK (s3_be S5 1 0) (fun o9 => loopK (fun rc (x : (US × Int32 × Int32)) => s1_gales_L58 p1 p2 P h ct v6 v7 rc8 rc x.1 x.2.1 x.2.2) FUEL (o9, (1 : Int32), (0 : Int32))))
def s1_gales_J24 (p1 : Int32) (p2 : Int32) (S : US) (P : (Nat → Nat → Option Nat)) (h : AH) (ct : CT) (y2 : Int32) : Option (Int32 × US) :=
  callK (s1_right y2) (fun o4 => loopK (fun rc (x : (US × Int32 × Int32)) => s1_gales_L32 p1 p2 P h ct rc x.1 x.2.1 x.2.2) FUEL (S, (0 : Int32), (0 : Int32)))
def s1_gales (S : US) (ct : CT) (P : Nat → Nat → Option Nat) (h : AH) (p1 : Int32) (p2 : Int32) : Option (Int32 × US) :=
  callK (s1_in p1 (1 : Int32) (5 : Int32)) (fun o1 => joinB (fun (x3 : Int32) => s1_gales_J24 p1 p2 S P h ct x3) (fun j3 => (if (bI o1) = 0 then j3 (0 : Int32) else callK (s1_in p2 (0 : Int32) (10 : Int32)) (fun o27 => (if (bI o27) = 0 then j3 (0 : Int32) else j3 (1 : Int32))))))

def s1_moves (S : US) (P : Nat → Nat → Option Nat) (h : AH) (p1 : Int32) (p2 : Int32) : Option US :=
  (if p2 = 0 then callK (s3_mend S P h 1 p1) (fun o1 => some o1) else callK (s3_goOn S 1 p1) (fun o2 => callK (s3_mend o2 P h 1 p1) (fun o3 => some o3)))

def s1_draw (S : US) (p1 : Int32) : Option (Int32 × US) :=
  letB (u2 S (0) 14 (((S (0) 14) * (1103515245 : Int32)) + (12345 : Int32))) (fun S1 => if p1 = 0 then none else (some (((((S1 (0) 14) >>> ((16 : Int32) &&& 31)) &&& (32767 : Int32)) - (((S1 (0) 14) >>> ((16 : Int32) &&& 31)) &&& (32767 : Int32)) / p1 * p1), S1)))

def s1_befalls_J77 (P : (Nat → Nat → Option Nat)) (h : AH) (o1 : (Int32 × US)) (S4 : US) : Option US :=
  (if o1.1 = (2 : Int32) then callK (s2_women S4 P h) (fun o6 => (if o6 ≤ 0 then some S4 else callK (s2_women S4 P h) (fun o7 => callK (s1_draw S4 o7) (fun o8 => if o8.1 < 0 ∨ 6 ≤ o8.1.toNatClampNeg then none else (if o8.1 < 0 ∨ 6 ≤ o8.1.toNatClampNeg then none else letB (u2 o8.2 (lc 1 5) o8.1.toNatClampNeg (if ((o8.2 (lc 1 5) o8.1.toNatClampNeg) + (5 : Int32)) < (99 : Int32) then ((o8.2 (lc 1 5) o8.1.toNatClampNeg) + (5 : Int32)) else (99 : Int32))) (fun S9 => some S9)))))) else some S4)
def s1_befalls_J52 (P : (Nat → Nat → Option Nat)) (h : AH) (o1 : (Int32 × US)) (S2 : US) : Option US :=
  joinB (fun (x5 : US) => s1_befalls_J77 P h o1 x5) (fun j5 => (if o1.1 = (1 : Int32) then callK (s1_draw S2 (S2 (1) 2)) (fun o10 => callK (s3_pull o10.2 1 o10.1 (9 : Int32)) (fun o11 => j5 o11)) else j5 S2))
def s1_befalls (S : US) (P : Nat → Nat → Option Nat) (h : AH) : Option US :=
  callK (s1_draw S (6 : Int32)) (fun o1 => joinB (fun (x3 : US) => s1_befalls_J52 P h o1 x3) (fun j3 => (if o1.1 = 0 then callK (s1_draw o1.2 (o1.2 (1) 2)) (fun o12 => callK (s1_draw o12.2 (20 : Int32)) (fun o13 => callK (s3_isOpen o13.2 1 o12.1) (fun o14 => (if (bI o14) = 0 then callK (s3_loosen o13.2 1 o12.1 (o13.1 + (1 : Int32))) (fun o15 => j3 o15) else j3 o13.2)))) else j3 o1.2)))

def s1_years_L35 (p2 : Int32) (p3 : Int32) (P : (Nat → Nat → Option Nat)) (h : AH) (ct : CT) (rc8 : ((US × Int32) → Option (Int32 × US))) (S6 : US) (v7 : Int32) : Option (Int32 × US) :=
  (if p2 ≤ v7 then (if p3 = 0 then callK (s3_openMany S6 1) (fun o11 => some (o11, S6)) else (if p3 = (1 : Int32) then callK (s3_allSeam S6 1) (fun o10 => some (o10, S6)) else callK (s3_allThread S6 P h 1) (fun o9 => some (o9, S6)))) else callK (s1_befalls S6 P h) (fun o12 => callK (s3_pass o12 ct P h 1) (fun o13 => rc8 (o13, (v7 + (1 : Int32))))))
def s1_years (S : US) (ct : CT) (P : Nat → Nat → Option Nat) (h : AH) (p1 : Int32) (p2 : Int32) (p3 : Int32) : Option (Int32 × US) :=
  callK (s1_oneOf p3 (2 : Int32)) (fun o1 => callK (s1_in p2 (0 : Int32) (60 : Int32)) (fun o2 => callK (s1_right (bI o2)) (fun o3 => letB (u2 S (0) 14 p1) (fun S4 => callK (s3_be S4 1 0) (fun o5 => loopK (fun rc (x : (US × Int32)) => s1_years_L35 p2 p3 P h ct rc x.1 x.2) FUEL (o5, (0 : Int32)))))))

def s1_nearest_L9 (p1 : Int32) (S : US) (P : (Nat → Nat → Option Nat)) (h : AH) (rc4 : ((Int32 × Int32) → Option Int32)) (v2 : Int32) (v3 : Int32) : Option Int32 :=
  callK (s2_women S P h) (fun o5 => (if o5 ≤ v3 then some v2 else (if v2 = (-1 : Int32) then rc4 (v3, (v3 + (1 : Int32))) else callK (s1_steps S v3 p1) (fun o6 => callK (s1_steps S v2 p1) (fun o7 => (if o7 ≤ o6 then rc4 (v2, (v3 + (1 : Int32))) else rc4 (v3, (v3 + (1 : Int32)))))))))
def s1_nearest (S : US) (P : Nat → Nat → Option Nat) (h : AH) (p1 : Int32) : Option Int32 :=
  callK (s1_aStretch S p1) (fun o1 => loopK (fun rc (x : (Int32 × Int32)) => s1_nearest_L9 p1 S P h rc x.1 x.2) FUEL ((-1 : Int32), (0 : Int32)))

def s1_far (S : US) (p1 : Int32) (p2 : Int32) : Option Int32 :=
  callK (s1_aStretch S p1) (fun o1 => callK (s1_aStretch S p2) (fun o2 => callK (s2_far S p1 p2) (fun o3 => some o3)))

def s1_worst_L17 (p1 : Int32) (P : (Nat → Nat → Option Nat)) (h : AH) (ct : CT) (rc7 : ((US × Int32 × Int32 × Int32) → Option (Int32 × US))) (S3 : US) (v4 : Int32) (v5 : Int32) (v6 : Int32) : Option (Int32 × US) :=
  (if (S3 (1) 2) ≤ v6 then some (v4, S3) else callK (s3_isOpen S3 0 v6) (fun o8 => (if (bI o8) = 0 then callK (s3_be S3 1 0) (fun o9 => callK (s3_loosen o9 1 v6 p1) (fun o10 => callK (s3_after o10 ct P h 1 (7 : Int32)) (fun o11 => callK (s3_openMany o11 1) (fun o12 => (if v5 < o12 then rc7 (o11, v6, o12, (v6 + (1 : Int32))) else rc7 (o11, v4, v5, (v6 + (1 : Int32)))))))) else rc7 (S3, v4, v5, (v6 + (1 : Int32))))))
def s1_worst (S : US) (ct : CT) (P : Nat → Nat → Option Nat) (h : AH) (p1 : Int32) : Option (Int32 × US) :=
  callK (s1_in p1 (1 : Int32) (50 : Int32)) (fun o1 => callK (s1_right (bI o1)) (fun o2 => loopK (fun rc (x : (US × Int32 × Int32 × Int32)) => s1_worst_L17 p1 P h ct rc x.1 x.2.1 x.2.2.1 x.2.2.2) FUEL (S, (-1 : Int32), (-1 : Int32), (0 : Int32))))

def s1_meet_L24 (p1 : Int32) (p2 : Int32) (P : (Nat → Nat → Option Nat)) (h : AH) (ct : CT) (rc6 : ((US × Int32) → Option (Int32 × US))) (S4 : US) (v5 : Int32) : Option (Int32 × US) :=
  (if (60 : Int32) < v5 then some ((-1 : Int32), S4) else (if p1 = p2 then some ((-1 : Int32), S4) else if p1 < 0 ∨ 6 ≤ p1.toNatClampNeg then none else (if p2 < 0 ∨ 6 ≤ p2.toNatClampNeg then none else ((if (S4 (lc 1 4) p1.toNatClampNeg) = (S4 (lc 1 4) p2.toNatClampNeg) then some (v5, S4) else callK (s3_pass S4 ct P h 1) (fun o7 => rc6 (o7, (v5 + (1 : Int32)))))))))
def s1_meet (S : US) (ct : CT) (P : Nat → Nat → Option Nat) (h : AH) (p1 : Int32) (p2 : Int32) : Option (Int32 × US) :=
  callK (s1_aWoman S P h p1) (fun o1 => callK (s1_aWoman S P h p2) (fun o2 => callK (s3_be S 1 0) (fun o3 => loopK (fun rc (x : (US × Int32)) => s1_meet_L24 p1 p2 P h ct rc x.1 x.2) FUEL (o3, (0 : Int32)))))

def s1_bare_L20 (P : (Nat → Nat → Option Nat)) (h : AH) (o3 : US) (rc6 : ((Int32 × Int32) → Option (Int32 × US))) (v4 : Int32) (v5 : Int32) : Option (Int32 × US) :=
  callK (s2_women o3 P h) (fun o7 => (if o7 ≤ v5 then some (v4, o3) else if v5 < 0 ∨ 6 ≤ v5.toNatClampNeg then none else ((if (o3 (lc 1 5) v5.toNatClampNeg) = 0 then rc6 ((v4 ||| ((1 : Int32) <<< (v5 &&& 31))), (v5 + (1 : Int32))) else rc6 (v4, (v5 + (1 : Int32)))))))
def s1_bare (S : US) (ct : CT) (P : Nat → Nat → Option Nat) (h : AH) (p1 : Int32) : Option (Int32 × US) :=
  callK (s1_in p1 (0 : Int32) (60 : Int32)) (fun o1 => callK (s1_right (bI o1)) (fun o2 => callK (s1_tryOn S ct P h p1) (fun o3 => loopK (fun rc (x : (Int32 × Int32)) => s1_bare_L20 P h o3 rc x.1 x.2) FUEL ((0 : Int32), (0 : Int32)))))

def s1_load_L14 (p1 : Int32) (S : US) (rc5 : ((Int32 × Int32) → Option Int32)) (v3 : Int32) (v4 : Int32) : Option Int32 :=
  (if (S (1) 2) ≤ v4 then (if v3 = 0 then if (0 : Int32) < 0 ∨ 12 ≤ (0 : Int32).toNatClampNeg then none else ((if (S (lc 0 1) (0 : Int32).toNatClampNeg) < p1 then some v3 else some (1 : Int32))) else some v3) else if v4 < 0 ∨ 12 ≤ v4.toNatClampNeg then none else ((if (S (lc 0 1) v4.toNatClampNeg) < p1 then rc5 (v3, (v4 + (1 : Int32))) else callK (s2_before S v4) (fun o6 => if o6 < 0 ∨ 12 ≤ o6.toNatClampNeg then none else ((if p1 ≤ (S (lc 0 1) o6.toNatClampNeg) then rc5 (v3, (v4 + (1 : Int32))) else rc5 ((v3 + (1 : Int32)), (v4 + (1 : Int32)))))))))
def s1_load (S : US) (p1 : Int32) : Option Int32 :=
  callK (s1_in p1 (0 : Int32) (99 : Int32)) (fun o1 => callK (s1_right (bI o1)) (fun o2 => loopK (fun rc (x : (Int32 × Int32)) => s1_load_L14 p1 S rc x.1 x.2) FUEL ((0 : Int32), (0 : Int32))))
