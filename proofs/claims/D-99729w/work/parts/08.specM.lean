set_option maxRecDepth 100000
def sM_thrown (S : US) : Option Int32 :=
  some (S 0 0)

def sM_lays_L3 (p1 : Int32) (rc3 : ((US × Int32) → Option US)) (S1 : US) (v2 : Int32) : Option US :=
  (if v2 < 0 then some S1 else if (S1 0 12) < 0 ∨ 700 ≤ (S1 0 12).toNatClampNeg then none else letB (u2 S1 5 (S1 0 12).toNatClampNeg ((p1 >>> (v2 &&& 31)) &&& (255 : Int32))) (fun S4 => letB (u2 S4 0 12 ((S4 0 12) + (1 : Int32))) (fun S5 => rc3 (S5, (v2 + (-8 : Int32))))))
def sM_lays (S : US) (p1 : Int32) : Option US :=
  loopK (fun rc (x : (US × Int32)) => sM_lays_L3 p1 rc x.1 x.2) FUEL (S, (24 : Int32))

def sM_feed (S : US) (p1 : Int32) (p2 : Int32) (p3 : Int32) (p4 : Int32) (p5 : Int32) : Option (Int32 × US) :=
  letB (u2 S 0 0 (0 : Int32)) (fun S1 => (if ((S1 0 12) + (20 : Int32)) ≤ (700 : Int32) then callK (sM_lays S1 p1) (fun o2 => callK (sM_lays o2 p2) (fun o3 => callK (sM_lays o3 p3) (fun o4 => callK (sM_lays o4 p4) (fun o5 => callK (sM_lays o5 p5) (fun o6 => some ((o6 0 12), o6)))))) else some ((-1 : Int32), S1)))

def sM_copies_L2 (i1 : Nat) (n1 : Nat) (i2 : Nat) (n2 : Nat) (rc3 : ((US × Int32) → Option US)) (S1 : US) (v2 : Int32) : Option US :=
  (if (Int32.ofNat n1) ≤ v2 then some S1 else if v2 < 0 ∨ n1 ≤ v2.toNatClampNeg then none else (if v2 < 0 ∨ n2 ≤ v2.toNatClampNeg then none else letB (u2 S1 i2 v2.toNatClampNeg (S1 i1 v2.toNatClampNeg)) (fun S4 => rc3 (S4, (v2 + (1 : Int32))))))
def sM_copies (S : US) (i1 : Nat) (n1 : Nat) (i2 : Nat) (n2 : Nat) : Option US :=
  loopK (fun rc (x : (US × Int32)) => sM_copies_L2 i1 n1 i2 n2 rc x.1 x.2) FUEL (S, (0 : Int32))

def sM_byteAt (S : US) (p1 : Int32) : Option Int32 :=
  (if (S 0 16) ≤ p1 then some (0 : Int32) else if p1 < 0 ∨ 700 ≤ p1.toNatClampNeg then none else (some (S 5 p1.toNatClampNeg)))

def sM_isDigit (p1 : Int32) : Option Bool :=
  (if p1 < (48 : Int32) then some false else (if (57 : Int32) < p1 then some false else some true))

def sM_isLetter (p1 : Int32) : Option Bool :=
  (if p1 < (97 : Int32) then some false else (if (122 : Int32) < p1 then some false else some true))

def sM_goes_L187 (w4 : Int64) (rc32 : (US → Option (US × Int64))) (S31 : US) : Option (US × Int64) :=
  callK (sM_byteAt S31 (S31 0 17)) (fun o33 => callK (sM_isDigit o33) (fun o34 => (if (bI o34) = 0 then letB (u2 S31 0 18 (2 : Int32)) (fun S35 => letB (u2 S35 0 20 ((S35 0 17) - (S35 0 19))) (fun S36 => some (S36, w4))) else (if (4 : Int32) ≤ ((S31 0 17) - (S31 0 19)) then letB (u2 S31 0 17 ((S31 0 17) + (1 : Int32))) (fun S37 => rc32 S37) else callK (sM_byteAt S31 (S31 0 17)) (fun o38 => letB (u2 S31 0 21 ((((10 : Int32) * (S31 0 21)) + o38) - (48 : Int32))) (fun S39 => letB (u2 S39 0 17 ((S39 0 17) + (1 : Int32))) (fun S40 => rc32 S40)))))))
def sM_goes_L108 (rc43 : ((US × Int64) → Option (US × Int64))) (S41 : US) (w42 : Int64) : Option (US × Int64) :=
  callK (sM_byteAt S41 (S41 0 17)) (fun o44 => callK (sM_isLetter o44) (fun o45 => (if (bI o45) = 0 then letB (u2 S41 0 18 (1 : Int32)) (fun S46 => letB (u2 S46 0 20 ((S46 0 17) - (S46 0 19))) (fun S47 => some (S47, w42))) else (if (7 : Int32) ≤ ((S41 0 17) - (S41 0 19)) then letB (u2 S41 0 17 ((S41 0 17) + (1 : Int32))) (fun S48 => rc43 (S48, w42)) else callK (sM_byteAt S41 (S41 0 17)) (fun o49 => letB ((w42 <<< ((5 : Int32).toInt64 &&& 63)) ||| (o49 - (96 : Int32)).toInt64) (fun w50 => letB (u2 S41 0 17 ((S41 0 17) + (1 : Int32))) (fun S51 => rc43 (S51, w50))))))))
def sM_goes_L0 (j2 : (US → Option (US × Int64))) (rc55 : (US → Option (US × Int64))) (S54 : US) : Option (US × Int64) :=
  (if (S54 0 16) ≤ (S54 0 17) then j2 S54 else callK (sM_byteAt S54 (S54 0 17)) (fun o56 => (if o56 = (32 : Int32) then letB (u2 S54 0 17 ((S54 0 17) + (1 : Int32))) (fun S57 => rc55 S57) else callK (sM_byteAt S54 (S54 0 17)) (fun o58 => (if o58 = (10 : Int32) then letB (u2 S54 0 17 ((S54 0 17) + (1 : Int32))) (fun S59 => rc55 S59) else j2 S54)))))
def sM_goes_J50 (S1 : US) : Option (US × Int64) :=
  letB (u2 S1 0 19 (S1 0 17)) (fun S3 => letB (0 : Int64) (fun w4 => letB (u2 S3 0 21 (0 : Int32)) (fun S5 => callK (sM_byteAt S5 (S5 0 17)) (fun o6 => letB (u2 S5 0 22 o6) (fun S7 => (if (S7 0 17) < (S7 0 16) then callK (sM_isLetter o6) (fun o8 => (if (bI o8) = 0 then callK (sM_isDigit o6) (fun o9 => (if (bI o9) = 0 then letB (u2 S7 0 17 ((S7 0 17) + (1 : Int32))) (fun S10 => (if o6 = (59 : Int32) then letB (u2 S10 0 18 (3 : Int32)) (fun S11 => letB (u2 S11 0 20 ((S11 0 17) - (S11 0 19))) (fun S12 => some (S12, w4))) else (if o6 = (40 : Int32) then letB (u2 S10 0 18 (3 : Int32)) (fun S13 => letB (u2 S13 0 20 ((S13 0 17) - (S13 0 19))) (fun S14 => some (S14, w4))) else (if o6 = (41 : Int32) then letB (u2 S10 0 18 (3 : Int32)) (fun S15 => letB (u2 S15 0 20 ((S15 0 17) - (S15 0 19))) (fun S16 => some (S16, w4))) else (if o6 = (43 : Int32) then letB (u2 S10 0 18 (3 : Int32)) (fun S17 => letB (u2 S17 0 20 ((S17 0 17) - (S17 0 19))) (fun S18 => some (S18, w4))) else (if o6 = (45 : Int32) then letB (u2 S10 0 18 (3 : Int32)) (fun S19 => letB (u2 S19 0 20 ((S19 0 17) - (S19 0 19))) (fun S20 => some (S20, w4))) else (if o6 = (42 : Int32) then letB (u2 S10 0 18 (3 : Int32)) (fun S21 => letB (u2 S21 0 20 ((S21 0 17) - (S21 0 19))) (fun S22 => some (S22, w4))) else (if o6 = (47 : Int32) then letB (u2 S10 0 18 (3 : Int32)) (fun S23 => letB (u2 S23 0 20 ((S23 0 17) - (S23 0 19))) (fun S24 => some (S24, w4))) else (if o6 = (60 : Int32) then letB (u2 S10 0 18 (3 : Int32)) (fun S25 => letB (u2 S25 0 20 ((S25 0 17) - (S25 0 19))) (fun S26 => some (S26, w4))) else (if o6 = (61 : Int32) then letB (u2 S10 0 18 (3 : Int32)) (fun S29 => letB (u2 S29 0 20 ((S29 0 17) - (S29 0 19))) (fun S30 => some (S30, w4))) else letB (u2 S10 0 18 (4 : Int32)) (fun S27 => letB (u2 S27 0 20 ((S27 0 17) - (S27 0 19))) (fun S28 => some (S28, w4))))))))))))) else loopK (fun rc (x : US) => sM_goes_L187 w4 rc x) FUEL S7)) else loopK (fun rc (x : (US × Int64)) => sM_goes_L108 rc x.1 x.2) FUEL (S7, w4))) else letB (u2 S7 0 18 (0 : Int32)) (fun S52 => letB (u2 S52 0 20 ((S52 0 17) - (S52 0 19))) (fun S53 => some (S53, w4)))))))))
def sM_goes (S : US) (w : Int64) : Option (US × Int64) :=
  joinB (fun (x2 : US) => sM_goes_J50 x2) (fun j2 => loopK (fun rc (x : US) => sM_goes_L0 j2 rc x) FUEL S)

def sM_isGood (S : US) : Option Bool :=
  (if (S 0 13) = 0 then some true else some false)

def sM_wrong (S : US) (p1 : Int32) : Option US :=
  (if (S 0 13) = 0 then letB (u2 S 0 13 p1) (fun S1 => letB (u2 S1 0 14 (S1 0 19)) (fun S2 => some S2)) else some S)

def sM_begins_J18 (w : Int64) (S3 : US) : Option (Bool × US × Int64) :=
  callK (sM_isGood S3) (fun o5 => (if (bI o5) = 0 then some (false, S3, w) else callK (sM_goes S3 w) (fun o6 => some (true, o6.1, o6.2))))
def sM_begins_J9 (p2 : Int32) (w : Int64) (S1 : US) : Option (Bool × US × Int64) :=
  joinB (fun (x4 : US) => sM_begins_J18 w x4) (fun j4 => (if p2 = 0 then j4 S1 else callK (sM_wrong S1 (5 : Int32)) (fun o7 => j4 o7)))
def sM_begins (S : US) (w : Int64) (p1 : Int32) (p2 : Int32) : Option (Bool × US × Int64) :=
  joinB (fun (x2 : US) => sM_begins_J9 p2 w x2) (fun j2 => (if p1 = 0 then j2 S else callK (sM_wrong S (2 : Int32)) (fun o8 => j2 o8)))

def sM_isOpen (p1 : Int32) : Option Bool :=
  (if p1 < (14 : Int32) then some false else some true)

def sM_puts (S : US) (p1 : Int32) : Option US :=
  if (S 0 30) < 0 ∨ 1400 ≤ (S 0 30).toNatClampNeg then none else letB (u2 S 11 (S 0 30).toNatClampNeg p1) (fun S1 => letB (u2 S1 0 30 ((S1 0 30) + (1 : Int32))) (fun S2 => some S2))

def sM_strength (p1 : Int32) : Option Int32 :=
  (if p1 = (5 : Int32) then some (1 : Int32) else (if p1 = (4 : Int32) then some (2 : Int32) else (if p1 = (3 : Int32) then some (3 : Int32) else (if p1 = (6 : Int32) then some (4 : Int32) else (if p1 = (7 : Int32) then some (4 : Int32) else (if p1 = (8 : Int32) then some (5 : Int32) else (if p1 = (9 : Int32) then some (5 : Int32) else some (6 : Int32))))))))

def sM_drops_L0 (p1 : Int32) (rc2 : (US → Option US)) (S1 : US) : Option US :=
  (if (S1 0 31) ≤ 0 then some S1 else if ((S1 0 31) - (1 : Int32)) < 0 ∨ 950 ≤ ((S1 0 31) - (1 : Int32)).toNatClampNeg then none else (callK (sM_isOpen (S1 12 ((S1 0 31) - (1 : Int32)).toNatClampNeg)) (fun o3 => (if (bI o3) = 0 then if ((S1 0 31) - (1 : Int32)) < 0 ∨ 950 ≤ ((S1 0 31) - (1 : Int32)).toNatClampNeg then none else (callK (sM_strength (S1 12 ((S1 0 31) - (1 : Int32)).toNatClampNeg)) (fun o4 => (if o4 < p1 then some S1 else letB (u2 S1 0 31 ((S1 0 31) - (1 : Int32))) (fun S5 => if (S5 0 31) < 0 ∨ 950 ≤ (S5 0 31).toNatClampNeg then none else (callK (sM_puts S5 (S5 12 (S5 0 31).toNatClampNeg)) (fun o6 => rc2 o6)))))) else some S1))))
def sM_drops (S : US) (p1 : Int32) : Option US :=
  loopK (fun rc (x : US) => sM_drops_L0 p1 rc x) FUEL S

def sM_closes (S : US) (w : Int64) : Option (US × Int64) :=
  callK (sM_drops S (0 : Int32)) (fun o1 => letB (u2 o1 0 31 ((o1 0 31) - (1 : Int32))) (fun S2 => letB (u2 S2 0 32 ((S2 0 32) - (1 : Int32))) (fun S3 => callK (sM_goes S3 w) (fun o4 => some (o4.1, o4.2)))))

def sM_isSign (S : US) (p1 : Int32) : Option Bool :=
  (if (S 0 18) = (3 : Int32) then (if (S 0 22) = p1 then some true else some false) else some false)

def sM_deeper (S : US) : Option US :=
  (if (6 : Int32) ≤ (S 0 32) then (if (S 0 18) = (2 : Int32) then callK (sM_wrong S (2 : Int32)) (fun o1 => some o1) else (if (S 0 18) = (1 : Int32) then callK (sM_wrong S (2 : Int32)) (fun o2 => some o2) else callK (sM_isSign S (40 : Int32)) (fun o3 => (if (bI o3) = 0 then callK (sM_wrong S (1 : Int32)) (fun o4 => some o4) else callK (sM_wrong S (2 : Int32)) (fun o5 => some o5))))) else letB (u2 S 0 32 ((S 0 32) + (1 : Int32))) (fun S6 => if (S6 0 32) < 0 ∨ 9 ≤ (S6 0 32).toNatClampNeg then none else letB (u2 S6 13 (S6 0 32).toNatClampNeg (vp_nar .boolean (0 : Int32))) (fun S7 => some S7)))

def sM_isOpened_L7 (S : US) (j2 : (Int32 → Option Bool)) (rc4 : (Int32 → Option Bool)) (v3 : Int32) : Option Bool :=
  (if v3 < 0 then j2 v3 else if v3 < 0 ∨ 950 ≤ v3.toNatClampNeg then none else (callK (sM_isOpen (S 12 v3.toNatClampNeg)) (fun o5 => (if (bI o5) = 0 then rc4 (v3 + (-1 : Int32)) else j2 v3))))
def sM_isOpened_J29 (v1 : Int32) : Option Bool :=
  (if v1 < 0 then some false else some true)
def sM_isOpened (S : US) : Option Bool :=
  joinB (fun (x2 : Int32) => sM_isOpened_J29 x2) (fun j2 => loopK (fun rc (x : Int32) => sM_isOpened_L7 S j2 rc x) FUEL ((S 0 31) - (1 : Int32)))

def sM_spelled_J84 (p7 : Int32) (v8 : Int64) : Option Int64 :=
  (if p7 = 0 then some v8 else letB ((v8 <<< ((5 : Int32).toInt64 &&& 63)) ||| (p7 - (96 : Int32)).toInt64) (fun e10 => some e10))
def sM_spelled_J66 (p6 : Int32) (p7 : Int32) (v6 : Int64) : Option Int64 :=
  joinB (fun (x9 : Int64) => sM_spelled_J84 p7 x9) (fun j9 => (if p6 = 0 then j9 v6 else letB ((v6 <<< ((5 : Int32).toInt64 &&& 63)) ||| (p6 - (96 : Int32)).toInt64) (fun e11 => j9 e11)))
def sM_spelled_J48 (p5 : Int32) (p6 : Int32) (p7 : Int32) (v4 : Int64) : Option Int64 :=
  joinB (fun (x7 : Int64) => sM_spelled_J66 p6 p7 x7) (fun j7 => (if p5 = 0 then j7 v4 else letB ((v4 <<< ((5 : Int32).toInt64 &&& 63)) ||| (p5 - (96 : Int32)).toInt64) (fun e12 => j7 e12)))
def sM_spelled_J32 (p4 : Int32) (p5 : Int32) (p6 : Int32) (p7 : Int32) (v2 : Int64) : Option Int64 :=
  joinB (fun (x5 : Int64) => sM_spelled_J48 p5 p6 p7 x5) (fun j5 => (if p4 = 0 then j5 v2 else letB ((v2 <<< ((5 : Int32).toInt64 &&& 63)) ||| (p4 - (96 : Int32)).toInt64) (fun e13 => j5 e13)))
def sM_spelled (p1 : Int32) (p2 : Int32) (p3 : Int32) (p4 : Int32) (p5 : Int32) (p6 : Int32) (p7 : Int32) : Option Int64 :=
  letB (((p1.toInt64 - (96 : Int64)) <<< ((5 : Int32).toInt64 &&& 63)) ||| (p2 - (96 : Int32)).toInt64) (fun e1 => joinB (fun (x3 : Int64) => sM_spelled_J32 p4 p5 p6 p7 x3) (fun j3 => (if p3 = 0 then j3 e1 else letB ((e1 <<< ((5 : Int32).toInt64 &&& 63)) ||| (p3 - (96 : Int32)).toInt64) (fun e14 => j3 e14))))

def sM_letters (p1 : Int32) : Option Int64 :=
  (if p1 = (0 : Int32) then callK (sM_spelled (115 : Int32) (116 : Int32) (114 : Int32) (97 : Int32) (105 : Int32) (110 : Int32) (0 : Int32)) (fun o1 => some o1) else (if p1 = (1 : Int32) then callK (sM_spelled (115 : Int32) (101 : Int32) (97 : Int32) (109 : Int32) (0 : Int32) (0 : Int32) (0 : Int32)) (fun o2 => some o2) else (if p1 = (2 : Int32) then callK (sM_spelled (115 : Int32) (116 : Int32) (105 : Int32) (116 : Int32) (99 : Int32) (104 : Int32) (0 : Int32)) (fun o3 => some o3) else (if p1 = (3 : Int32) then callK (sM_spelled (98 : Int32) (101 : Int32) (115 : Int32) (105 : Int32) (100 : Int32) (101 : Int32) (0 : Int32)) (fun o4 => some o4) else (if p1 = (4 : Int32) then callK (sM_spelled (119 : Int32) (111 : Int32) (109 : Int32) (101 : Int32) (110 : Int32) (0 : Int32) (0 : Int32)) (fun o5 => some o5) else (if p1 = (5 : Int32) then callK (sM_spelled (100 : Int32) (97 : Int32) (121 : Int32) (0 : Int32) (0 : Int32) (0 : Int32) (0 : Int32)) (fun o6 => some o6) else (if p1 = (6 : Int32) then callK (sM_spelled (115 : Int32) (116 : Int32) (114 : Int32) (101 : Int32) (116 : Int32) (99 : Int32) (104 : Int32)) (fun o7 => some o7) else (if p1 = (7 : Int32) then callK (sM_spelled (119 : Int32) (111 : Int32) (109 : Int32) (97 : Int32) (110 : Int32) (0 : Int32) (0 : Int32)) (fun o8 => some o8) else (if p1 = (8 : Int32) then callK (sM_spelled (107 : Int32) (110 : Int32) (111 : Int32) (116 : Int32) (115 : Int32) (0 : Int32) (0 : Int32)) (fun o9 => some o9) else (if p1 = (9 : Int32) then callK (sM_spelled (119 : Int32) (101 : Int32) (101 : Int32) (107 : Int32) (0 : Int32) (0 : Int32) (0 : Int32)) (fun o10 => some o10) else (if p1 = (10 : Int32) then callK (sM_spelled (102 : Int32) (114 : Int32) (97 : Int32) (121 : Int32) (115 : Int32) (0 : Int32) (0 : Int32)) (fun o11 => some o11) else (if p1 = (11 : Int32) then callK (sM_spelled (112 : Int32) (117 : Int32) (108 : Int32) (108 : Int32) (115 : Int32) (0 : Int32) (0 : Int32)) (fun o12 => some o12) else (if p1 = (12 : Int32) then callK (sM_spelled (97 : Int32) (110 : Int32) (100 : Int32) (0 : Int32) (0 : Int32) (0 : Int32) (0 : Int32)) (fun o13 => some o13) else (if p1 = (13 : Int32) then callK (sM_spelled (111 : Int32) (114 : Int32) (0 : Int32) (0 : Int32) (0 : Int32) (0 : Int32) (0 : Int32)) (fun o14 => some o14) else callK (sM_spelled (110 : Int32) (111 : Int32) (116 : Int32) (0 : Int32) (0 : Int32) (0 : Int32) (0 : Int32)) (fun o15 => some o15)))))))))))))))

def sM_knownWord_L21 (w : Int64) (rc2 : (Int32 → Option Int32)) (v1 : Int32) : Option Int32 :=
  (if (15 : Int32) ≤ v1 then some (-1 : Int32) else callK (sM_letters v1) (fun o3 => (if (lg_cmp o3 w) = 0 then some v1 else rc2 (v1 + (1 : Int32)))))
def sM_knownWord (S : US) (w : Int64) : Option Int32 :=
  (if (S 0 18) = (1 : Int32) then (if (S 0 20) ≤ (7 : Int32) then loopK (fun rc (x : Int32) => sM_knownWord_L21 w rc x) FUEL (0 : Int32) else some (-1 : Int32)) else some (-1 : Int32))

def sM_part_J90 (w : Int64) (S2 : US) : Option (US × Int64) :=
  callK (sM_isGood S2) (fun o4 => (if (bI o4) = 0 then some (S2, w) else callK (sM_goes S2 w) (fun o5 => some (o5.1, o5.2))))
def sM_part (S : US) (w : Int64) : Option (US × Int64) :=
  callK (sM_isGood S) (fun o1 => (if (bI o1) = 0 then some (S, w) else joinB (fun (x3 : US) => sM_part_J90 w x3) (fun j3 => (if (S 0 18) = (2 : Int32) then (if (S 0 20) ≤ (4 : Int32) then callK (sM_puts S (1 : Int32)) (fun o16 => callK (sM_puts o16 (o16 0 21)) (fun o17 => j3 o17)) else callK (sM_wrong S (2 : Int32)) (fun o18 => callK (sM_puts o18 (1 : Int32)) (fun o19 => callK (sM_puts o19 (o19 0 21)) (fun o20 => j3 o20)))) else (if (S 0 18) = (1 : Int32) then callK (sM_knownWord S w) (fun o7 => (if o7 < 0 then callK (sM_wrong S (3 : Int32)) (fun o8 => callK (sM_puts o8 (2 : Int32)) (fun o9 => callK (sM_puts o9 o7) (fun o10 => j3 o10))) else (if o7 ≤ (5 : Int32) then callK (sM_puts S (2 : Int32)) (fun o11 => callK (sM_puts o11 o7) (fun o12 => j3 o12)) else callK (sM_wrong S (3 : Int32)) (fun o13 => callK (sM_puts o13 (2 : Int32)) (fun o14 => callK (sM_puts o14 o7) (fun o15 => j3 o15)))))) else callK (sM_wrong S (1 : Int32)) (fun o6 => j3 o6))))))

def sM_waitsFor (S : US) (p1 : Int32) : Option US :=
  if (S 0 31) < 0 ∨ 950 ≤ (S 0 31).toNatClampNeg then none else letB (u2 S 12 (S 0 31).toNatClampNeg p1) (fun S1 => letB (u2 S1 0 31 ((S1 0 31) + (1 : Int32))) (fun S2 => some S2))

def sM_operand_J96 (v3 : Int32) (rc5 : ((US × Int64 × Int32 × Int32) → Option (US × Int64))) (S9 : US) (w10 : Int64) (y13 : Int32) : Option (US × Int64) :=
  (if y13 = 0 then rc5 (S9, w10, v3, y13) else callK (sM_waitsFor S9 (14 : Int32)) (fun o15 => callK (sM_goes o15 w10) (fun o16 => callK (sM_deeper o16.1) (fun o17 => rc5 (o17, o16.2, (1 : Int32), y13)))))
def sM_operand_J50 (w20 : Int64) (v21 : Int32) (rc22 : ((US × Int64 × Int32) → Option (US × Int64))) (S25 : US) : Option (US × Int64) :=
  callK (sM_isGood S25) (fun o27 => (if (bI o27) = 0 then rc22 (S25, w20, (v21 + (1 : Int32))) else callK (sM_waitsFor S25 (3 : Int32)) (fun o28 => callK (sM_goes o28 w20) (fun o29 => rc22 (o29.1, o29.2, (v21 + (1 : Int32)))))))
def sM_operand_L18 (v3 : Int32) (j11 : ((US × Int64) → Option (US × Int64))) (rc22 : ((US × Int64 × Int32) → Option (US × Int64))) (S19 : US) (w20 : Int64) (v21 : Int32) : Option (US × Int64) :=
  callK (sM_isGood S19) (fun o23 => (if (bI o23) = 0 then j11 (S19, w20) else (if v3 = 0 then j11 (S19, w20) else callK (sM_knownWord S19 w20) (fun o24 => (if o24 = (14 : Int32) then joinB (fun (x26 : US) => sM_operand_J50 w20 v21 rc22 x26) (fun j26 => (if v21 = (6 : Int32) then callK (sM_wrong S19 (2 : Int32)) (fun o30 => j26 o30) else j26 S19)) else j11 (S19, w20))))))
def sM_operand_J75 (v3 : Int32) (rc5 : ((US × Int64 × Int32 × Int32) → Option (US × Int64))) (S9 : US) (w10 : Int64) : Option (US × Int64) :=
  callK (sM_isGood S9) (fun o12 => joinB (fun (x14 : Int32) => sM_operand_J96 v3 rc5 S9 w10 x14) (fun j14 => (if (bI o12) = 0 then j14 (0 : Int32) else callK (sM_isSign S9 (40 : Int32)) (fun o18 => (if (bI o18) = 0 then j14 (0 : Int32) else j14 (1 : Int32))))))
def sM_operand_L4 (rc5 : ((US × Int64 × Int32 × Int32) → Option (US × Int64))) (S1 : US) (w2 : Int64) (v3 : Int32) (v4 : Int32) : Option (US × Int64) :=
  (if v4 = 0 then callK (sM_part S1 w2) (fun o6 => some (o6.1, o6.2)) else callK (sM_isGood S1) (fun o7 => (if (bI o7) = 0 then callK (sM_part S1 w2) (fun o8 => some (o8.1, o8.2)) else joinB (fun (x11 : (US × Int64)) => sM_operand_J75 v3 rc5 x11.1 x11.2) (fun j11 => loopK (fun rc (x : (US × Int64 × Int32)) => sM_operand_L18 v3 j11 rc x.1 x.2.1 x.2.2) FUEL (S1, w2, (0 : Int32))))))
def sM_operand (S : US) (w : Int64) (p1 : Int32) : Option (US × Int64) :=
  loopK (fun rc (x : (US × Int64 × Int32 × Int32)) => sM_operand_L4 rc x.1 x.2.1 x.2.2.1 x.2.2.2) FUEL (S, w, p1, (1 : Int32))

def sM_expression_J84 (w18 : Int64) (v19 : Int32) (rc20 : ((US × Int64 × Int32) → Option (US × Int64))) (o26 : US) (y27 : Int32) : Option (US × Int64) :=
  callK (sM_waitsFor o26 y27) (fun o29 => if (o29 0 32) < 0 ∨ 9 ≤ (o29 0 32).toNatClampNeg then none else letB (u2 o29 13 (o29 0 32).toNatClampNeg (vp_nar .boolean (0 : Int32))) (fun S30 => callK (sM_goes S30 w18) (fun o31 => callK (sM_operand o31.1 o31.2 (1 : Int32)) (fun o32 => rc20 (o32.1, o32.2, v19)))))
def sM_expression_J69 (S17 : US) (w18 : Int64) (v19 : Int32) (rc20 : ((US × Int64 × Int32) → Option (US × Int64))) (o22 : Int32) (y24 : Int32) : Option (US × Int64) :=
  callK (sM_drops S17 y24) (fun o26 => joinB (fun (x28 : Int32) => sM_expression_J84 w18 v19 rc20 o26 x28) (fun j28 => (if o22 = (12 : Int32) then j28 (4 : Int32) else j28 (5 : Int32))))
def sM_expression_J259 (S17 : US) (w18 : Int64) (v19 : Int32) (rc20 : ((US × Int64 × Int32) → Option (US × Int64))) : Option (US × Int64) :=
  callK (sM_drops S17 (6 : Int32)) (fun o48 => callK (sM_isSign o48 (42 : Int32)) (fun o49 => (if (bI o49) = 0 then callK (sM_waitsFor o48 (11 : Int32)) (fun o50 => callK (sM_goes o50 w18) (fun o51 => callK (sM_operand o51.1 o51.2 (0 : Int32)) (fun o52 => rc20 (o52.1, o52.2, v19)))) else callK (sM_waitsFor o48 (10 : Int32)) (fun o53 => callK (sM_goes o53 w18) (fun o54 => callK (sM_operand o54.1 o54.2 (0 : Int32)) (fun o55 => rc20 (o55.1, o55.2, v19)))))))
def sM_expression_J204 (S17 : US) (w18 : Int64) (v19 : Int32) (rc20 : ((US × Int64 × Int32) → Option (US × Int64))) : Option (US × Int64) :=
  callK (sM_drops S17 (5 : Int32)) (fun o37 => callK (sM_isSign o37 (43 : Int32)) (fun o38 => (if (bI o38) = 0 then callK (sM_waitsFor o37 (9 : Int32)) (fun o39 => callK (sM_goes o39 w18) (fun o40 => callK (sM_operand o40.1 o40.2 (0 : Int32)) (fun o41 => rc20 (o41.1, o41.2, v19)))) else callK (sM_waitsFor o37 (8 : Int32)) (fun o42 => callK (sM_goes o42 w18) (fun o43 => callK (sM_operand o43.1 o43.2 (0 : Int32)) (fun o44 => rc20 (o44.1, o44.2, v19)))))))
def sM_expression_J161 (w18 : Int64) (v19 : Int32) (rc20 : ((US × Int64 × Int32) → Option (US × Int64))) (o61 : US) (y63 : Int32) : Option (US × Int64) :=
  callK (sM_waitsFor o61 y63) (fun o65 => if (o65 0 32) < 0 ∨ 9 ≤ (o65 0 32).toNatClampNeg then none else letB (u2 o65 13 (o65 0 32).toNatClampNeg (vp_nar .boolean (1 : Int32))) (fun S66 => callK (sM_goes S66 w18) (fun o67 => callK (sM_operand o67.1 o67.2 (0 : Int32)) (fun o68 => rc20 (o68.1, o68.2, v19)))))
def sM_expression_J127 (S17 : US) (w18 : Int64) (v19 : Int32) (rc20 : ((US × Int64 × Int32) → Option (US × Int64))) (j34 : (Unit → Option (US × Int64))) : Option (US × Int64) :=
  if (S17 0 32) < 0 ∨ 9 ≤ (S17 0 32).toNatClampNeg then none else ((if (S17 13 (S17 0 32).toNatClampNeg) = 0 then callK (sM_drops S17 (4 : Int32)) (fun o61 => callK (sM_isSign o61 (60 : Int32)) (fun o62 => joinB (fun (x64 : Int32) => sM_expression_J161 w18 v19 rc20 o61 x64) (fun j64 => (if (bI o62) = 0 then j64 (7 : Int32) else j64 (6 : Int32))))) else j34 ()))
def sM_expression_J186 (S17 : US) (w18 : Int64) (v19 : Int32) (rc20 : ((US × Int64 × Int32) → Option (US × Int64))) : Option (US × Int64) :=
  callK (sM_isSign S17 (43 : Int32)) (fun o35 => joinB (fun (x36 : Unit) => sM_expression_J204 S17 w18 v19 rc20) (fun j36 => (if (bI o35) = 0 then callK (sM_isSign S17 (45 : Int32)) (fun o45 => (if (bI o45) = 0 then callK (sM_isSign S17 (42 : Int32)) (fun o46 => joinB (fun (x47 : Unit) => sM_expression_J259 S17 w18 v19 rc20) (fun j47 => (if (bI o46) = 0 then callK (sM_isSign S17 (47 : Int32)) (fun o56 => (if (bI o56) = 0 then callK (sM_isSign S17 (41 : Int32)) (fun o57 => (if (bI o57) = 0 then rc20 (S17, w18, (0 : Int32)) else callK (sM_isOpened S17) (fun o58 => (if (bI o58) = 0 then rc20 (S17, w18, (0 : Int32)) else callK (sM_closes S17 w18) (fun o59 => rc20 (o59.1, o59.2, v19)))))) else j47 ())) else j47 ()))) else j36 ())) else j36 ())))
def sM_expression_J57 (S17 : US) (w18 : Int64) (v19 : Int32) (rc20 : ((US × Int64 × Int32) → Option (US × Int64))) (o22 : Int32) : Option (US × Int64) :=
  joinB (fun (x25 : Int32) => sM_expression_J69 S17 w18 v19 rc20 o22 x25) (fun j25 => (if o22 = (12 : Int32) then j25 (2 : Int32) else j25 (1 : Int32)))
def sM_expression_L29 (j8 : ((US × Int64) → Option (US × Int64))) (rc20 : ((US × Int64 × Int32) → Option (US × Int64))) (S17 : US) (w18 : Int64) (v19 : Int32) : Option (US × Int64) :=
  (if v19 = 0 then j8 (S17, w18) else callK (sM_isGood S17) (fun o21 => (if (bI o21) = 0 then j8 (S17, w18) else callK (sM_knownWord S17 w18) (fun o22 => joinB (fun (x23 : Unit) => sM_expression_J57 S17 w18 v19 rc20 o22) (fun j23 => (if o22 = (12 : Int32) then j23 () else (if o22 = (13 : Int32) then j23 () else callK (sM_isSign S17 (60 : Int32)) (fun o33 => joinB (fun (x34 : Unit) => sM_expression_J186 S17 w18 v19 rc20) (fun j34 => joinB (fun (x60 : Unit) => sM_expression_J127 S17 w18 v19 rc20 j34) (fun j60 => (if (bI o33) = 0 then callK (sM_isSign S17 (61 : Int32)) (fun o69 => (if (bI o69) = 0 then j34 () else j60 ())) else j60 ())))))))))))
def sM_expression_J325 (S6 : US) (w7 : Int64) : Option (US × Int64) :=
  callK (sM_isGood S6) (fun o9 => (if (bI o9) = 0 then callK (sM_drops S6 (0 : Int32)) (fun o10 => callK (sM_puts o10 (0 : Int32)) (fun o11 => some (o11, w7))) else (if (S6 0 32) ≤ (1 : Int32) then callK (sM_drops S6 (0 : Int32)) (fun o12 => callK (sM_puts o12 (0 : Int32)) (fun o13 => some (o13, w7))) else callK (sM_wrong S6 (1 : Int32)) (fun o14 => callK (sM_drops o14 (0 : Int32)) (fun o15 => callK (sM_puts o15 (0 : Int32)) (fun o16 => some (o16, w7)))))))
def sM_expression (S : US) (w : Int64) : Option (US × Int64) :=
  callK (sM_isGood S) (fun o1 => (if (bI o1) = 0 then some (S, w) else letB (u2 S 0 31 (0 : Int32)) (fun S2 => letB (u2 S2 0 32 (0 : Int32)) (fun S3 => callK (sM_deeper S3) (fun o4 => callK (sM_operand o4 w (1 : Int32)) (fun o5 => joinB (fun (x8 : (US × Int64)) => sM_expression_J325 x8.1 x8.2) (fun j8 => loopK (fun rc (x : (US × Int64 × Int32)) => sM_expression_L29 j8 rc x.1 x.2.1 x.2.2) FUEL (o5.1, o5.2, (1 : Int32)))))))))

def sM_need (S : US) (w : Int64) (p1 : Int32) : Option (US × Int64) :=
  callK (sM_isGood S) (fun o1 => (if (bI o1) = 0 then some (S, w) else (if p1 = 0 then callK (sM_wrong S (1 : Int32)) (fun o2 => some (o2, w)) else callK (sM_goes S w) (fun o3 => some (o3.1, o3.2)))))

def sM_number_J54 (w : Int64) (S2 : US) : Option (Int32 × US × Int64) :=
  callK (sM_isGood S2) (fun o4 => (if (bI o4) = 0 then some ((S2 0 21), S2, w) else callK (sM_goes S2 w) (fun o5 => some ((S2 0 21), o5.1, o5.2))))
def sM_number (S : US) (w : Int64) (p1 : Int32) (p2 : Int32) : Option (Int32 × US × Int64) :=
  callK (sM_isGood S) (fun o1 => (if (bI o1) = 0 then some ((0 : Int32), S, w) else joinB (fun (x3 : US) => sM_number_J54 w x3) (fun j3 => (if (S 0 18) = (2 : Int32) then (if (4 : Int32) < (S 0 20) then callK (sM_wrong S (2 : Int32)) (fun o6 => j3 o6) else (if (S 0 21) < p1 then callK (sM_wrong S (2 : Int32)) (fun o7 => j3 o7) else (if (S 0 21) ≤ p2 then j3 S else callK (sM_wrong S (2 : Int32)) (fun o8 => j3 o8)))) else callK (sM_wrong S (1 : Int32)) (fun o9 => j3 o9)))))

def sM_isKnot_L2 (S : US) (rc2 : (Int32 → Option Bool)) (v1 : Int32) : Option Bool :=
  (if (S 0 26) ≤ v1 then some false else if v1 < 0 ∨ 8 ≤ v1.toNatClampNeg then none else ((if (S 8 v1.toNatClampNeg) = (S 0 21) then if v1 < 0 ∨ 8 ≤ v1.toNatClampNeg then none else ((if (S 9 v1.toNatClampNeg) = (S 0 20) then some true else rc2 (v1 + (1 : Int32)))) else rc2 (v1 + (1 : Int32)))))
def sM_isKnot (S : US) : Option Bool :=
  loopK (fun rc (x : Int32) => sM_isKnot_L2 S rc x) FUEL (0 : Int32)

def sM_readsKnots_J66 (w2 : Int64) (rc4 : ((US × Int64 × Int32) → Option (US × Int64))) (S6 : US) : Option (US × Int64) :=
  callK (sM_isGood S6) (fun o8 => (if (bI o8) = 0 then some (S6, w2) else if (S6 0 26) < 0 ∨ 8 ≤ (S6 0 26).toNatClampNeg then none else letB (u2 S6 8 (S6 0 26).toNatClampNeg (S6 0 21)) (fun S9 => if (S9 0 26) < 0 ∨ 8 ≤ (S9 0 26).toNatClampNeg then none else letB (u2 S9 9 (S9 0 26).toNatClampNeg (S9 0 20)) (fun S10 => letB (u2 S10 0 26 ((S10 0 26) + (1 : Int32))) (fun S11 => callK (sM_goes S11 w2) (fun o12 => (if (o12.1 0 18) = (2 : Int32) then rc4 (o12.1, o12.2, (1 : Int32)) else rc4 (o12.1, o12.2, (0 : Int32)))))))))
def sM_readsKnots_L2 (rc4 : ((US × Int64 × Int32) → Option (US × Int64))) (S1 : US) (w2 : Int64) (v3 : Int32) : Option (US × Int64) :=
  (if v3 = 0 then some (S1, w2) else callK (sM_isGood S1) (fun o5 => (if (bI o5) = 0 then some (S1, w2) else joinB (fun (x7 : US) => sM_readsKnots_J66 w2 rc4 x7) (fun j7 => (if (S1 0 18) = (2 : Int32) then (if (S1 0 26) = (8 : Int32) then callK (sM_wrong S1 (2 : Int32)) (fun o13 => j7 o13) else (if (S1 0 20) ≤ (4 : Int32) then callK (sM_isKnot S1) (fun o14 => (if (bI o14) = 0 then j7 S1 else callK (sM_wrong S1 (4 : Int32)) (fun o15 => j7 o15))) else callK (sM_wrong S1 (2 : Int32)) (fun o16 => j7 o16))) else callK (sM_wrong S1 (1 : Int32)) (fun o17 => j7 o17))))))
def sM_readsKnots (S : US) (w : Int64) : Option (US × Int64) :=
  loopK (fun rc (x : (US × Int64 × Int32)) => sM_readsKnots_L2 rc x.1 x.2.1 x.2.2) FUEL (S, w, (1 : Int32))

def sM_readsStretch (S : US) (w : Int64) : Option (US × Int64) :=
  callK (sM_number S w (0 : Int32) (99 : Int32)) (fun o1 => if ((1 : Int32) + (S 0 24)) < 0 ∨ 49 ≤ ((1 : Int32) + (S 0 24)).toNatClampNeg then none else letB (u2 o1.2.1 10 ((1 : Int32) + (S 0 24)).toNatClampNeg o1.1) (fun S2 => callK (sM_number S2 o1.2.2 (0 : Int32) (99 : Int32)) (fun o3 => if ((13 : Int32) + (S 0 24)) < 0 ∨ 49 ≤ ((13 : Int32) + (S 0 24)).toNatClampNeg then none else letB (u2 o3.2.1 10 ((13 : Int32) + (S 0 24)).toNatClampNeg o3.1) (fun S4 => callK (sM_number S4 o3.2.2 (0 : Int32) (2 : Int32)) (fun o5 => if ((25 : Int32) + (S 0 24)) < 0 ∨ 49 ≤ ((25 : Int32) + (S 0 24)).toNatClampNeg then none else letB (u2 o5.2.1 10 ((25 : Int32) + (S 0 24)).toNatClampNeg o5.1) (fun S6 => callK (sM_isGood S6) (fun o7 => (if (bI o7) = 0 then some (S6, o5.2.2) else letB (u2 S6 0 24 ((S6 0 24) + (1 : Int32))) (fun S8 => some (S8, o5.2.2))))))))))

def sM_readsWoman_J74 (S : US) (o1 : (Int32 × US × Int64)) (S4 : US) : Option (US × Int64) :=
  callK (sM_isGood S4) (fun o6 => (if (bI o6) = 0 then some (S4, o1.2.2) else if ((37 : Int32) + (S 0 25)) < 0 ∨ 49 ≤ ((37 : Int32) + (S 0 25)).toNatClampNeg then none else letB (u2 S4 10 ((37 : Int32) + (S 0 25)).toNatClampNeg (S4 0 21)) (fun S7 => callK (sM_goes S7 o1.2.2) (fun o8 => callK (sM_number o8.1 o8.2 (0 : Int32) (99 : Int32)) (fun o9 => if ((43 : Int32) + (S 0 25)) < 0 ∨ 49 ≤ ((43 : Int32) + (S 0 25)).toNatClampNeg then none else letB (u2 o9.2.1 10 ((43 : Int32) + (S 0 25)).toNatClampNeg o9.1) (fun S10 => callK (sM_isGood S10) (fun o11 => (if (bI o11) = 0 then some (S10, o9.2.2) else letB (u2 S10 0 25 ((S10 0 25) + (1 : Int32))) (fun S12 => some (S12, o9.2.2))))))))))
def sM_readsWoman (S : US) (w : Int64) : Option (US × Int64) :=
  callK (sM_number S w (0 : Int32) (9 : Int32)) (fun o1 => if (S 0 25) < 0 ∨ 6 ≤ (S 0 25).toNatClampNeg then none else letB (u2 o1.2.1 7 (S 0 25).toNatClampNeg o1.1) (fun S2 => callK (sM_isGood S2) (fun o3 => (if (bI o3) = 0 then some (S2, o1.2.2) else joinB (fun (x5 : US) => sM_readsWoman_J74 S o1 x5) (fun j5 => (if (S2 0 18) = (2 : Int32) then (if (S2 0 20) ≤ (4 : Int32) then (if (S2 0 21) < (S2 0 24) then j5 S2 else callK (sM_wrong S2 (3 : Int32)) (fun o13 => j5 o13)) else callK (sM_wrong S2 (2 : Int32)) (fun o14 => j5 o14)) else callK (sM_wrong S2 (1 : Int32)) (fun o15 => j5 o15)))))))

def sM_line_J212 (S : US) (w : Int64) (y5 : Int32) : Option (US × Int64) :=
  callK (sM_begins S w (0 : Int32) y5) (fun o7 => (if (bI o7.1) = 0 then callK (sM_isSign o7.2.1 (59 : Int32)) (fun o8 => callK (sM_need o7.2.1 o7.2.2 (bI o8)) (fun o9 => some (o9.1, o9.2))) else letB (u2 o7.2.1 0 29 (o7.2.1 0 30)) (fun S10 => callK (sM_expression S10 o7.2.2) (fun o11 => callK (sM_isSign o11.1 (59 : Int32)) (fun o12 => callK (sM_need o11.1 o11.2 (bI o12)) (fun o13 => some (o13.1, o13.2)))))))
def sM_line_J170 (S : US) (w : Int64) (y14 : Int32) : Option (US × Int64) :=
  callK (sM_begins S w (0 : Int32) y14) (fun o16 => (if (bI o16.1) = 0 then callK (sM_isSign o16.2.1 (59 : Int32)) (fun o17 => callK (sM_need o16.2.1 o16.2.2 (bI o17)) (fun o18 => some (o18.1, o18.2))) else letB (u2 o16.2.1 0 28 (o16.2.1 0 30)) (fun S19 => callK (sM_expression S19 o16.2.2) (fun o20 => callK (sM_isSign o20.1 (59 : Int32)) (fun o21 => callK (sM_need o20.1 o20.2 (bI o21)) (fun o22 => some (o22.1, o22.2)))))))
def sM_line_J129 (S : US) (w : Int64) (y23 : Int32) : Option (US × Int64) :=
  callK (sM_begins S w (0 : Int32) y23) (fun o25 => (if (bI o25.1) = 0 then callK (sM_isSign o25.2.1 (59 : Int32)) (fun o26 => callK (sM_need o25.2.1 o25.2.2 (bI o26)) (fun o27 => some (o27.1, o27.2))) else callK (sM_number o25.2.1 o25.2.2 (1 : Int32) (9 : Int32)) (fun o28 => letB (u2 o28.2.1 0 27 o28.1) (fun S29 => callK (sM_isSign S29 (59 : Int32)) (fun o30 => callK (sM_need S29 o28.2.2 (bI o30)) (fun o31 => some (o31.1, o31.2)))))))
def sM_line_J95 (S : US) (w : Int64) (y32 : Int32) : Option (US × Int64) :=
  callK (sM_begins S w (0 : Int32) y32) (fun o34 => (if (bI o34.1) = 0 then callK (sM_isSign o34.2.1 (59 : Int32)) (fun o35 => callK (sM_need o34.2.1 o34.2.2 (bI o35)) (fun o36 => some (o36.1, o36.2))) else callK (sM_readsKnots o34.2.1 o34.2.2) (fun o37 => callK (sM_isSign o37.1 (59 : Int32)) (fun o38 => callK (sM_need o37.1 o37.2 (bI o38)) (fun o39 => some (o39.1, o39.2))))))
def sM_line_J61 (S : US) (w : Int64) (y40 : Int32) : Option (US × Int64) :=
  callK (sM_begins S w y40 (0 : Int32)) (fun o42 => (if (bI o42.1) = 0 then callK (sM_isSign o42.2.1 (59 : Int32)) (fun o43 => callK (sM_need o42.2.1 o42.2.2 (bI o43)) (fun o44 => some (o44.1, o44.2))) else callK (sM_readsWoman o42.2.1 o42.2.2) (fun o45 => callK (sM_isSign o45.1 (59 : Int32)) (fun o46 => callK (sM_need o45.1 o45.2 (bI o46)) (fun o47 => some (o47.1, o47.2))))))
def sM_line_J26 (S : US) (w : Int64) (y48 : Int32) : Option (US × Int64) :=
  callK (sM_begins S w y48 (0 : Int32)) (fun o50 => (if (bI o50.1) = 0 then callK (sM_isSign o50.2.1 (59 : Int32)) (fun o51 => callK (sM_need o50.2.1 o50.2.2 (bI o51)) (fun o52 => some (o52.1, o52.2))) else callK (sM_readsStretch o50.2.1 o50.2.2) (fun o53 => callK (sM_isSign o53.1 (59 : Int32)) (fun o54 => callK (sM_need o53.1 o53.2 (bI o54)) (fun o55 => some (o55.1, o55.2))))))
def sM_line (S : US) (w : Int64) : Option (US × Int64) :=
  callK (sM_knownWord S w) (fun o1 => (if o1 = (6 : Int32) then joinB (fun (x49 : Int32) => sM_line_J26 S w x49) (fun j49 => (if (S 0 24) = (12 : Int32) then j49 (1 : Int32) else j49 (0 : Int32))) else (if o1 = (7 : Int32) then joinB (fun (x41 : Int32) => sM_line_J61 S w x41) (fun j41 => (if (S 0 25) = (6 : Int32) then j41 (1 : Int32) else j41 (0 : Int32))) else (if o1 = (8 : Int32) then joinB (fun (x33 : Int32) => sM_line_J95 S w x33) (fun j33 => (if (S 0 26) ≤ 0 then j33 (0 : Int32) else j33 (1 : Int32))) else (if o1 = (9 : Int32) then joinB (fun (x24 : Int32) => sM_line_J129 S w x24) (fun j24 => (if (S 0 27) = (-1 : Int32) then j24 (0 : Int32) else j24 (1 : Int32))) else (if o1 = (10 : Int32) then joinB (fun (x15 : Int32) => sM_line_J170 S w x15) (fun j15 => (if (S 0 28) = (-1 : Int32) then j15 (0 : Int32) else j15 (1 : Int32))) else (if o1 = (11 : Int32) then joinB (fun (x6 : Int32) => sM_line_J212 S w x6) (fun j6 => (if (S 0 29) = (-1 : Int32) then j6 (0 : Int32) else j6 (1 : Int32))) else callK (sM_wrong S (1 : Int32)) (fun o2 => callK (sM_isSign o2 (59 : Int32)) (fun o3 => callK (sM_need o2 w (bI o3)) (fun o4 => some (o4.1, o4.2)))))))))))

def sM_right_J16 (S1 : US) : Option (Bool × US) :=
  (if (S1 0 0) = 0 then some (true, S1) else some (false, S1))
def sM_right (S : US) (p1 : Int32) (p2 : Int32) : Option (Bool × US) :=
  joinB (fun (x2 : US) => sM_right_J16 x2) (fun j2 => (if (S 0 0) = 0 then (if p1 = 0 then letB (u2 S 0 0 p2) (fun S3 => j2 S3) else j2 S) else j2 S))

def sM_ring_L312 (w22 : Int64) (rc44 : ((US × Int32) → Option (Int32 × US × Int64))) (S42 : US) (v43 : Int32) : Option (Int32 × US × Int64) :=
  (if (3 : Int32) ≤ v43 then letB (u2 S42 0 42 (0 : Int32)) (fun S45 => letB (u2 S45 0 51 (0 : Int32)) (fun S46 => letB (u2 S46 0 57 (0 : Int32)) (fun S47 => some ((0 : Int32), S47, w22)))) else if ((13 : Int32) + v43) < 0 ∨ 98 ≤ ((13 : Int32) + v43).toNatClampNeg then none else letB (u2 S42 14 ((13 : Int32) + v43).toNatClampNeg (50 : Int32)) (fun S48 => rc44 (S48, (v43 + (1 : Int32)))))
def sM_ring_L283 (w22 : Int64) (rc41 : ((US × Int32) → Option (Int32 × US × Int64))) (S39 : US) (v40 : Int32) : Option (Int32 × US × Int64) :=
  (if (49 : Int32) ≤ v40 then loopK (fun rc (x : (US × Int32)) => sM_ring_L312 w22 rc x.1 x.2) FUEL (S39, (S39 0 24)) else if v40 < 0 ∨ 49 ≤ v40.toNatClampNeg then none else (if v40 < 0 ∨ 98 ≤ v40.toNatClampNeg then none else letB (u2 S39 14 v40.toNatClampNeg (S39 10 v40.toNatClampNeg)) (fun S49 => rc41 (S49, (v40 + (1 : Int32))))))
def sM_ring_J214 (w22 : Int64) (S29 : US) (y30 : Int32) : Option (Int32 × US × Int64) :=
  letB (u2 S29 0 4 y30) (fun S32 => letB (u2 S32 0 5 (S32 0 28)) (fun S33 => letB (u2 S33 0 6 (S33 0 29)) (fun S34 => callK (sM_copies S34 7 6 1 6) (fun o35 => callK (sM_copies o35 8 8 2 8) (fun o36 => callK (sM_copies o36 9 8 3 8) (fun o37 => callK (sM_copies o37 11 1400 4 1400) (fun o38 => loopK (fun rc (x : (US × Int32)) => sM_ring_L283 w22 rc x.1 x.2) FUEL (o38, (0 : Int32)))))))))
def sM_ring_J177 (S21 : US) (w22 : Int64) (y25 : Int32) : Option (Int32 × US × Int64) :=
  letB (u2 S21 0 1 y25) (fun S27 => letB (u2 S27 0 2 (S27 0 25)) (fun S28 => letB (u2 S28 0 3 (S28 0 26)) (fun S29 => joinB (fun (x31 : Int32) => sM_ring_J214 w22 S29 x31) (fun j31 => (if (S29 0 27) = (-1 : Int32) then j31 (7 : Int32) else j31 (S29 0 27))))))
def sM_ring_L117 (j23 : ((US × Int64) → Option (Int32 × US × Int64))) (rc53 : ((US × Int64) → Option (Int32 × US × Int64))) (S51 : US) (w52 : Int64) : Option (Int32 × US × Int64) :=
  callK (sM_isGood S51) (fun o54 => (if (bI o54) = 0 then j23 (S51, w52) else (if (S51 0 18) = 0 then j23 (S51, w52) else callK (sM_line S51 w52) (fun o55 => rc53 (o55.1, o55.2)))))
def sM_ring_J138 (S21 : US) (w22 : Int64) : Option (Int32 × US × Int64) :=
  callK (sM_isGood S21) (fun o24 => (if (bI o24) = 0 then if (0 : Int32) < 0 ∨ 3 ≤ (0 : Int32).toNatClampNeg then none else (if (0 : Int32) < 0 ∨ 3 ≤ (0 : Int32).toNatClampNeg then none else letB (u2 S21 6 (0 : Int32).toNatClampNeg ((S21 6 (0 : Int32).toNatClampNeg) + (1 : Int32))) (fun S50 => some ((S50 0 13), S50, w22))) else joinB (fun (x26 : Int32) => sM_ring_J177 S21 w22 x26) (fun j26 => (if (3 : Int32) ≤ (S21 0 24) then j26 (S21 0 24) else j26 (3 : Int32)))))
def sM_ring_L89 (w : Int64) (rc18 : ((US × Int32) → Option (Int32 × US × Int64))) (S16 : US) (v17 : Int32) : Option (Int32 × US × Int64) :=
  (if (49 : Int32) ≤ v17 then letB (u2 S16 0 30 (0 : Int32)) (fun S19 => callK (sM_goes S19 w) (fun o20 => joinB (fun (x23 : (US × Int64)) => sM_ring_J138 x23.1 x23.2) (fun j23 => loopK (fun rc (x : (US × Int64)) => sM_ring_L117 j23 rc x.1 x.2) FUEL (o20.1, o20.2)))) else if v17 < 0 ∨ 49 ≤ v17.toNatClampNeg then none else letB (u2 S16 10 v17.toNatClampNeg (0 : Int32)) (fun S56 => rc18 (S56, (v17 + (1 : Int32)))))
def sM_ring_J23 (p1 : Int32) (w : Int64) (S1 : US) (y2 : Int32) : Option (Int32 × US × Int64) :=
  callK (sM_right S1 y2 (1 : Int32)) (fun o4 => (if (bI o4.1) = 0 then some ((0 : Int32), o4.2, w) else letB (u2 o4.2 0 12 (0 : Int32)) (fun S5 => letB (u2 S5 0 14 (-1 : Int32)) (fun S6 => letB (u2 S6 0 13 (0 : Int32)) (fun S7 => letB (u2 S7 0 16 p1) (fun S8 => letB (u2 S8 0 17 (0 : Int32)) (fun S9 => letB (u2 S9 0 24 (0 : Int32)) (fun S10 => letB (u2 S10 0 25 (0 : Int32)) (fun S11 => letB (u2 S11 0 26 (0 : Int32)) (fun S12 => letB (u2 S12 0 27 (-1 : Int32)) (fun S13 => letB (u2 S13 0 28 (-1 : Int32)) (fun S14 => letB (u2 S14 0 29 (-1 : Int32)) (fun S15 => loopK (fun rc (x : (US × Int32)) => sM_ring_L89 w rc x.1 x.2) FUEL (S15, (0 : Int32)))))))))))))))
def sM_ring (S : US) (w : Int64) (p1 : Int32) : Option (Int32 × US × Int64) :=
  letB (u2 S 0 0 (0 : Int32)) (fun S1 => joinB (fun (x3 : Int32) => sM_ring_J23 p1 w S1 x3) (fun j3 => (if p1 < 0 then j3 (0 : Int32) else (if (S1 0 12) < p1 then j3 (0 : Int32) else j3 (1 : Int32)))))

def sM_fault (S : US) : Option (Int32 × US) :=
  letB (u2 S 0 0 (0 : Int32)) (fun S1 => some ((S1 0 14), S1))

def sM_undo_L26 (rc5 : ((US × Int32) → Option (Int32 × US))) (S3 : US) (v4 : Int32) : Option (Int32 × US) :=
  (if (49 : Int32) ≤ v4 then some ((S3 0 42), S3) else if (((49 : Int32) * (S3 0 42)) + v4) < 0 ∨ 1960 ≤ (((49 : Int32) * (S3 0 42)) + v4).toNatClampNeg then none else (if v4 < 0 ∨ 98 ≤ v4.toNatClampNeg then none else letB (u2 S3 14 v4.toNatClampNeg (S3 15 (((49 : Int32) * (S3 0 42)) + v4).toNatClampNeg)) (fun S6 => rc5 (S6, (v4 + (1 : Int32))))))
def sM_undo (S : US) : Option (Int32 × US) :=
  letB (u2 S 0 0 (0 : Int32)) (fun S1 => (if (S1 0 42) = 0 then some ((-1 : Int32), S1) else letB (u2 S1 0 42 ((S1 0 42) - (1 : Int32))) (fun S2 => loopK (fun rc (x : (US × Int32)) => sM_undo_L26 rc x.1 x.2) FUEL (S2, (0 : Int32)))))

def sM_womenAt_L5 (p1 : Int32) (p2 : Int32) (S : US) (rc3 : ((Int32 × Int32) → Option Int32)) (v1 : Int32) (v2 : Int32) : Option Int32 :=
  (if (S 0 2) ≤ v2 then some v1 else if ((p1 + (37 : Int32)) + v2) < 0 ∨ 98 ≤ ((p1 + (37 : Int32)) + v2).toNatClampNeg then none else ((if (S 14 ((p1 + (37 : Int32)) + v2).toNatClampNeg) = p2 then rc3 ((v1 ||| ((1 : Int32) <<< (v2 &&& 31))), (v2 + (1 : Int32))) else rc3 ((v1 ||| (0 : Int32)), (v2 + (1 : Int32))))))
def sM_womenAt (S : US) (p1 : Int32) (p2 : Int32) : Option Int32 :=
  loopK (fun rc (x : (Int32 × Int32)) => sM_womenAt_L5 p1 p2 S rc x.1 x.2) FUEL ((0 : Int32), (0 : Int32))

def sM_idle_L4 (S : US) (rc3 : ((Int32 × Int32) → Option Int32)) (v1 : Int32) (v2 : Int32) : Option Int32 :=
  (if (S 0 2) ≤ v2 then some v1 else if ((43 : Int32) + v2) < 0 ∨ 98 ≤ ((43 : Int32) + v2).toNatClampNeg then none else ((if (S 14 ((43 : Int32) + v2).toNatClampNeg) = 0 then rc3 ((v1 ||| ((1 : Int32) <<< (v2 &&& 31))), (v2 + (1 : Int32))) else if ((37 : Int32) + v2) < 0 ∨ 98 ≤ ((37 : Int32) + v2).toNatClampNeg then none else (callK (sM_womenAt S (0 : Int32) (S 14 ((37 : Int32) + v2).toNatClampNeg)) (fun o4 => (if (o4 &&& (((1 : Int32) <<< (v2 &&& 31)) - (1 : Int32))) = 0 then rc3 ((v1 ||| (0 : Int32)), (v2 + (1 : Int32))) else rc3 ((v1 ||| ((1 : Int32) <<< (v2 &&& 31))), (v2 + (1 : Int32)))))))))
def sM_idle (S : US) : Option Int32 :=
  loopK (fun rc (x : (Int32 × Int32)) => sM_idle_L4 S rc x.1 x.2) FUEL ((0 : Int32), (0 : Int32))

def sM_isGap (S : US) (p1 : Int32) (p2 : Int32) : Option Bool :=
  if ((p1 + (13 : Int32)) + p2) < 0 ∨ 98 ≤ ((p1 + (13 : Int32)) + p2).toNatClampNeg then none else ((if (S 14 ((p1 + (13 : Int32)) + p2).toNatClampNeg) = 0 then some true else some false))

def sM_openOnes_L4 (p1 : Int32) (S : US) (rc3 : ((Int32 × Int32) → Option Int32)) (v1 : Int32) (v2 : Int32) : Option Int32 :=
  (if (S 0 1) ≤ v2 then some v1 else callK (sM_isGap S p1 v2) (fun o4 => (if (bI o4) = 0 then rc3 ((v1 ||| (0 : Int32)), (v2 + (1 : Int32))) else rc3 ((v1 ||| ((1 : Int32) <<< (v2 &&& 31))), (v2 + (1 : Int32))))))
def sM_openOnes (S : US) (p1 : Int32) : Option Int32 :=
  loopK (fun rc (x : (Int32 × Int32)) => sM_openOnes_L4 p1 S rc x.1 x.2) FUEL ((0 : Int32), (0 : Int32))

def sM_sumOf_L6 (p1 : Int32) (p2 : Int32) (p3 : Int32) (S : US) (rc3 : ((Int32 × Int32) → Option Int32)) (v1 : Int32) (v2 : Int32) : Option Int32 :=
  (if p3 ≤ v2 then some v1 else if ((p1 + p2) + v2) < 0 ∨ 98 ≤ ((p1 + p2) + v2).toNatClampNeg then none else (rc3 ((v1 + (S 14 ((p1 + p2) + v2).toNatClampNeg)), (v2 + (1 : Int32)))))
def sM_sumOf (S : US) (p1 : Int32) (p2 : Int32) (p3 : Int32) : Option Int32 :=
  loopK (fun rc (x : (Int32 × Int32)) => sM_sumOf_L6 p1 p2 p3 S rc x.1 x.2) FUEL ((0 : Int32), (0 : Int32))

def sM_within (p1 : Int32) (p2 : Int32) (p3 : Int32) : Option Bool :=
  (if p1 < p2 then some false else (if p3 < p1 then some false else some true))

def sM_count (S : US) (p1 : Int32) : Option (Int32 × US) :=
  letB (u2 S 0 0 (0 : Int32)) (fun S1 => callK (sM_within p1 (0 : Int32) (14 : Int32)) (fun o2 => callK (sM_right S1 (bI o2) (1 : Int32)) (fun o3 => (if (bI o3.1) = 0 then some ((0 : Int32), o3.2) else (if p1 = (0 : Int32) then some ((o3.2 0 1), o3.2) else (if p1 = (1 : Int32) then some ((o3.2 0 2), o3.2) else (if p1 = (2 : Int32) then some ((o3.2 0 3), o3.2) else (if p1 = (3 : Int32) then some ((o3.2 0 4), o3.2) else (if p1 = (4 : Int32) then if (0 : Int32) < 0 ∨ 98 ≤ (0 : Int32).toNatClampNeg then none else (some ((o3.2 14 (0 : Int32).toNatClampNeg), o3.2)) else (if p1 = (5 : Int32) then callK (sM_openOnes o3.2 (0 : Int32)) (fun o4 => some (o4, o3.2)) else (if p1 = (6 : Int32) then callK (sM_sumOf o3.2 (0 : Int32) (13 : Int32) (o3.2 0 1)) (fun o5 => some (o5, o3.2)) else (if p1 = (7 : Int32) then callK (sM_sumOf o3.2 (0 : Int32) (43 : Int32) (o3.2 0 2)) (fun o6 => some (o6, o3.2)) else (if p1 = (8 : Int32) then callK (sM_idle o3.2) (fun o7 => some (o7, o3.2)) else (if p1 = (9 : Int32) then some ((o3.2 0 42), o3.2) else (if p1 = (10 : Int32) then some ((o3.2 0 51), o3.2) else (if p1 = (11 : Int32) then some ((o3.2 0 12), o3.2) else if (p1 - (12 : Int32)) < 0 ∨ 3 ≤ (p1 - (12 : Int32)).toNatClampNeg then none else (some ((o3.2 6 (p1 - (12 : Int32)).toNatClampNeg), o3.2))))))))))))))))))

def sM_ahead1 (S : US) (p1 : Int32) : Option Int32 :=
  (if p1 = 0 then some ((S 0 1) - (1 : Int32)) else some (p1 - (1 : Int32)))

def sM_behind1 (S : US) (p1 : Int32) : Option Int32 :=
  (if p1 = ((S 0 1) - (1 : Int32)) then some (0 : Int32) else some (p1 + (1 : Int32)))

def sM_besideOf (S : US) (p1 : Int32) (p2 : Int32) : Option Int32 :=
  callK (sM_ahead1 S p2) (fun o1 => if ((p1 + (1 : Int32)) + o1) < 0 ∨ 98 ≤ ((p1 + (1 : Int32)) + o1).toNatClampNeg then none else (callK (sM_behind1 S p2) (fun o2 => if ((p1 + (1 : Int32)) + o2) < 0 ∨ 98 ≤ ((p1 + (1 : Int32)) + o2).toNatClampNeg then none else (some ((S 14 ((p1 + (1 : Int32)) + o1).toNatClampNeg) + (S 14 ((p1 + (1 : Int32)) + o2).toNatClampNeg))))))

def sM_bits_L4 (p1 : Int32) (rc3 : ((Int32 × Int32) → Option Int32)) (v1 : Int32) (v2 : Int32) : Option Int32 :=
  (if (12 : Int32) ≤ v2 then some v1 else rc3 ((v1 + ((p1 >>> (v2 &&& 31)) &&& (1 : Int32))), (v2 + (1 : Int32))))
def sM_bits (p1 : Int32) : Option Int32 :=
  loopK (fun rc (x : (Int32 × Int32)) => sM_bits_L4 p1 rc x.1 x.2) FUEL ((0 : Int32), (0 : Int32))

def sM_works (p1 : Int32) (p2 : Int32) (p3 : Int32) : Option Int32 :=
  (if p1 = (4 : Int32) then (if p2 = 0 then some (0 : Int32) else (if p3 = 0 then some (0 : Int32) else some (1 : Int32))) else (if p1 = (5 : Int32) then (if p2 = 0 then (if p3 = 0 then some (0 : Int32) else some (1 : Int32)) else some (1 : Int32)) else (if p1 = (6 : Int32) then (if p3 ≤ p2 then some (0 : Int32) else some (1 : Int32)) else (if p1 = (7 : Int32) then (if p2 = p3 then some (1 : Int32) else some (0 : Int32)) else (if p1 = (8 : Int32) then some (p2 + p3) else (if p1 = (9 : Int32) then some (p2 - p3) else (if p1 = (10 : Int32) then some (p2 * p3) else (if p3 = 0 then some (0 : Int32) else if p3 = 0 then none else (some (p2 / p3))))))))))

def sM_reckons_J36 (S1 : US) (v2 : Int32) (v3 : Int32) (rc4 : ((US × Int32 × Int32) → Option (Int32 × US))) : Option (Int32 × US) :=
  (if (S1 4 v3.toNatClampNeg) = (1 : Int32) then if (v3 + (1 : Int32)) < 0 ∨ 1400 ≤ (v3 + (1 : Int32)).toNatClampNeg then none else (if v2 < 0 ∨ 950 ≤ v2.toNatClampNeg then none else letB (u2 S1 17 v2.toNatClampNeg (S1 4 (v3 + (1 : Int32)).toNatClampNeg)) (fun S7 => rc4 (S7, (v2 + (1 : Int32)), ((v3 + (1 : Int32)) + (1 : Int32))))) else if (v3 + (1 : Int32)) < 0 ∨ 1400 ≤ (v3 + (1 : Int32)).toNatClampNeg then none else (if (S1 4 (v3 + (1 : Int32)).toNatClampNeg) < 0 ∨ 6 ≤ (S1 4 (v3 + (1 : Int32)).toNatClampNeg).toNatClampNeg then none else (if v2 < 0 ∨ 950 ≤ v2.toNatClampNeg then none else letB (u2 S1 17 v2.toNatClampNeg (S1 16 (S1 4 (v3 + (1 : Int32)).toNatClampNeg).toNatClampNeg)) (fun S6 => rc4 (S6, (v2 + (1 : Int32)), ((v3 + (1 : Int32)) + (1 : Int32)))))))
def sM_reckons_L4 (rc4 : ((US × Int32 × Int32) → Option (Int32 × US))) (S1 : US) (v2 : Int32) (v3 : Int32) : Option (Int32 × US) :=
  if v3 < 0 ∨ 1400 ≤ v3.toNatClampNeg then none else ((if (S1 4 v3.toNatClampNeg) = 0 then if (0 : Int32) < 0 ∨ 950 ≤ (0 : Int32).toNatClampNeg then none else (some ((S1 17 (0 : Int32).toNatClampNeg), S1)) else if v3 < 0 ∨ 1400 ≤ v3.toNatClampNeg then none else (joinB (fun (x5 : Unit) => sM_reckons_J36 S1 v2 v3 rc4) (fun j5 => (if (S1 4 v3.toNatClampNeg) = (1 : Int32) then j5 () else (if (S1 4 v3.toNatClampNeg) = (2 : Int32) then j5 () else (if (S1 4 v3.toNatClampNeg) = (3 : Int32) then if (v2 - (1 : Int32)) < 0 ∨ 950 ≤ (v2 - (1 : Int32)).toNatClampNeg then none else ((if (S1 17 (v2 - (1 : Int32)).toNatClampNeg) = 0 then if (v2 - (1 : Int32)) < 0 ∨ 950 ≤ (v2 - (1 : Int32)).toNatClampNeg then none else letB (u2 S1 17 (v2 - (1 : Int32)).toNatClampNeg (1 : Int32)) (fun S11 => rc4 (S11, v2, (v3 + (1 : Int32)))) else if (v2 - (1 : Int32)) < 0 ∨ 950 ≤ (v2 - (1 : Int32)).toNatClampNeg then none else letB (u2 S1 17 (v2 - (1 : Int32)).toNatClampNeg (0 : Int32)) (fun S10 => rc4 (S10, v2, (v3 + (1 : Int32)))))) else if ((v2 + (-1 : Int32)) - (1 : Int32)) < 0 ∨ 950 ≤ ((v2 + (-1 : Int32)) - (1 : Int32)).toNatClampNeg then none else (if (v2 + (-1 : Int32)) < 0 ∨ 950 ≤ (v2 + (-1 : Int32)).toNatClampNeg then none else (callK (sM_works (S1 4 v3.toNatClampNeg) (S1 17 ((v2 + (-1 : Int32)) - (1 : Int32)).toNatClampNeg) (S1 17 (v2 + (-1 : Int32)).toNatClampNeg)) (fun o8 => if ((v2 + (-1 : Int32)) - (1 : Int32)) < 0 ∨ 950 ≤ ((v2 + (-1 : Int32)) - (1 : Int32)).toNatClampNeg then none else letB (u2 S1 17 ((v2 + (-1 : Int32)) - (1 : Int32)).toNatClampNeg o8) (fun S9 => rc4 (S9, (v2 + (-1 : Int32)), (v3 + (1 : Int32))))))))))))))
def sM_reckons (S : US) (p1 : Int32) : Option (Int32 × US) :=
  loopK (fun rc (x : (US × Int32 × Int32)) => sM_reckons_L4 rc x.1 x.2.1 x.2.2) FUEL (S, (0 : Int32), p1)

def sM_asks (S : US) (p1 : Int32) (p2 : Int32) (p3 : Int32) : Option (Int32 × US) :=
  if ((p2 + (1 : Int32)) + p3) < 0 ∨ 98 ≤ ((p2 + (1 : Int32)) + p3).toNatClampNeg then none else (if (0 : Int32) < 0 ∨ 6 ≤ (0 : Int32).toNatClampNeg then none else letB (u2 S 16 (0 : Int32).toNatClampNeg (S 14 ((p2 + (1 : Int32)) + p3).toNatClampNeg)) (fun S1 => if ((p2 + (13 : Int32)) + p3) < 0 ∨ 98 ≤ ((p2 + (13 : Int32)) + p3).toNatClampNeg then none else (if (1 : Int32) < 0 ∨ 6 ≤ (1 : Int32).toNatClampNeg then none else letB (u2 S1 16 (1 : Int32).toNatClampNeg (S1 14 ((p2 + (13 : Int32)) + p3).toNatClampNeg)) (fun S2 => if ((p2 + (25 : Int32)) + p3) < 0 ∨ 98 ≤ ((p2 + (25 : Int32)) + p3).toNatClampNeg then none else (if (2 : Int32) < 0 ∨ 6 ≤ (2 : Int32).toNatClampNeg then none else letB (u2 S2 16 (2 : Int32).toNatClampNeg (S2 14 ((p2 + (25 : Int32)) + p3).toNatClampNeg)) (fun S3 => callK (sM_besideOf S3 p2 p3) (fun o4 => if (3 : Int32) < 0 ∨ 6 ≤ (3 : Int32).toNatClampNeg then none else letB (u2 S3 16 (3 : Int32).toNatClampNeg o4) (fun S5 => callK (sM_womenAt S5 p2 p3) (fun o6 => callK (sM_bits o6) (fun o7 => if (4 : Int32) < 0 ∨ 6 ≤ (4 : Int32).toNatClampNeg then none else letB (u2 S5 16 (4 : Int32).toNatClampNeg o7) (fun S8 => if (p2 + (0 : Int32)) < 0 ∨ 98 ≤ (p2 + (0 : Int32)).toNatClampNeg then none else (if (5 : Int32) < 0 ∨ 6 ≤ (5 : Int32).toNatClampNeg then none else letB (u2 S8 16 (5 : Int32).toNatClampNeg (S8 14 (p2 + (0 : Int32)).toNatClampNeg)) (fun S9 => callK (sM_reckons S9 p1) (fun o10 => some (o10.1, o10.2)))))))))))))))

def sM_bounded (p1 : Int32) (p2 : Int32) (p3 : Int32) : Option Int32 :=
  (if p2 ≤ p1 then (if p1 ≤ p3 then some p1 else some p3) else some p2)

def sM_fraysOf (S : US) (p1 : Int32) (p2 : Int32) : Option (Int32 × US) :=
  callK (sM_isGap S p1 p2) (fun o1 => (if (bI o1) = 0 then (if (S 0 5) = (-1 : Int32) then if ((p1 + (1 : Int32)) + p2) < 0 ∨ 98 ≤ ((p1 + (1 : Int32)) + p2).toNatClampNeg then none else (if ((p1 + (25 : Int32)) + p2) < 0 ∨ 98 ≤ ((p1 + (25 : Int32)) + p2).toNatClampNeg then none else (if ((S 14 ((p1 + (25 : Int32)) + p2).toNatClampNeg) + (1 : Int32)) = 0 then none else (callK (sM_bounded (((S 14 ((p1 + (1 : Int32)) + p2).toNatClampNeg) / (9 : Int32)) / ((S 14 ((p1 + (25 : Int32)) + p2).toNatClampNeg) + (1 : Int32))) (0 : Int32) (20 : Int32)) (fun o4 => some (o4, S))))) else callK (sM_asks S (S 0 5) p1 p2) (fun o2 => callK (sM_bounded o2.1 (0 : Int32) (20 : Int32)) (fun o3 => some (o3, o2.2)))) else some ((0 : Int32), S)))

def sM_isStretch (S : US) (p1 : Int32) : Option (Bool × US) :=
  (if p1 < 0 then callK (sM_right S (0 : Int32) (1 : Int32)) (fun o1 => some (o1.1, o1.2)) else (if (S 0 1) ≤ p1 then callK (sM_right S (0 : Int32) (1 : Int32)) (fun o2 => some (o2.1, o2.2)) else callK (sM_right S (1 : Int32) (1 : Int32)) (fun o3 => some (o3.1, o3.2))))

def sM_isWhat (S : US) (p1 : Int32) (p2 : Int32) : Option (Bool × US) :=
  callK (sM_within p1 (0 : Int32) p2) (fun o1 => callK (sM_right S (bI o1) (1 : Int32)) (fun o2 => some (o2.1, o2.2)))

def sM_pullsOf (S : US) (p1 : Int32) (p2 : Int32) : Option (Int32 × US) :=
  callK (sM_isGap S p1 p2) (fun o1 => (if (bI o1) = 0 then (if (S 0 6) = (-1 : Int32) then callK (sM_besideOf S p1 p2) (fun o4 => if ((p1 + (1 : Int32)) + p2) < 0 ∨ 98 ≤ ((p1 + (1 : Int32)) + p2).toNatClampNeg then none else (callK (sM_bounded ((o4 - ((2 : Int32) * (S 14 ((p1 + (1 : Int32)) + p2).toNatClampNeg))) / (9 : Int32)) (-9 : Int32) (9 : Int32)) (fun o5 => some (o5, S)))) else callK (sM_asks S (S 0 6) p1 p2) (fun o2 => callK (sM_bounded o2.1 (-9 : Int32) (9 : Int32)) (fun o3 => some (o3, o2.2)))) else some ((0 : Int32), S)))

def sM_stretch (S : US) (p1 : Int32) (p2 : Int32) : Option (Int32 × US) :=
  letB (u2 S 0 0 (0 : Int32)) (fun S1 => callK (sM_isStretch S1 p1) (fun o2 => (if (bI o2.1) = 0 then some ((0 : Int32), o2.2) else callK (sM_isWhat o2.2 p2 (5 : Int32)) (fun o3 => (if (bI o3.1) = 0 then some ((0 : Int32), o3.2) else (if p2 = (0 : Int32) then if ((1 : Int32) + p1) < 0 ∨ 98 ≤ ((1 : Int32) + p1).toNatClampNeg then none else (some ((o3.2 14 ((1 : Int32) + p1).toNatClampNeg), o3.2)) else (if p2 = (1 : Int32) then if ((13 : Int32) + p1) < 0 ∨ 98 ≤ ((13 : Int32) + p1).toNatClampNeg then none else (some ((o3.2 14 ((13 : Int32) + p1).toNatClampNeg), o3.2)) else (if p2 = (2 : Int32) then if ((25 : Int32) + p1) < 0 ∨ 98 ≤ ((25 : Int32) + p1).toNatClampNeg then none else (some ((o3.2 14 ((25 : Int32) + p1).toNatClampNeg), o3.2)) else (if p2 = (3 : Int32) then callK (sM_womenAt o3.2 (0 : Int32) p1) (fun o4 => some (o4, o3.2)) else (if p2 = (4 : Int32) then callK (sM_fraysOf o3.2 (0 : Int32) p1) (fun o5 => some (o5.1, o5.2)) else callK (sM_pullsOf o3.2 (0 : Int32) p1) (fun o6 => some (o6.1, o6.2))))))))))))

def sM_isWoman (S : US) (p1 : Int32) : Option (Bool × US) :=
  (if p1 < 0 then callK (sM_right S (0 : Int32) (1 : Int32)) (fun o1 => some (o1.1, o1.2)) else (if (S 0 2) ≤ p1 then callK (sM_right S (0 : Int32) (1 : Int32)) (fun o2 => some (o2.1, o2.2)) else callK (sM_right S (1 : Int32) (1 : Int32)) (fun o3 => some (o3.1, o3.2))))

def sM_woman (S : US) (p1 : Int32) (p2 : Int32) : Option (Int32 × US) :=
  letB (u2 S 0 0 (0 : Int32)) (fun S1 => callK (sM_isWoman S1 p1) (fun o2 => (if (bI o2.1) = 0 then some ((0 : Int32), o2.2) else callK (sM_isWhat o2.2 p2 (2 : Int32)) (fun o3 => (if (bI o3.1) = 0 then some ((0 : Int32), o3.2) else (if p2 = 0 then if p1 < 0 ∨ 6 ≤ p1.toNatClampNeg then none else (some ((o3.2 1 p1.toNatClampNeg), o3.2)) else (if p2 = (1 : Int32) then if ((37 : Int32) + p1) < 0 ∨ 98 ≤ ((37 : Int32) + p1).toNatClampNeg then none else (some ((o3.2 14 ((37 : Int32) + p1).toNatClampNeg), o3.2)) else if ((43 : Int32) + p1) < 0 ∨ 98 ≤ ((43 : Int32) + p1).toNatClampNeg then none else (some ((o3.2 14 ((43 : Int32) + p1).toNatClampNeg), o3.2)))))))))

def sM_goesOn (S : US) (p1 : Int32) (p2 : Int32) : Option US :=
  if ((p1 + (37 : Int32)) + p2) < 0 ∨ 98 ≤ ((p1 + (37 : Int32)) + p2).toNatClampNeg then none else (callK (sM_behind1 S (S 14 ((p1 + (37 : Int32)) + p2).toNatClampNeg)) (fun o1 => if ((p1 + (37 : Int32)) + p2) < 0 ∨ 98 ≤ ((p1 + (37 : Int32)) + p2).toNatClampNeg then none else letB (u2 S 14 ((p1 + (37 : Int32)) + p2).toNatClampNeg o1) (fun S2 => some S2)))

def sM_lesser (p1 : Int32) (p2 : Int32) : Option Int32 :=
  (if p2 ≤ p1 then some p2 else some p1)

def sM_strains (S : US) (p1 : Int32) (p2 : Int32) (p3 : Int32) : Option US :=
  if ((p1 + (1 : Int32)) + p2) < 0 ∨ 98 ≤ ((p1 + (1 : Int32)) + p2).toNatClampNeg then none else (callK (sM_lesser (99 : Int32) ((S 14 ((p1 + (1 : Int32)) + p2).toNatClampNeg) + p3)) (fun o1 => if ((p1 + (1 : Int32)) + p2) < 0 ∨ 98 ≤ ((p1 + (1 : Int32)) + p2).toNatClampNeg then none else letB (u2 S 14 ((p1 + (1 : Int32)) + p2).toNatClampNeg o1) (fun S2 => some S2)))

def sM_loosens_J79 (p1 : Int32) (p2 : Int32) (S2 : US) (S6 : US) : Option US :=
  callK (sM_behind1 S6 p2) (fun o8 => callK (sM_isGap S6 p1 o8) (fun o9 => (if (bI o9) = 0 then callK (sM_behind1 S6 p2) (fun o11 => callK (sM_strains S6 p1 o11 ((S2 14 ((p1 + (1 : Int32)) + p2).toNatClampNeg) / (2 : Int32))) (fun o12 => if ((p1 + (1 : Int32)) + p2) < 0 ∨ 98 ≤ ((p1 + (1 : Int32)) + p2).toNatClampNeg then none else letB (u2 o12 14 ((p1 + (1 : Int32)) + p2).toNatClampNeg (0 : Int32)) (fun S13 => some S13))) else if ((p1 + (1 : Int32)) + p2) < 0 ∨ 98 ≤ ((p1 + (1 : Int32)) + p2).toNatClampNeg then none else letB (u2 S6 14 ((p1 + (1 : Int32)) + p2).toNatClampNeg (0 : Int32)) (fun S10 => some S10))))
def sM_loosens (S : US) (p1 : Int32) (p2 : Int32) (p3 : Int32) : Option US :=
  if ((p1 + (13 : Int32)) + p2) < 0 ∨ 98 ≤ ((p1 + (13 : Int32)) + p2).toNatClampNeg then none else (callK (sM_bounded ((S 14 ((p1 + (13 : Int32)) + p2).toNatClampNeg) - p3) (0 : Int32) (99 : Int32)) (fun o1 => if ((p1 + (13 : Int32)) + p2) < 0 ∨ 98 ≤ ((p1 + (13 : Int32)) + p2).toNatClampNeg then none else letB (u2 S 14 ((p1 + (13 : Int32)) + p2).toNatClampNeg o1) (fun S2 => callK (sM_isGap S2 p1 p2) (fun o3 => (if (bI o3) = 0 then some S2 else if ((p1 + (1 : Int32)) + p2) < 0 ∨ 98 ≤ ((p1 + (1 : Int32)) + p2).toNatClampNeg then none else (callK (sM_ahead1 S2 p2) (fun o4 => callK (sM_isGap S2 p1 o4) (fun o5 => joinB (fun (x7 : US) => sM_loosens_J79 p1 p2 S2 x7) (fun j7 => (if (bI o5) = 0 then callK (sM_ahead1 S2 p2) (fun o14 => callK (sM_strains S2 p1 o14 ((S2 14 ((p1 + (1 : Int32)) + p2).toNatClampNeg) / (2 : Int32))) (fun o15 => j7 o15)) else j7 S2))))))))))

def sM_mends (S : US) (p1 : Int32) (p2 : Int32) : Option US :=
  if ((p1 + (43 : Int32)) + p2) < 0 ∨ 98 ≤ ((p1 + (43 : Int32)) + p2).toNatClampNeg then none else ((if (S 14 ((p1 + (43 : Int32)) + p2).toNatClampNeg) = 0 then some S else if ((p1 + (37 : Int32)) + p2) < 0 ∨ 98 ≤ ((p1 + (37 : Int32)) + p2).toNatClampNeg then none else (if ((p1 + (43 : Int32)) + p2) < 0 ∨ 98 ≤ ((p1 + (43 : Int32)) + p2).toNatClampNeg then none else (if ((p1 + (43 : Int32)) + p2) < 0 ∨ 98 ≤ ((p1 + (43 : Int32)) + p2).toNatClampNeg then none else letB (u2 S 14 ((p1 + (43 : Int32)) + p2).toNatClampNeg ((S 14 ((p1 + (43 : Int32)) + p2).toNatClampNeg) - (1 : Int32))) (fun S1 => if ((p1 + (13 : Int32)) + (S 14 ((p1 + (37 : Int32)) + p2).toNatClampNeg)) < 0 ∨ 98 ≤ ((p1 + (13 : Int32)) + (S 14 ((p1 + (37 : Int32)) + p2).toNatClampNeg)).toNatClampNeg then none else (if p2 < 0 ∨ 6 ≤ p2.toNatClampNeg then none else (callK (sM_lesser (99 : Int32) (((S1 14 ((p1 + (13 : Int32)) + (S 14 ((p1 + (37 : Int32)) + p2).toNatClampNeg)).toNatClampNeg) + ((2 : Int32) * (S1 1 p2.toNatClampNeg))) + (3 : Int32))) (fun o2 => if ((p1 + (13 : Int32)) + (S 14 ((p1 + (37 : Int32)) + p2).toNatClampNeg)) < 0 ∨ 98 ≤ ((p1 + (13 : Int32)) + (S 14 ((p1 + (37 : Int32)) + p2).toNatClampNeg)).toNatClampNeg then none else letB (u2 S1 14 ((p1 + (13 : Int32)) + (S 14 ((p1 + (37 : Int32)) + p2).toNatClampNeg)).toNatClampNeg o2) (fun S3 => some S3)))))))))

def sM_dayGoes_L147 (p1 : Int32) (j11 : (US → Option US)) (rc15 : ((US × Int32) → Option US)) (S13 : US) (v14 : Int32) : Option US :=
  (if (S13 0 2) ≤ v14 then j11 S13 else callK (sM_mends S13 p1 v14) (fun o16 => callK (sM_goesOn o16 p1 v14) (fun o17 => rc15 (o17, (v14 + (1 : Int32))))))
def sM_dayGoes_J173 (p1 : Int32) (S10 : US) : Option US :=
  if (p1 + (0 : Int32)) < 0 ∨ 98 ≤ (p1 + (0 : Int32)).toNatClampNeg then none else (if (p1 + (0 : Int32)) < 0 ∨ 98 ≤ (p1 + (0 : Int32)).toNatClampNeg then none else letB (u2 S10 14 (p1 + (0 : Int32)).toNatClampNeg ((S10 14 (p1 + (0 : Int32)).toNatClampNeg) + (1 : Int32))) (fun S12 => some S12))
def sM_dayGoes_L88 (p1 : Int32) (rc9 : ((US × Int32) → Option US)) (S7 : US) (v8 : Int32) : Option US :=
  (if (S7 0 1) ≤ v8 then if (p1 + (0 : Int32)) < 0 ∨ 98 ≤ (p1 + (0 : Int32)).toNatClampNeg then none else (if (S7 0 4) = 0 then none else (joinB (fun (x11 : US) => sM_dayGoes_J173 p1 x11) (fun j11 => (if ((S7 14 (p1 + (0 : Int32)).toNatClampNeg) - (S7 14 (p1 + (0 : Int32)).toNatClampNeg) / (S7 0 4) * (S7 0 4)) = ((S7 0 4) - (1 : Int32)) then loopK (fun rc (x : (US × Int32)) => sM_dayGoes_L147 p1 j11 rc x.1 x.2) FUEL (S7, (0 : Int32)) else j11 S7)))) else callK (sM_isGap S7 p1 v8) (fun o18 => (if (bI o18) = 0 then callK (sM_fraysOf S7 p1 v8) (fun o19 => callK (sM_loosens o19.2 p1 v8 o19.1) (fun o20 => rc9 (o20, (v8 + (1 : Int32))))) else rc9 (S7, (v8 + (1 : Int32))))))
def sM_dayGoes_L30 (p1 : Int32) (rc6 : ((US × Int32) → Option US)) (S4 : US) (v5 : Int32) : Option US :=
  (if (S4 0 1) ≤ v5 then loopK (fun rc (x : (US × Int32)) => sM_dayGoes_L88 p1 rc x.1 x.2) FUEL (S4, (0 : Int32)) else callK (sM_isGap S4 p1 v5) (fun o21 => (if (bI o21) = 0 then if ((p1 + (1 : Int32)) + v5) < 0 ∨ 98 ≤ ((p1 + (1 : Int32)) + v5).toNatClampNeg then none else (if v5 < 0 ∨ 12 ≤ v5.toNatClampNeg then none else (callK (sM_bounded ((S4 14 ((p1 + (1 : Int32)) + v5).toNatClampNeg) + (S4 18 v5.toNatClampNeg)) (0 : Int32) (99 : Int32)) (fun o22 => if ((p1 + (1 : Int32)) + v5) < 0 ∨ 98 ≤ ((p1 + (1 : Int32)) + v5).toNatClampNeg then none else letB (u2 S4 14 ((p1 + (1 : Int32)) + v5).toNatClampNeg o22) (fun S23 => rc6 (S23, (v5 + (1 : Int32))))))) else rc6 (S4, (v5 + (1 : Int32))))))
def sM_dayGoes_L2 (p1 : Int32) (rc3 : ((US × Int32) → Option US)) (S1 : US) (v2 : Int32) : Option US :=
  (if (S1 0 1) ≤ v2 then loopK (fun rc (x : (US × Int32)) => sM_dayGoes_L30 p1 rc x.1 x.2) FUEL (S1, (0 : Int32)) else callK (sM_pullsOf S1 p1 v2) (fun o24 => if v2 < 0 ∨ 12 ≤ v2.toNatClampNeg then none else letB (u2 o24.2 18 v2.toNatClampNeg o24.1) (fun S25 => rc3 (S25, (v2 + (1 : Int32))))))
def sM_dayGoes (S : US) (p1 : Int32) : Option US :=
  loopK (fun rc (x : (US × Int32)) => sM_dayGoes_L2 p1 rc x.1 x.2) FUEL (S, (0 : Int32))

def sM_keeps_L52 (rc5 : ((US × Int32) → Option US)) (S3 : US) (v4 : Int32) : Option US :=
  (if (49 : Int32) ≤ v4 then letB (u2 S3 0 42 ((S3 0 42) + (1 : Int32))) (fun S6 => some S6) else if v4 < 0 ∨ 98 ≤ v4.toNatClampNeg then none else (if (((49 : Int32) * (S3 0 42)) + v4) < 0 ∨ 1960 ≤ (((49 : Int32) * (S3 0 42)) + v4).toNatClampNeg then none else letB (u2 S3 15 (((49 : Int32) * (S3 0 42)) + v4).toNatClampNeg (S3 14 v4.toNatClampNeg)) (fun S7 => rc5 (S7, (v4 + (1 : Int32))))))
def sM_keeps_L12 (j2 : (US → Option US)) (rc10 : ((US × Int32) → Option US)) (S8 : US) (v9 : Int32) : Option US :=
  (if (1960 : Int32) ≤ v9 then letB (u2 S8 0 42 ((S8 0 42) - (1 : Int32))) (fun S11 => j2 S11) else if v9 < 0 ∨ 1960 ≤ v9.toNatClampNeg then none else (if (v9 - (49 : Int32)) < 0 ∨ 1960 ≤ (v9 - (49 : Int32)).toNatClampNeg then none else letB (u2 S8 15 (v9 - (49 : Int32)).toNatClampNeg (S8 15 v9.toNatClampNeg)) (fun S12 => rc10 (S12, (v9 + (1 : Int32))))))
def sM_keeps_J50 (S1 : US) : Option US :=
  loopK (fun rc (x : (US × Int32)) => sM_keeps_L52 rc x.1 x.2) FUEL (S1, (0 : Int32))
def sM_keeps (S : US) : Option US :=
  joinB (fun (x2 : US) => sM_keeps_J50 x2) (fun j2 => (if (S 0 42) = (40 : Int32) then loopK (fun rc (x : (US × Int32)) => sM_keeps_L12 j2 rc x.1 x.2) FUEL (S, (49 : Int32)) else j2 S))

def sM_refuses (S : US) (p1 : Int32) : Option (Int32 × US) :=
  if p1 < 0 ∨ 3 ≤ p1.toNatClampNeg then none else (if p1 < 0 ∨ 3 ≤ p1.toNatClampNeg then none else letB (u2 S 6 p1.toNatClampNeg ((S 6 p1.toNatClampNeg) + (1 : Int32))) (fun S1 => some ((-1 : Int32), S1)))

def sM_days_L41 (p1 : Int32) (rc7 : ((US × Int32) → Option (Int32 × US))) (S5 : US) (v6 : Int32) : Option (Int32 × US) :=
  (if p1 ≤ v6 then if (0 : Int32) < 0 ∨ 98 ≤ (0 : Int32).toNatClampNeg then none else (some ((S5 14 (0 : Int32).toNatClampNeg), S5)) else callK (sM_dayGoes S5 (0 : Int32)) (fun o8 => rc7 (o8, (v6 + (1 : Int32)))))
def sM_days (S : US) (p1 : Int32) : Option (Int32 × US) :=
  letB (u2 S 0 0 (0 : Int32)) (fun S1 => callK (sM_within p1 (1 : Int32) (20 : Int32)) (fun o2 => (if (bI o2) = 0 then callK (sM_refuses S1 (1 : Int32)) (fun o3 => some (o3.1, o3.2)) else if (0 : Int32) < 0 ∨ 98 ≤ (0 : Int32).toNatClampNeg then none else ((if ((S1 14 (0 : Int32).toNatClampNeg) + p1) ≤ (999 : Int32) then callK (sM_keeps S1) (fun o4 => loopK (fun rc (x : (US × Int32)) => sM_days_L41 p1 rc x.1 x.2) FUEL (o4, (0 : Int32))) else callK (sM_refuses S1 (1 : Int32)) (fun o9 => some (o9.1, o9.2)))))))

def sM_mend (S : US) (p1 : Int32) : Option (Int32 × US) :=
  letB (u2 S 0 0 (0 : Int32)) (fun S1 => callK (sM_isWoman S1 p1) (fun o2 => (if (bI o2.1) = 0 then some ((0 : Int32), o2.2) else if ((43 : Int32) + p1) < 0 ∨ 98 ≤ ((43 : Int32) + p1).toNatClampNeg then none else ((if (o2.2 14 ((43 : Int32) + p1).toNatClampNeg) = 0 then callK (sM_refuses o2.2 (1 : Int32)) (fun o5 => some (o5.1, o5.2)) else callK (sM_keeps o2.2) (fun o3 => callK (sM_mends o3 (0 : Int32) p1) (fun o4 => if ((37 : Int32) + p1) < 0 ∨ 98 ≤ ((37 : Int32) + p1).toNatClampNeg then none else (if ((13 : Int32) + (o4 14 ((37 : Int32) + p1).toNatClampNeg)) < 0 ∨ 98 ≤ ((13 : Int32) + (o4 14 ((37 : Int32) + p1).toNatClampNeg)).toNatClampNeg then none else (some ((o4 14 ((13 : Int32) + (o4 14 ((37 : Int32) + p1).toNatClampNeg)).toNatClampNeg), o4))))))))))

def sM_go (S : US) (p1 : Int32) (p2 : Int32) : Option (Int32 × US) :=
  letB (u2 S 0 0 (0 : Int32)) (fun S1 => callK (sM_isWoman S1 p1) (fun o2 => (if (bI o2.1) = 0 then some ((0 : Int32), o2.2) else callK (sM_isStretch o2.2 p2) (fun o3 => (if (bI o3.1) = 0 then some ((0 : Int32), o3.2) else if ((37 : Int32) + p1) < 0 ∨ 98 ≤ ((37 : Int32) + p1).toNatClampNeg then none else ((if (o3.2 14 ((37 : Int32) + p1).toNatClampNeg) = p2 then callK (sM_refuses o3.2 (1 : Int32)) (fun o6 => some (o6.1, o6.2)) else callK (sM_keeps o3.2) (fun o4 => if ((37 : Int32) + p1) < 0 ∨ 98 ≤ ((37 : Int32) + p1).toNatClampNeg then none else letB (u2 o4 14 ((37 : Int32) + p1).toNatClampNeg p2) (fun S5 => some ((o3.2 14 ((37 : Int32) + p1).toNatClampNeg), S5))))))))))

def sM_stitch (S : US) (p1 : Int32) (p2 : Int32) : Option (Int32 × US) :=
  letB (u2 S 0 0 (0 : Int32)) (fun S1 => callK (sM_isStretch S1 p1) (fun o2 => (if (bI o2.1) = 0 then some ((0 : Int32), o2.2) else if ((25 : Int32) + p1) < 0 ∨ 98 ≤ ((25 : Int32) + p1).toNatClampNeg then none else (callK (sM_within p2 (0 : Int32) (2 : Int32)) (fun o3 => (if (bI o3) = 0 then callK (sM_refuses o2.2 (1 : Int32)) (fun o4 => some (o4.1, o4.2)) else (if (o2.2 14 ((25 : Int32) + p1).toNatClampNeg) = p2 then callK (sM_refuses o2.2 (1 : Int32)) (fun o7 => some (o7.1, o7.2)) else callK (sM_keeps o2.2) (fun o5 => if ((25 : Int32) + p1) < 0 ∨ 98 ≤ ((25 : Int32) + p1).toNatClampNeg then none else letB (u2 o5 14 ((25 : Int32) + p1).toNatClampNeg p2) (fun S6 => some ((o2.2 14 ((25 : Int32) + p1).toNatClampNeg), S6))))))))))

def sM_thread (S : US) (p1 : Int32) (p2 : Int32) : Option (Int32 × US) :=
  letB (u2 S 0 0 (0 : Int32)) (fun S1 => callK (sM_isWoman S1 p1) (fun o2 => (if (bI o2.1) = 0 then some ((0 : Int32), o2.2) else callK (sM_within p2 (1 : Int32) (50 : Int32)) (fun o3 => (if (bI o3) = 0 then callK (sM_refuses o2.2 (1 : Int32)) (fun o7 => some (o7.1, o7.2)) else callK (sM_keeps o2.2) (fun o4 => if ((43 : Int32) + p1) < 0 ∨ 98 ≤ ((43 : Int32) + p1).toNatClampNeg then none else (callK (sM_lesser (99 : Int32) ((o4 14 ((43 : Int32) + p1).toNatClampNeg) + p2)) (fun o5 => if ((43 : Int32) + p1) < 0 ∨ 98 ≤ ((43 : Int32) + p1).toNatClampNeg then none else letB (u2 o4 14 ((43 : Int32) + p1).toNatClampNeg o5) (fun S6 => if ((43 : Int32) + p1) < 0 ∨ 98 ≤ ((43 : Int32) + p1).toNatClampNeg then none else (some ((S6 14 ((43 : Int32) + p1).toNatClampNeg), S6)))))))))))

def sM_tear (S : US) (p1 : Int32) (p2 : Int32) : Option (Int32 × US) :=
  letB (u2 S 0 0 (0 : Int32)) (fun S1 => callK (sM_isStretch S1 p1) (fun o2 => (if (bI o2.1) = 0 then some ((0 : Int32), o2.2) else callK (sM_within p2 (1 : Int32) (50 : Int32)) (fun o3 => (if (bI o3) = 0 then callK (sM_refuses o2.2 (1 : Int32)) (fun o4 => some (o4.1, o4.2)) else callK (sM_isGap o2.2 (0 : Int32) p1) (fun o5 => (if (bI o5) = 0 then callK (sM_keeps o2.2) (fun o6 => callK (sM_loosens o6 (0 : Int32) p1 p2) (fun o7 => if ((13 : Int32) + p1) < 0 ∨ 98 ≤ ((13 : Int32) + p1).toNatClampNeg then none else (some ((o7 14 ((13 : Int32) + p1).toNatClampNeg), o7)))) else callK (sM_refuses o2.2 (1 : Int32)) (fun o8 => some (o8.1, o8.2)))))))))

def sM_daysGo_L2 (p1 : Int32) (rc3 : ((US × Int32) → Option US)) (S1 : US) (v2 : Int32) : Option US :=
  (if p1 ≤ v2 then some S1 else callK (sM_dayGoes S1 (49 : Int32)) (fun o4 => rc3 (o4, (v2 + (1 : Int32)))))
def sM_daysGo (S : US) (p1 : Int32) : Option US :=
  loopK (fun rc (x : (US × Int32)) => sM_daysGo_L2 p1 rc x.1 x.2) FUEL (S, (0 : Int32))

def sM_tries_L2 (rc3 : ((US × Int32) → Option US)) (S1 : US) (v2 : Int32) : Option US :=
  (if (49 : Int32) ≤ v2 then some S1 else if v2 < 0 ∨ 98 ≤ v2.toNatClampNeg then none else (if ((49 : Int32) + v2) < 0 ∨ 98 ≤ ((49 : Int32) + v2).toNatClampNeg then none else letB (u2 S1 14 ((49 : Int32) + v2).toNatClampNeg (S1 14 v2.toNatClampNeg)) (fun S4 => rc3 (S4, (v2 + (1 : Int32))))))
def sM_tries (S : US) : Option US :=
  loopK (fun rc (x : (US × Int32)) => sM_tries_L2 rc x.1 x.2) FUEL (S, (0 : Int32))

def sM_goesTo (S : US) (p1 : Int32) : Option US :=
  callK (sM_tries S) (fun o1 => callK (sM_daysGo o1 p1) (fun o2 => some o2))

def sM_isDays (S : US) (p1 : Int32) (p2 : Int32) (p3 : Int32) : Option (Bool × US) :=
  callK (sM_within p1 p2 (60 : Int32)) (fun o1 => callK (sM_right S (bI o1) p3) (fun o2 => some (o2.1, o2.2)))

def sM_then (S : US) (p1 : Int32) (p2 : Int32) (p3 : Int32) : Option (Int32 × US) :=
  letB (u2 S 0 0 (0 : Int32)) (fun S1 => callK (sM_isStretch S1 p1) (fun o2 => (if (bI o2.1) = 0 then some ((0 : Int32), o2.2) else callK (sM_isWhat o2.2 p3 (1 : Int32)) (fun o3 => (if (bI o3.1) = 0 then some ((0 : Int32), o3.2) else callK (sM_isDays o3.2 p2 (0 : Int32) (2 : Int32)) (fun o4 => (if (bI o4.1) = 0 then some ((0 : Int32), o4.2) else callK (sM_goesTo o4.2 p2) (fun o5 => (if p3 = 0 then if (((49 : Int32) + (1 : Int32)) + p1) < 0 ∨ 98 ≤ (((49 : Int32) + (1 : Int32)) + p1).toNatClampNeg then none else (some ((o5 14 (((49 : Int32) + (1 : Int32)) + p1).toNatClampNeg), o5)) else if (((49 : Int32) + (13 : Int32)) + p1) < 0 ∨ 98 ≤ (((49 : Int32) + (13 : Int32)) + p1).toNatClampNeg then none else (some ((o5 14 (((49 : Int32) + (13 : Int32)) + p1).toNatClampNeg), o5)))))))))))

def sM_extreme_L5 (p1 : Int32) (p2 : Int32) (S : US) (rc3 : ((Int32 × Int32) → Option Int32)) (v1 : Int32) (v2 : Int32) : Option Int32 :=
  (if (S 0 1) ≤ v2 then some v1 else (if p2 = 0 then if ((p1 + (1 : Int32)) + v2) < 0 ∨ 98 ≤ ((p1 + (1 : Int32)) + v2).toNatClampNeg then none else (if ((p1 + (1 : Int32)) + v1) < 0 ∨ 98 ≤ ((p1 + (1 : Int32)) + v1).toNatClampNeg then none else ((if (S 14 ((p1 + (1 : Int32)) + v1).toNatClampNeg) ≤ (S 14 ((p1 + (1 : Int32)) + v2).toNatClampNeg) then rc3 (v1, (v2 + (1 : Int32))) else rc3 (v2, (v2 + (1 : Int32)))))) else if ((p1 + (1 : Int32)) + v2) < 0 ∨ 98 ≤ ((p1 + (1 : Int32)) + v2).toNatClampNeg then none else (if ((p1 + (1 : Int32)) + v1) < 0 ∨ 98 ≤ ((p1 + (1 : Int32)) + v1).toNatClampNeg then none else ((if (S 14 ((p1 + (1 : Int32)) + v2).toNatClampNeg) ≤ (S 14 ((p1 + (1 : Int32)) + v1).toNatClampNeg) then rc3 (v1, (v2 + (1 : Int32))) else rc3 (v2, (v2 + (1 : Int32))))))))
def sM_extreme (S : US) (p1 : Int32) (p2 : Int32) : Option Int32 :=
  loopK (fun rc (x : (Int32 × Int32)) => sM_extreme_L5 p1 p2 S rc x.1 x.2) FUEL ((0 : Int32), (1 : Int32))

def sM_later (S : US) (p1 : Int32) (p2 : Int32) : Option (Int32 × US) :=
  letB (u2 S 0 0 (0 : Int32)) (fun S1 => callK (sM_isWhat S1 p2 (3 : Int32)) (fun o2 => (if (bI o2.1) = 0 then some ((0 : Int32), o2.2) else callK (sM_isDays o2.2 p1 (0 : Int32) (2 : Int32)) (fun o3 => (if (bI o3.1) = 0 then some ((0 : Int32), o3.2) else callK (sM_goesTo o3.2 p1) (fun o4 => (if p2 = (0 : Int32) then callK (sM_openOnes o4 (49 : Int32)) (fun o5 => some (o5, o4)) else (if p2 = (1 : Int32) then callK (sM_extreme o4 (49 : Int32) (1 : Int32)) (fun o6 => some (o6, o4)) else (if p2 = (2 : Int32) then callK (sM_extreme o4 (49 : Int32) (1 : Int32)) (fun o7 => if ((50 : Int32) + o7) < 0 ∨ 98 ≤ ((50 : Int32) + o7).toNatClampNeg then none else (callK (sM_extreme o4 (49 : Int32) (0 : Int32)) (fun o8 => if ((50 : Int32) + o8) < 0 ∨ 98 ≤ ((50 : Int32) + o8).toNatClampNeg then none else (some (((o4 14 ((50 : Int32) + o7).toNatClampNeg) - (o4 14 ((50 : Int32) + o8).toNatClampNeg)), o4))))) else callK (sM_sumOf o4 (0 : Int32) (43 : Int32) (o4 0 2)) (fun o9 => callK (sM_sumOf o4 (49 : Int32) (43 : Int32) (o4 0 2)) (fun o10 => some ((o9 - o10), o4))))))))))))

def sM_opensIn_L6 (p1 : Int32) (rc4 : ((US × Int32) → Option (Int32 × US))) (S2 : US) (v3 : Int32) : Option (Int32 × US) :=
  (if (60 : Int32) < v3 then some ((99999 : Int32), S2) else callK (sM_isGap S2 (49 : Int32) p1) (fun o5 => (if (bI o5) = 0 then callK (sM_dayGoes S2 (49 : Int32)) (fun o6 => rc4 (o6, (v3 + (1 : Int32)))) else some (v3, S2))))
def sM_opensIn (S : US) (p1 : Int32) : Option (Int32 × US) :=
  callK (sM_tries S) (fun o1 => loopK (fun rc (x : (US × Int32)) => sM_opensIn_L6 p1 rc x.1 x.2) FUEL (o1, (0 : Int32)))

def sM_opens (S : US) (p1 : Int32) : Option (Int32 × US) :=
  letB (u2 S 0 0 (0 : Int32)) (fun S1 => callK (sM_isStretch S1 p1) (fun o2 => (if (bI o2.1) = 0 then some ((0 : Int32), o2.2) else callK (sM_opensIn o2.2 p1) (fun o3 => (if o3.1 = (99999 : Int32) then some ((-1 : Int32), o3.2) else some (o3.1, o3.2))))))

def sM_first_L13 (rc6 : ((US × Int32 × Int32 × Int32) → Option (Int32 × US))) (S2 : US) (v3 : Int32) (v4 : Int32) (v5 : Int32) : Option (Int32 × US) :=
  (if (S2 0 1) ≤ v5 then some (v3, S2) else callK (sM_opensIn S2 v5) (fun o7 => (if o7.1 = 0 then rc6 (o7.2, v3, v4, (v5 + (1 : Int32))) else (if o7.1 < v4 then rc6 (o7.2, v5, o7.1, (v5 + (1 : Int32))) else rc6 (o7.2, v3, v4, (v5 + (1 : Int32)))))))
def sM_first (S : US) : Option (Int32 × US) :=
  letB (u2 S 0 0 (0 : Int32)) (fun S1 => loopK (fun rc (x : (US × Int32 × Int32 × Int32)) => sM_first_L13 rc x.1 x.2.1 x.2.2.1 x.2.2.2) FUEL (S1, (-1 : Int32), (99999 : Int32), (0 : Int32)))

def sM_where (S : US) (p1 : Int32) (p2 : Int32) (p3 : Int32) : Option (Int32 × US) :=
  letB (u2 S 0 0 (0 : Int32)) (fun S1 => callK (sM_isWoman S1 p1) (fun o2 => (if (bI o2.1) = 0 then some ((0 : Int32), o2.2) else callK (sM_isWhat o2.2 p3 (1 : Int32)) (fun o3 => (if (bI o3.1) = 0 then some ((0 : Int32), o3.2) else callK (sM_isDays o3.2 p2 (0 : Int32) (2 : Int32)) (fun o4 => (if (bI o4.1) = 0 then some ((0 : Int32), o4.2) else callK (sM_goesTo o4.2 p2) (fun o5 => (if p3 = 0 then if (((49 : Int32) + (37 : Int32)) + p1) < 0 ∨ 98 ≤ (((49 : Int32) + (37 : Int32)) + p1).toNatClampNeg then none else (some ((o5 14 (((49 : Int32) + (37 : Int32)) + p1).toNatClampNeg), o5)) else if (((49 : Int32) + (43 : Int32)) + p1) < 0 ∨ 98 ≤ (((49 : Int32) + (43 : Int32)) + p1).toNatClampNeg then none else (some ((o5 14 (((49 : Int32) + (43 : Int32)) + p1).toNatClampNeg), o5)))))))))))

def sM_spent_L11 (rc5 : ((US × Int32) → Option (Int32 × US))) (S3 : US) (v4 : Int32) : Option (Int32 × US) :=
  (if (60 : Int32) < v4 then some ((-1 : Int32), S3) else callK (sM_sumOf S3 (49 : Int32) (43 : Int32) (S3 0 2)) (fun o6 => (if o6 = 0 then some (v4, S3) else callK (sM_dayGoes S3 (49 : Int32)) (fun o7 => rc5 (o7, (v4 + (1 : Int32)))))))
def sM_spent (S : US) : Option (Int32 × US) :=
  letB (u2 S 0 0 (0 : Int32)) (fun S1 => callK (sM_tries S1) (fun o2 => loopK (fun rc (x : (US × Int32)) => sM_spent_L11 rc x.1 x.2) FUEL (o2, (0 : Int32))))

def sM_toHold_L68 (p1 : Int32) (p2 : Int32) (j12 : ((US × Int32) → Option (Int32 × US))) (rc16 : ((US × Int32 × Int32) → Option (Int32 × US))) (S13 : US) (v14 : Int32) (v15 : Int32) : Option (Int32 × US) :=
  (if p2 ≤ v15 then j12 (S13, v14) else (if v14 = 0 then j12 (S13, v14) else callK (sM_dayGoes S13 (49 : Int32)) (fun o17 => callK (sM_isGap o17 (49 : Int32) p1) (fun o18 => (if (bI o18) = 0 then rc16 (o17, (1 : Int32), (v15 + (1 : Int32))) else rc16 (o17, (0 : Int32), (v15 + (1 : Int32))))))))
def sM_toHold_J108 (v5 : Int32) (rc6 : ((US × Int32) → Option (Int32 × US))) (S10 : US) (v11 : Int32) : Option (Int32 × US) :=
  (if v11 = 0 then rc6 (S10, (v5 + (1 : Int32))) else some (v5, S10))
def sM_toHold_L27 (p1 : Int32) (p2 : Int32) (rc6 : ((US × Int32) → Option (Int32 × US))) (S4 : US) (v5 : Int32) : Option (Int32 × US) :=
  (if (99 : Int32) < v5 then some ((-1 : Int32), S4) else callK (sM_tries S4) (fun o7 => if ((62 : Int32) + p1) < 0 ∨ 98 ≤ ((62 : Int32) + p1).toNatClampNeg then none else (callK (sM_lesser (99 : Int32) ((o7 14 ((62 : Int32) + p1).toNatClampNeg) + v5)) (fun o8 => if ((62 : Int32) + p1) < 0 ∨ 98 ≤ ((62 : Int32) + p1).toNatClampNeg then none else letB (u2 o7 14 ((62 : Int32) + p1).toNatClampNeg o8) (fun S9 => joinB (fun (x12 : (US × Int32)) => sM_toHold_J108 v5 rc6 x12.1 x12.2) (fun j12 => loopK (fun rc (x : (US × Int32 × Int32)) => sM_toHold_L68 p1 p2 j12 rc x.1 x.2.1 x.2.2) FUEL (S9, (1 : Int32), (0 : Int32))))))))
def sM_toHold (S : US) (p1 : Int32) (p2 : Int32) : Option (Int32 × US) :=
  letB (u2 S 0 0 (0 : Int32)) (fun S1 => callK (sM_isStretch S1 p1) (fun o2 => (if (bI o2.1) = 0 then some ((0 : Int32), o2.2) else callK (sM_isDays o2.2 p2 (1 : Int32) (2 : Int32)) (fun o3 => (if (bI o3.1) = 0 then some ((0 : Int32), o3.2) else loopK (fun rc (x : (US × Int32)) => sM_toHold_L27 p1 p2 rc x.1 x.2) FUEL (o3.2, (0 : Int32)))))))

def sM_toSend_L45 (p1 : Int32) (p2 : Int32) (p3 : Int32) (rc9 : ((US × Int32 × Int32 × Int32) → Option (Int32 × US))) (S5 : US) (v6 : Int32) (v7 : Int32) (v8 : Int32) : Option (Int32 × US) :=
  (if (S5 0 1) ≤ v8 then (if p3 = 0 then some (v6, S5) else some (v7, S5)) else callK (sM_tries S5) (fun o10 => if ((86 : Int32) + p1) < 0 ∨ 98 ≤ ((86 : Int32) + p1).toNatClampNeg then none else letB (u2 o10 14 ((86 : Int32) + p1).toNatClampNeg v8) (fun S11 => callK (sM_daysGo S11 p2) (fun o12 => callK (sM_openOnes o12 (49 : Int32)) (fun o13 => callK (sM_bits o13) (fun o14 => (if o14 < v7 then rc9 (o12, v8, o14, (v8 + (1 : Int32))) else rc9 (o12, v6, v7, (v8 + (1 : Int32))))))))))
def sM_toSend (S : US) (p1 : Int32) (p2 : Int32) (p3 : Int32) : Option (Int32 × US) :=
  letB (u2 S 0 0 (0 : Int32)) (fun S1 => callK (sM_isWoman S1 p1) (fun o2 => (if (bI o2.1) = 0 then some ((0 : Int32), o2.2) else callK (sM_isWhat o2.2 p3 (1 : Int32)) (fun o3 => (if (bI o3.1) = 0 then some ((0 : Int32), o3.2) else callK (sM_isDays o3.2 p2 (1 : Int32) (2 : Int32)) (fun o4 => (if (bI o4.1) = 0 then some ((0 : Int32), o4.2) else loopK (fun rc (x : (US × Int32 × Int32 × Int32)) => sM_toSend_L45 p1 p2 p3 rc x.1 x.2.1 x.2.2.1 x.2.2.2) FUEL (o4.2, (-1 : Int32), (99999 : Int32), (0 : Int32)))))))))

def sM_bestStitch_L33 (p1 : Int32) (p2 : Int32) (rc8 : ((US × Int32 × Int32 × Int32) → Option (Int32 × US))) (S4 : US) (v5 : Int32) (v6 : Int32) (v7 : Int32) : Option (Int32 × US) :=
  (if (3 : Int32) ≤ v7 then some (v5, S4) else callK (sM_tries S4) (fun o9 => if ((74 : Int32) + p1) < 0 ∨ 98 ≤ ((74 : Int32) + p1).toNatClampNeg then none else letB (u2 o9 14 ((74 : Int32) + p1).toNatClampNeg v7) (fun S10 => callK (sM_daysGo S10 p2) (fun o11 => if ((62 : Int32) + p1) < 0 ∨ 98 ≤ ((62 : Int32) + p1).toNatClampNeg then none else ((if v6 < (o11 14 ((62 : Int32) + p1).toNatClampNeg) then if ((62 : Int32) + p1) < 0 ∨ 98 ≤ ((62 : Int32) + p1).toNatClampNeg then none else (rc8 (o11, v7, (o11 14 ((62 : Int32) + p1).toNatClampNeg), (v7 + (1 : Int32)))) else rc8 (o11, v5, v6, (v7 + (1 : Int32)))))))))
def sM_bestStitch (S : US) (p1 : Int32) (p2 : Int32) : Option (Int32 × US) :=
  letB (u2 S 0 0 (0 : Int32)) (fun S1 => callK (sM_isStretch S1 p1) (fun o2 => (if (bI o2.1) = 0 then some ((0 : Int32), o2.2) else callK (sM_isDays o2.2 p2 (1 : Int32) (2 : Int32)) (fun o3 => (if (bI o3.1) = 0 then some ((0 : Int32), o3.2) else loopK (fun rc (x : (US × Int32 × Int32 × Int32)) => sM_bestStitch_L33 p1 p2 rc x.1 x.2.1 x.2.2.1 x.2.2.2) FUEL (o3.2, (-1 : Int32), (-1 : Int32), (0 : Int32)))))))

def sM_stepsBy (S : US) (p1 : Int32) (p2 : Int32) : Option Int32 :=
  (if p2 ≤ p1 then callK (sM_lesser (p1 - p2) ((S 0 1) - (p1 - p2))) (fun o1 => some o1) else callK (sM_lesser (p2 - p1) ((S 0 1) - (p2 - p1))) (fun o2 => some o2))

def sM_byWoman (S : US) (p1 : Int32) (p2 : Int32) (p3 : Int32) : Option Int32 :=
  if ((37 : Int32) + p2) < 0 ∨ 98 ≤ ((37 : Int32) + p2).toNatClampNeg then none else (if p1 < 0 ∨ 6 ≤ p1.toNatClampNeg then none else (callK (sM_stepsBy S (S 14 ((37 : Int32) + p2).toNatClampNeg) (S 20 p1.toNatClampNeg)) (fun o1 => if (((64 : Int32) * (p1 + (1 : Int32))) + (p3 ||| ((1 : Int32) <<< (p2 &&& 31)))) < 0 ∨ 448 ≤ (((64 : Int32) * (p1 + (1 : Int32))) + (p3 ||| ((1 : Int32) <<< (p2 &&& 31)))).toNatClampNeg then none else (some (o1 + (S 19 (((64 : Int32) * (p1 + (1 : Int32))) + (p3 ||| ((1 : Int32) <<< (p2 &&& 31)))).toNatClampNeg))))))

def sM_sent_L303 (p2 : Int32) (S15 : US) (v18 : Int32) (v20 : Int32) (rc21 : ((Int32 × Int32 × Int32) → Option (Int32 × US))) (rc24 : ((Int32 × Int32) → Option (Int32 × US))) (v22 : Int32) (v23 : Int32) : Option (Int32 × US) :=
  (if v23 < 0 then if v20 < 0 ∨ 6 ≤ v20.toNatClampNeg then none else ((if (S15 20 v20.toNatClampNeg) = p2 then some (v22, S15) else rc21 ((v18 ||| ((1 : Int32) <<< (v22 &&& 31))), v22, (v20 + (1 : Int32))))) else (if ((v18 >>> (v23 &&& 31)) &&& (1 : Int32)) = 0 then callK (sM_byWoman S15 v20 v23 v18) (fun o25 => if (((64 : Int32) * v20) + v18) < 0 ∨ 448 ≤ (((64 : Int32) * v20) + v18).toNatClampNeg then none else ((if o25 = (S15 19 (((64 : Int32) * v20) + v18).toNatClampNeg) then rc24 (v23, (v23 + (-1 : Int32))) else rc24 (v22, (v23 + (-1 : Int32)))))) else rc24 (v22, (v23 + (-1 : Int32)))))
def sM_sent_L289 (p2 : Int32) (v9 : Int32) (S15 : US) (rc21 : ((Int32 × Int32 × Int32) → Option (Int32 × US))) (v18 : Int32) (v19 : Int32) (v20 : Int32) : Option (Int32 × US) :=
  (if v9 ≤ v20 then some (v19, S15) else loopK (fun rc (x : (Int32 × Int32)) => sM_sent_L303 p2 S15 v18 v20 rc21 rc x.1 x.2) FUEL (v19, ((S15 0 2) - (1 : Int32))))
def sM_sent_L199 (v16 : Int32) (S26 : US) (v27 : Int32) (rc28 : ((US × Int32) → Option (Int32 × US))) (rc31 : ((Int32 × Int32) → Option (Int32 × US))) (v29 : Int32) (v30 : Int32) : Option (Int32 × US) :=
  (if (S26 0 2) ≤ v30 then if (((64 : Int32) * v16) + v27) < 0 ∨ 448 ≤ (((64 : Int32) * v16) + v27).toNatClampNeg then none else letB (u2 S26 19 (((64 : Int32) * v16) + v27).toNatClampNeg v29) (fun S32 => rc28 (S32, (v27 + (1 : Int32)))) else (if ((v27 >>> (v30 &&& 31)) &&& (1 : Int32)) = 0 then callK (sM_byWoman S26 v16 v30 v27) (fun o33 => callK (sM_lesser v29 o33) (fun o34 => rc31 (o34, (v30 + (1 : Int32))))) else rc31 (v29, (v30 + (1 : Int32)))))
def sM_sent_L180 (v16 : Int32) (rc17 : ((US × Int32) → Option (Int32 × US))) (rc28 : ((US × Int32) → Option (Int32 × US))) (S26 : US) (v27 : Int32) : Option (Int32 × US) :=
  (if ((1 : Int32) <<< ((S26 0 2) &&& 31)) ≤ v27 then rc17 (S26, (v16 + (-1 : Int32))) else loopK (fun rc (x : (Int32 × Int32)) => sM_sent_L199 v16 S26 v27 rc28 rc x.1 x.2) FUEL ((99999 : Int32), (0 : Int32)))
def sM_sent_L172 (p2 : Int32) (v9 : Int32) (rc17 : ((US × Int32) → Option (Int32 × US))) (S15 : US) (v16 : Int32) : Option (Int32 × US) :=
  (if v16 < 0 then (if p2 = (-1 : Int32) then if (0 : Int32) < 0 ∨ 448 ≤ (0 : Int32).toNatClampNeg then none else (some ((S15 19 (0 : Int32).toNatClampNeg), S15)) else loopK (fun rc (x : (Int32 × Int32 × Int32)) => sM_sent_L289 p2 v9 S15 rc x.1 x.2.1 x.2.2) FUEL ((0 : Int32), (-1 : Int32), (0 : Int32))) else loopK (fun rc (x : (US × Int32)) => sM_sent_L180 v16 rc17 rc x.1 x.2) FUEL (S15, (0 : Int32)))
def sM_sent_L141 (p2 : Int32) (v9 : Int32) (rc14 : ((US × Int32) → Option (Int32 × US))) (S12 : US) (v13 : Int32) : Option (Int32 × US) :=
  (if (64 : Int32) ≤ v13 then loopK (fun rc (x : (US × Int32)) => sM_sent_L172 p2 v9 rc x.1 x.2) FUEL (S12, (v9 - (1 : Int32))) else if (((64 : Int32) * v9) + v13) < 0 ∨ 448 ≤ (((64 : Int32) * v9) + v13).toNatClampNeg then none else letB (u2 S12 19 (((64 : Int32) * v9) + v13).toNatClampNeg (0 : Int32)) (fun S35 => rc14 (S35, (v13 + (1 : Int32)))))
def sM_sent_L89 (p1 : Int32) (p2 : Int32) (rc11 : ((US × Int32 × Int32) → Option (Int32 × US))) (S8 : US) (v9 : Int32) (v10 : Int32) : Option (Int32 × US) :=
  (if (S8 0 1) ≤ v10 then (if v9 ≤ (S8 0 2) then loopK (fun rc (x : (US × Int32)) => sM_sent_L141 p2 v9 rc x.1 x.2) FUEL (S8, (0 : Int32)) else some ((-2 : Int32), S8)) else (if ((p1 >>> (v10 &&& 31)) &&& (1 : Int32)) = 0 then rc11 (S8, v9, (v10 + (1 : Int32))) else if v9 < 0 ∨ 6 ≤ v9.toNatClampNeg then none else letB (u2 S8 20 v9.toNatClampNeg v10) (fun S36 => rc11 (S36, (v9 + (1 : Int32)), (v10 + (1 : Int32))))))
def sM_sent_J75 (p1 : Int32) (p2 : Int32) (o4 : (Bool × US)) (y5 : Int32) : Option (Int32 × US) :=
  callK (sM_right o4.2 y5 (1 : Int32)) (fun o7 => (if (bI o7.1) = 0 then some ((0 : Int32), o7.2) else loopK (fun rc (x : (US × Int32 × Int32)) => sM_sent_L89 p1 p2 rc x.1 x.2.1 x.2.2) FUEL (o7.2, (0 : Int32), (0 : Int32))))
def sM_sent_J34 (p1 : Int32) (p2 : Int32) (S1 : US) (y2 : Int32) : Option (Int32 × US) :=
  callK (sM_right S1 y2 (2 : Int32)) (fun o4 => (if (bI o4.1) = 0 then some ((0 : Int32), o4.2) else joinB (fun (x6 : Int32) => sM_sent_J75 p1 p2 o4 x6) (fun j6 => (if p2 = (-1 : Int32) then j6 (1 : Int32) else (if p2 < 0 then j6 (0 : Int32) else (if (o4.2 0 1) ≤ p2 then j6 (0 : Int32) else (if ((p1 >>> (p2 &&& 31)) &&& (1 : Int32)) = (1 : Int32) then j6 (1 : Int32) else j6 (0 : Int32))))))))
def sM_sent (S : US) (p1 : Int32) (p2 : Int32) : Option (Int32 × US) :=
  letB (u2 S 0 0 (0 : Int32)) (fun S1 => joinB (fun (x3 : Int32) => sM_sent_J34 p1 p2 S1 x3) (fun j3 => (if p1 < 0 then j3 (0 : Int32) else (if ((1 : Int32) <<< ((S1 0 1) &&& 31)) ≤ p1 then j3 (0 : Int32) else callK (sM_bits p1) (fun o37 => (if (6 : Int32) < o37 then j3 (0 : Int32) else j3 (1 : Int32)))))))

def sM_closed_L35 (o2 : (Bool × US)) (v5 : Int32) (j8 : (Int32 → Option (Int32 × US))) (rc10 : (Int32 → Option (Int32 × US))) (v9 : Int32) : Option (Int32 × US) :=
  (if (o2.2 0 1) ≤ v9 then j8 v9 else if (o2.2 0 1) = 0 then none else (callK (sM_isGap o2.2 (0 : Int32) ((v5 + v9) - (v5 + v9) / (o2.2 0 1) * (o2.2 0 1))) (fun o11 => (if (bI o11) = 0 then rc10 (v9 + (1 : Int32)) else j8 v9))))
def sM_closed_J68 (v3 : Int32) (v4 : Int32) (v5 : Int32) (rc6 : ((Int32 × Int32 × Int32) → Option (Int32 × US))) (v7 : Int32) : Option (Int32 × US) :=
  (if v3 < v7 then rc6 (v7, v5, (v5 + (1 : Int32))) else rc6 (v3, v4, (v5 + (1 : Int32))))
def sM_closed_L23 (p1 : Int32) (o2 : (Bool × US)) (rc6 : ((Int32 × Int32 × Int32) → Option (Int32 × US))) (v3 : Int32) (v4 : Int32) (v5 : Int32) : Option (Int32 × US) :=
  (if (o2.2 0 1) ≤ v5 then (if p1 = 0 then some (v3, o2.2) else some (v4, o2.2)) else joinB (fun (x8 : Int32) => sM_closed_J68 v3 v4 v5 rc6 x8) (fun j8 => loopK (fun rc (x : Int32) => sM_closed_L35 o2 v5 j8 rc x) FUEL (0 : Int32)))
def sM_closed (S : US) (p1 : Int32) : Option (Int32 × US) :=
  letB (u2 S 0 0 (0 : Int32)) (fun S1 => callK (sM_isWhat S1 p1 (1 : Int32)) (fun o2 => (if (bI o2.1) = 0 then some ((0 : Int32), o2.2) else loopK (fun rc (x : (Int32 × Int32 × Int32)) => sM_closed_L23 p1 o2 rc x.1 x.2.1 x.2.2) FUEL ((0 : Int32), (-1 : Int32), (0 : Int32)))))

def sM_tight_L62 (p1 : Int32) (o4 : (Bool × US)) (v8 : Int32) (v9 : Int32) (v10 : Int32) (rc11 : ((Int32 × Int32 × Int32) → Option (Int32 × US))) (rc14 : ((Int32 × Int32) → Option (Int32 × US))) (v12 : Int32) (v13 : Int32) : Option (Int32 × US) :=
  (if p1 ≤ v13 then (if v9 < v12 then rc11 (v10, v12, (v10 + (1 : Int32))) else rc11 (v8, v9, (v10 + (1 : Int32)))) else if (o4.2 0 1) = 0 then none else (if ((1 : Int32) + ((v10 + v13) - (v10 + v13) / (o4.2 0 1) * (o4.2 0 1))) < 0 ∨ 98 ≤ ((1 : Int32) + ((v10 + v13) - (v10 + v13) / (o4.2 0 1) * (o4.2 0 1))).toNatClampNeg then none else (letB (v12 + (o4.2 14 ((1 : Int32) + ((v10 + v13) - (v10 + v13) / (o4.2 0 1) * (o4.2 0 1))).toNatClampNeg)) (fun e15 => rc14 (e15, (v13 + (1 : Int32)))))))
def sM_tight_L39 (p1 : Int32) (o4 : (Bool × US)) (j7 : ((Int32 × Int32) → Option (Int32 × US))) (rc11 : ((Int32 × Int32 × Int32) → Option (Int32 × US))) (v8 : Int32) (v9 : Int32) (v10 : Int32) : Option (Int32 × US) :=
  (if (o4.2 0 1) ≤ v10 then j7 (v8, v9) else (if (o4.2 0 1) < p1 then j7 (v8, v9) else loopK (fun rc (x : (Int32 × Int32)) => sM_tight_L62 p1 o4 v8 v9 v10 rc11 rc x.1 x.2) FUEL ((0 : Int32), (0 : Int32))))
def sM_tight_J119 (p2 : Int32) (o4 : (Bool × US)) (v5 : Int32) (v6 : Int32) : Option (Int32 × US) :=
  (if p2 = 0 then some (v6, o4.2) else some (v5, o4.2))
def sM_tight (S : US) (p1 : Int32) (p2 : Int32) : Option (Int32 × US) :=
  letB (u2 S 0 0 (0 : Int32)) (fun S1 => callK (sM_isWhat S1 p2 (1 : Int32)) (fun o2 => (if (bI o2.1) = 0 then some ((0 : Int32), o2.2) else callK (sM_within p1 (1 : Int32) (12 : Int32)) (fun o3 => callK (sM_right o2.2 (bI o3) (2 : Int32)) (fun o4 => (if (bI o4.1) = 0 then some ((0 : Int32), o4.2) else joinB (fun (x7 : (Int32 × Int32)) => sM_tight_J119 p2 o4 x7.1 x7.2) (fun j7 => loopK (fun rc (x : (Int32 × Int32 × Int32)) => sM_tight_L39 p1 o4 j7 rc x.1 x.2.1 x.2.2) FUEL ((-1 : Int32), (-1 : Int32), (0 : Int32)))))))))

def sM_gaps_L9 (S1 : US) (rc4 : ((Int32 × Int32) → Option (Int32 × US))) (v2 : Int32) (v3 : Int32) : Option (Int32 × US) :=
  (if (S1 0 1) ≤ v3 then (if v2 = 0 then callK (sM_isGap S1 (0 : Int32) (0 : Int32)) (fun o5 => (if (bI o5) = 0 then some (v2, S1) else some ((1 : Int32), S1))) else some (v2, S1)) else callK (sM_isGap S1 (0 : Int32) v3) (fun o6 => (if (bI o6) = 0 then rc4 ((v2 + (0 : Int32)), (v3 + (1 : Int32))) else callK (sM_ahead1 S1 v3) (fun o7 => callK (sM_isGap S1 (0 : Int32) o7) (fun o8 => (if (bI o8) = 0 then rc4 ((v2 + (1 : Int32)), (v3 + (1 : Int32))) else rc4 ((v2 + (0 : Int32)), (v3 + (1 : Int32)))))))))
def sM_gaps (S : US) : Option (Int32 × US) :=
  letB (u2 S 0 0 (0 : Int32)) (fun S1 => loopK (fun rc (x : (Int32 × Int32)) => sM_gaps_L9 S1 rc x.1 x.2) FUEL ((0 : Int32), (0 : Int32)))

def sM_isHere_L20 (p1 : Int32) (p2 : Int32) (S : US) (rc3 : ((Int32 × Int32) → Option Bool)) (v1 : Int32) (v2 : Int32) : Option Bool :=
  if p1 < 0 ∨ 8 ≤ p1.toNatClampNeg then none else ((if (S 3 p1.toNatClampNeg) ≤ v2 then if p1 < 0 ∨ 8 ≤ p1.toNatClampNeg then none else ((if v1 = (S 2 p1.toNatClampNeg) then some true else some false)) else if (p2 + v2) < 0 ∨ 9 ≤ (p2 + v2).toNatClampNeg then none else (rc3 ((((10 : Int32) * v1) + (S 21 (p2 + v2).toNatClampNeg)), (v2 + (1 : Int32))))))
def sM_isHere (S : US) (p1 : Int32) (p2 : Int32) (p3 : Int32) : Option Bool :=
  if p1 < 0 ∨ 8 ≤ p1.toNatClampNeg then none else ((if (p2 + (S 3 p1.toNatClampNeg)) ≤ p3 then loopK (fun rc (x : (Int32 × Int32)) => sM_isHere_L20 p1 p2 S rc x.1 x.2) FUEL ((0 : Int32), (0 : Int32)) else some false))

def sM_readings_L145 (v5 : Int32) (v13 : Int32) (rc14 : ((US × Int32) → Option (Int32 × US))) (rc23 : ((US × Int32) → Option (Int32 × US))) (S21 : US) (v22 : Int32) : Option (Int32 × US) :=
  (if (S21 0 3) ≤ v22 then rc14 (S21, (v13 + (-1 : Int32))) else (if v13 = v5 then rc23 (S21, (v22 + (1 : Int32))) else callK (sM_isHere S21 v22 v13 v5) (fun o24 => (if (bI o24) = 0 then rc23 (S21, (v22 + (1 : Int32))) else if v13 < 0 ∨ 10 ≤ v13.toNatClampNeg then none else (if v22 < 0 ∨ 8 ≤ v22.toNatClampNeg then none else (if (v13 + (S21 3 v22.toNatClampNeg)) < 0 ∨ 10 ≤ (v13 + (S21 3 v22.toNatClampNeg)).toNatClampNeg then none else (if v13 < 0 ∨ 10 ≤ v13.toNatClampNeg then none else letB (u2 S21 22 v13.toNatClampNeg ((S21 22 v13.toNatClampNeg) + (S21 22 (v13 + (S21 3 v22.toNatClampNeg)).toNatClampNeg))) (fun S25 => if v13 < 0 ∨ 10 ≤ v13.toNatClampNeg then none else (if v22 < 0 ∨ 8 ≤ v22.toNatClampNeg then none else (if (v13 + (S25 3 v22.toNatClampNeg)) < 0 ∨ 10 ≤ (v13 + (S25 3 v22.toNatClampNeg)).toNatClampNeg then none else (callK (sM_lesser (S25 23 v13.toNatClampNeg) ((1 : Int32) + (S25 23 (v13 + (S25 3 v22.toNatClampNeg)).toNatClampNeg))) (fun o26 => if v13 < 0 ∨ 10 ≤ v13.toNatClampNeg then none else letB (u2 S25 23 v13.toNatClampNeg o26) (fun S27 => rc23 (S27, (v22 + (1 : Int32))))))))))))))))
def sM_readings_J141 (v5 : Int32) (v13 : Int32) (rc14 : ((US × Int32) → Option (Int32 × US))) (S17 : US) (y18 : Int32) : Option (Int32 × US) :=
  if v13 < 0 ∨ 10 ≤ v13.toNatClampNeg then none else letB (u2 S17 23 v13.toNatClampNeg y18) (fun S20 => loopK (fun rc (x : (US × Int32)) => sM_readings_L145 v5 v13 rc14 rc x.1 x.2) FUEL (S20, (0 : Int32)))
def sM_readings_J121 (v5 : Int32) (S12 : US) (v13 : Int32) (rc14 : ((US × Int32) → Option (Int32 × US))) (y15 : Int32) : Option (Int32 × US) :=
  if v13 < 0 ∨ 10 ≤ v13.toNatClampNeg then none else letB (u2 S12 22 v13.toNatClampNeg y15) (fun S17 => joinB (fun (x19 : Int32) => sM_readings_J141 v5 v13 rc14 S17 x19) (fun j19 => (if v13 = v5 then j19 (0 : Int32) else j19 (99999 : Int32))))
def sM_readings_L99 (p2 : Int32) (v5 : Int32) (rc14 : ((US × Int32) → Option (Int32 × US))) (S12 : US) (v13 : Int32) : Option (Int32 × US) :=
  (if v13 < 0 then (if p2 = 0 then if (0 : Int32) < 0 ∨ 10 ≤ (0 : Int32).toNatClampNeg then none else (some ((S12 22 (0 : Int32).toNatClampNeg), S12)) else if (0 : Int32) < 0 ∨ 10 ≤ (0 : Int32).toNatClampNeg then none else ((if (S12 23 (0 : Int32).toNatClampNeg) < (99999 : Int32) then if (0 : Int32) < 0 ∨ 10 ≤ (0 : Int32).toNatClampNeg then none else (some ((S12 23 (0 : Int32).toNatClampNeg), S12)) else some ((-1 : Int32), S12)))) else joinB (fun (x16 : Int32) => sM_readings_J121 v5 S12 v13 rc14 x16) (fun j16 => (if v13 = v5 then j16 (1 : Int32) else j16 (0 : Int32))))
def sM_readings_L66 (p2 : Int32) (v5 : Int32) (rc11 : ((US × Int32 × Int32) → Option (Int32 × US))) (S8 : US) (v9 : Int32) (v10 : Int32) : Option (Int32 × US) :=
  (if v10 < 0 then loopK (fun rc (x : (US × Int32)) => sM_readings_L99 p2 v5 rc x.1 x.2) FUEL (S8, v5) else if v10 < 0 ∨ 9 ≤ v10.toNatClampNeg then none else letB (u2 S8 21 v10.toNatClampNeg (v9 - v9 / (10 : Int32) * (10 : Int32))) (fun S28 => rc11 (S28, (v9 / (10 : Int32)), (v10 + (-1 : Int32)))))
def sM_readings_L40 (p1 : Int32) (p2 : Int32) (o4 : (Bool × US)) (rc7 : ((Int32 × Int32) → Option (Int32 × US))) (v5 : Int32) (v6 : Int32) : Option (Int32 × US) :=
  (if v6 ≤ 0 then loopK (fun rc (x : (US × Int32 × Int32)) => sM_readings_L66 p2 v5 rc x.1 x.2.1 x.2.2) FUEL (o4.2, p1, (v5 - (1 : Int32))) else rc7 ((v5 + (1 : Int32)), (v6 / (10 : Int32))))
def sM_readings (S : US) (p1 : Int32) (p2 : Int32) : Option (Int32 × US) :=
  letB (u2 S 0 0 (0 : Int32)) (fun S1 => callK (sM_isWhat S1 p2 (1 : Int32)) (fun o2 => (if (bI o2.1) = 0 then some ((0 : Int32), o2.2) else callK (sM_within p1 (0 : Int32) (999999999 : Int32)) (fun o3 => callK (sM_right o2.2 (bI o3) (2 : Int32)) (fun o4 => (if (bI o4.1) = 0 then some ((0 : Int32), o4.2) else loopK (fun rc (x : (Int32 × Int32)) => sM_readings_L40 p1 p2 o4 rc x.1 x.2) FUEL ((1 : Int32), (p1 / (10 : Int32)))))))))

def sM_see (S : US) (p1 : Int32) (p2 : Int32) (p3 : Int32) : Option (Int32 × US) :=
  letB (u2 S 0 0 (0 : Int32)) (fun S1 => callK (sM_isStretch S1 p1) (fun o2 => (if (bI o2.1) = 0 then some ((0 : Int32), o2.2) else (if (o2.2 0 51) = (8 : Int32) then callK (sM_refuses o2.2 (2 : Int32)) (fun o3 => some (o3.1, o3.2)) else callK (sM_within p2 (0 : Int32) (20 : Int32)) (fun o4 => (if (bI o4) = 0 then callK (sM_refuses o2.2 (2 : Int32)) (fun o5 => some (o5.1, o5.2)) else callK (sM_within p3 (0 : Int32) (99 : Int32)) (fun o6 => (if (bI o6) = 0 then callK (sM_refuses o2.2 (2 : Int32)) (fun o11 => some (o11.1, o11.2)) else if ((3 : Int32) * (o2.2 0 51)) < 0 ∨ 24 ≤ ((3 : Int32) * (o2.2 0 51)).toNatClampNeg then none else letB (u2 o2.2 24 ((3 : Int32) * (o2.2 0 51)).toNatClampNeg p1) (fun S7 => if (((3 : Int32) * (S7 0 51)) + (1 : Int32)) < 0 ∨ 24 ≤ (((3 : Int32) * (S7 0 51)) + (1 : Int32)).toNatClampNeg then none else letB (u2 S7 24 (((3 : Int32) * (S7 0 51)) + (1 : Int32)).toNatClampNeg p2) (fun S8 => if (((3 : Int32) * (S8 0 51)) + (2 : Int32)) < 0 ∨ 24 ≤ (((3 : Int32) * (S8 0 51)) + (2 : Int32)).toNatClampNeg then none else letB (u2 S8 24 (((3 : Int32) * (S8 0 51)) + (2 : Int32)).toNatClampNeg p3) (fun S9 => letB (u2 S9 0 51 ((S9 0 51) + (1 : Int32))) (fun S10 => some ((S10 0 51), S10)))))))))))))

def sM_forget (S : US) : Option US :=
  letB (u2 S 0 0 (0 : Int32)) (fun S1 => letB (u2 S1 0 51 (0 : Int32)) (fun S2 => some S2))

def sM_isSeen_L76 (v2 : Int32) (rc3 : ((US × Int32) → Option (Bool × US))) (rc9 : ((US × Int32) → Option (Bool × US))) (S7 : US) (v8 : Int32) : Option (Bool × US) :=
  (if (S7 0 1) ≤ v8 then callK (sM_dayGoes S7 (49 : Int32)) (fun o10 => rc3 (o10, (v2 + (1 : Int32)))) else if ((62 : Int32) + v8) < 0 ∨ 98 ≤ ((62 : Int32) + v8).toNatClampNeg then none else (if v8 < 0 ∨ 12 ≤ v8.toNatClampNeg then none else letB (u2 S7 25 v8.toNatClampNeg (S7 14 ((62 : Int32) + v8).toNatClampNeg)) (fun S11 => rc9 (S11, (v8 + (1 : Int32))))))
def sM_isSeen_L10 (S1 : US) (v2 : Int32) (rc3 : ((US × Int32) → Option (Bool × US))) (rc5 : (Int32 → Option (Bool × US))) (v4 : Int32) : Option (Bool × US) :=
  (if (S1 0 51) ≤ v4 then (if v2 = (5 : Int32) then loopK (fun rc (x : (US × Int32)) => sM_isSeen_L76 v2 rc3 rc x.1 x.2) FUEL (S1, (0 : Int32)) else callK (sM_dayGoes S1 (49 : Int32)) (fun o6 => rc3 (o6, (v2 + (1 : Int32))))) else if (((3 : Int32) * v4) + (1 : Int32)) < 0 ∨ 24 ≤ (((3 : Int32) * v4) + (1 : Int32)).toNatClampNeg then none else ((if (S1 24 (((3 : Int32) * v4) + (1 : Int32)).toNatClampNeg) = v2 then if ((3 : Int32) * v4) < 0 ∨ 24 ≤ ((3 : Int32) * v4).toNatClampNeg then none else (if ((62 : Int32) + (S1 24 ((3 : Int32) * v4).toNatClampNeg)) < 0 ∨ 98 ≤ ((62 : Int32) + (S1 24 ((3 : Int32) * v4).toNatClampNeg)).toNatClampNeg then none else (if (((3 : Int32) * v4) + (2 : Int32)) < 0 ∨ 24 ≤ (((3 : Int32) * v4) + (2 : Int32)).toNatClampNeg then none else ((if (S1 14 ((62 : Int32) + (S1 24 ((3 : Int32) * v4).toNatClampNeg)).toNatClampNeg) = (S1 24 (((3 : Int32) * v4) + (2 : Int32)).toNatClampNeg) then rc5 (v4 + (1 : Int32)) else some (false, S1))))) else rc5 (v4 + (1 : Int32)))))
def sM_isSeen_L2 (rc3 : ((US × Int32) → Option (Bool × US))) (S1 : US) (v2 : Int32) : Option (Bool × US) :=
  (if (20 : Int32) < v2 then some (true, S1) else loopK (fun rc (x : Int32) => sM_isSeen_L10 S1 v2 rc3 rc x) FUEL (0 : Int32))
def sM_isSeen (S : US) : Option (Bool × US) :=
  loopK (fun rc (x : (US × Int32)) => sM_isSeen_L2 rc x.1 x.2) FUEL (S, (0 : Int32))

def sM_isGuess (S : US) (p1 : Int32) : Option (Bool × US) :=
  callK (sM_isGap S (0 : Int32) (p1 / (50 : Int32))) (fun o1 => (if (bI o1) = 0 then callK (sM_tries S) (fun o2 => callK (sM_loosens o2 (49 : Int32) (p1 / (50 : Int32)) ((p1 - p1 / (50 : Int32) * (50 : Int32)) + (1 : Int32))) (fun o3 => callK (sM_isSeen o3) (fun o4 => some (o4.1, o4.2)))) else some (false, S)))

def sM_torn_L45 (p1 : Int32) (rc7 : ((US × Int32 × Int32 × Int32) → Option (Int32 × US))) (S3 : US) (v4 : Int32) (v5 : Int32) (v6 : Int32) : Option (Int32 × US) :=
  (if ((50 : Int32) * (S3 0 1)) ≤ v6 then (if p1 = 0 then some (v4, S3) else some (v5, S3)) else callK (sM_isGuess S3 v6) (fun o8 => (if (bI o8.1) = 0 then rc7 (o8.2, v4, v5, (v6 + (1 : Int32))) else (if v5 = (-1 : Int32) then letB ((((v6 / (50 : Int32)) * (100 : Int32)) + (v6 - v6 / (50 : Int32) * (50 : Int32))) + (1 : Int32)) (fun e9 => rc7 (o8.2, (v4 + (1 : Int32)), e9, (v6 + (1 : Int32)))) else rc7 (o8.2, (v4 + (1 : Int32)), v5, (v6 + (1 : Int32)))))))
def sM_torn (S : US) (p1 : Int32) : Option (Int32 × US) :=
  letB (u2 S 0 0 (0 : Int32)) (fun S1 => callK (sM_isWhat S1 p1 (2 : Int32)) (fun o2 => (if (bI o2.1) = 0 then some ((0 : Int32), o2.2) else (if p1 = (2 : Int32) then callK (sM_tries o2.2) (fun o10 => callK (sM_isSeen o10) (fun o11 => (if (bI o11.1) = 0 then some ((0 : Int32), o11.2) else some ((1 : Int32), o11.2)))) else loopK (fun rc (x : (US × Int32 × Int32 × Int32)) => sM_torn_L45 p1 rc x.1 x.2.1 x.2.2.1 x.2.2.2) FUEL (o2.2, (0 : Int32), (-1 : Int32), (0 : Int32))))))

def sM_look_L123 (S3 : US) (v9 : Int32) (v12 : Int32) (j15 : (Int32 → Option (Int32 × US))) (rc18 : ((Int32 × Int32) → Option (Int32 × US))) (v16 : Int32) (v17 : Int32) : Option (Int32 × US) :=
  (if v12 ≤ v17 then j15 v16 else (if v16 = 0 then j15 v16 else if (((12 : Int32) * v12) + v9) < 0 ∨ 7200 ≤ (((12 : Int32) * v12) + v9).toNatClampNeg then none else (if (((12 : Int32) * v17) + v9) < 0 ∨ 7200 ≤ (((12 : Int32) * v17) + v9).toNatClampNeg then none else ((if (S3 26 (((12 : Int32) * v12) + v9).toNatClampNeg) = (S3 26 (((12 : Int32) * v17) + v9).toNatClampNeg) then rc18 ((0 : Int32), (v17 + (1 : Int32))) else rc18 ((1 : Int32), (v17 + (1 : Int32))))))))
def sM_look_J177 (v11 : Int32) (v12 : Int32) (rc13 : ((Int32 × Int32) → Option (Int32 × US))) (v14 : Int32) : Option (Int32 × US) :=
  (if v14 = 0 then rc13 ((v11 + (0 : Int32)), (v12 + (1 : Int32))) else rc13 ((v11 + (1 : Int32)), (v12 + (1 : Int32))))
def sM_look_L111 (S3 : US) (v4 : Int32) (v7 : Int32) (v8 : Int32) (v9 : Int32) (rc10 : ((Int32 × Int32 × Int32) → Option (Int32 × US))) (rc13 : ((Int32 × Int32) → Option (Int32 × US))) (v11 : Int32) (v12 : Int32) : Option (Int32 × US) :=
  (if v4 ≤ v12 then (if v8 < v11 then rc10 (v9, v11, (v9 + (1 : Int32))) else rc10 (v7, v8, (v9 + (1 : Int32)))) else joinB (fun (x15 : Int32) => sM_look_J177 v11 v12 rc13 x15) (fun j15 => loopK (fun rc (x : (Int32 × Int32)) => sM_look_L123 S3 v9 v12 j15 rc x.1 x.2) FUEL ((1 : Int32), (0 : Int32))))
def sM_look_L96 (p1 : Int32) (S3 : US) (v4 : Int32) (rc10 : ((Int32 × Int32 × Int32) → Option (Int32 × US))) (v7 : Int32) (v8 : Int32) (v9 : Int32) : Option (Int32 × US) :=
  (if (S3 0 1) ≤ v9 then (if p1 = 0 then some (v7, S3) else some (v8, S3)) else loopK (fun rc (x : (Int32 × Int32)) => sM_look_L111 S3 v4 v7 v8 v9 rc10 rc x.1 x.2) FUEL ((0 : Int32), (0 : Int32)))
def sM_look_L45 (v4 : Int32) (v5 : Int32) (rc6 : ((US × Int32 × Int32) → Option (Int32 × US))) (rc22 : ((US × Int32) → Option (Int32 × US))) (S20 : US) (v21 : Int32) : Option (Int32 × US) :=
  (if (S20 0 1) ≤ v21 then rc6 (S20, (v4 + (1 : Int32)), (v5 + (1 : Int32))) else if v21 < 0 ∨ 12 ≤ v21.toNatClampNeg then none else (if (((12 : Int32) * v4) + v21) < 0 ∨ 7200 ≤ (((12 : Int32) * v4) + v21).toNatClampNeg then none else letB (u2 S20 26 (((12 : Int32) * v4) + v21).toNatClampNeg (S20 25 v21.toNatClampNeg)) (fun S23 => rc22 (S23, (v21 + (1 : Int32))))))
def sM_look_L20 (p1 : Int32) (rc6 : ((US × Int32 × Int32) → Option (Int32 × US))) (S3 : US) (v4 : Int32) (v5 : Int32) : Option (Int32 × US) :=
  (if ((50 : Int32) * (S3 0 1)) ≤ v5 then loopK (fun rc (x : (Int32 × Int32 × Int32)) => sM_look_L96 p1 S3 v4 rc x.1 x.2.1 x.2.2) FUEL ((-1 : Int32), (0 : Int32), (0 : Int32)) else callK (sM_isGuess S3 v5) (fun o19 => (if (bI o19.1) = 0 then rc6 (o19.2, v4, (v5 + (1 : Int32))) else loopK (fun rc (x : (US × Int32)) => sM_look_L45 v4 v5 rc6 rc x.1 x.2) FUEL (o19.2, (0 : Int32)))))
def sM_look (S : US) (p1 : Int32) : Option (Int32 × US) :=
  letB (u2 S 0 0 (0 : Int32)) (fun S1 => callK (sM_isWhat S1 p1 (1 : Int32)) (fun o2 => (if (bI o2.1) = 0 then some ((0 : Int32), o2.2) else loopK (fun rc (x : (US × Int32 × Int32)) => sM_look_L20 p1 rc x.1 x.2.1 x.2.2) FUEL (o2.2, (0 : Int32), (0 : Int32)))))

def sM_gales_L107 (v12 : Int32) (v13 : Int32) (rc14 : ((US × Int32 × Int32) → Option (Int32 × US))) (y17 : Int32) (y19 : Int32) (rc23 : ((US × Int32) → Option (Int32 × US))) (S21 : US) (v22 : Int32) : Option (Int32 × US) :=
  (if (S21 0 1) ≤ v22 then callK (sM_dayGoes S21 (49 : Int32)) (fun o24 => rc14 (o24, (v12 * y19), (v13 + (1 : Int32)))) else (if y17 = 0 then callK (sM_dayGoes S21 (49 : Int32)) (fun o25 => rc14 (o25, (v12 * y19), (v13 + (1 : Int32)))) else callK (sM_isGap S21 (49 : Int32) v22) (fun o26 => (if (bI o26) = 0 then callK (sM_strains S21 (49 : Int32) v22 (15 : Int32)) (fun o27 => rc23 (o27, (v22 + (1 : Int32)))) else rc23 (S21, (v22 + (1 : Int32)))))))
def sM_gales_J101 (S11 : US) (v12 : Int32) (v13 : Int32) (rc14 : ((US × Int32 × Int32) → Option (Int32 × US))) (y17 : Int32) (y19 : Int32) : Option (Int32 × US) :=
  loopK (fun rc (x : (US × Int32)) => sM_gales_L107 v12 v13 rc14 y17 y19 rc x.1 x.2) FUEL (S11, (0 : Int32))
def sM_gales_J84 (p2 : Int32) (S11 : US) (v12 : Int32) (v13 : Int32) (rc14 : ((US × Int32 × Int32) → Option (Int32 × US))) (y17 : Int32) : Option (Int32 × US) :=
  joinB (fun (x20 : Int32) => sM_gales_J101 S11 v12 v13 rc14 y17 x20) (fun j20 => (if y17 = 0 then j20 ((10 : Int32) - p2) else j20 p2))
def sM_gales_L62 (p1 : Int32) (p2 : Int32) (v7 : Int32) (v8 : Int32) (rc9 : ((US × Int32 × Int32) → Option (Int32 × US))) (rc14 : ((US × Int32 × Int32) → Option (Int32 × US))) (S11 : US) (v12 : Int32) (v13 : Int32) : Option (Int32 × US) :=
  (if p1 ≤ v13 then callK (sM_openOnes S11 (49 : Int32)) (fun o15 => callK (sM_openOnes S11 (0 : Int32)) (fun o16 => (if (o15 &&& (o16 ^^^ (-1 : Int32))) = 0 then rc9 (S11, (v7 + (0 : Int32)), (v8 + (1 : Int32))) else rc9 (S11, (v7 + v12), (v8 + (1 : Int32)))))) else joinB (fun (x18 : Int32) => sM_gales_J84 p2 S11 v12 v13 rc14 x18) (fun j18 => (if ((v8 >>> (v13 &&& 31)) &&& (1 : Int32)) = (1 : Int32) then j18 (1 : Int32) else j18 (0 : Int32))))
def sM_gales_L44 (p1 : Int32) (p2 : Int32) (rc9 : ((US × Int32 × Int32) → Option (Int32 × US))) (S6 : US) (v7 : Int32) (v8 : Int32) : Option (Int32 × US) :=
  (if ((1 : Int32) <<< (p1 &&& 31)) ≤ v8 then some (v7, S6) else callK (sM_tries S6) (fun o10 => loopK (fun rc (x : (US × Int32 × Int32)) => sM_gales_L62 p1 p2 v7 v8 rc9 rc x.1 x.2.1 x.2.2) FUEL (o10, (1 : Int32), (0 : Int32))))
def sM_gales_J30 (p1 : Int32) (p2 : Int32) (S1 : US) (y3 : Int32) : Option (Int32 × US) :=
  callK (sM_right S1 y3 (1 : Int32)) (fun o5 => (if (bI o5.1) = 0 then some ((0 : Int32), o5.2) else loopK (fun rc (x : (US × Int32 × Int32)) => sM_gales_L44 p1 p2 rc x.1 x.2.1 x.2.2) FUEL (o5.2, (0 : Int32), (0 : Int32))))
def sM_gales (S : US) (p1 : Int32) (p2 : Int32) : Option (Int32 × US) :=
  letB (u2 S 0 0 (0 : Int32)) (fun S1 => callK (sM_within p1 (1 : Int32) (5 : Int32)) (fun o2 => joinB (fun (x4 : Int32) => sM_gales_J30 p1 p2 S1 x4) (fun j4 => (if (bI o2) = 0 then j4 (0 : Int32) else callK (sM_within p2 (0 : Int32) (10 : Int32)) (fun o28 => (if (bI o28) = 0 then j4 (0 : Int32) else j4 (1 : Int32)))))))

def sM_plays (S : US) (p1 : Int32) (p2 : Int32) : Option US :=
  (if p2 = (1 : Int32) then callK (sM_goesOn S (49 : Int32) p1) (fun o2 => callK (sM_mends o2 (49 : Int32) p1) (fun o3 => some o3)) else callK (sM_mends S (49 : Int32) p1) (fun o1 => some o1))

def sM_gains_J33 (p1 : Int32) (p3 : Int32) (S5 : US) : Option (Int32 × US) :=
  callK (sM_daysGo S5 (5 : Int32)) (fun o7 => if ((37 : Int32) + p1) < 0 ∨ 98 ≤ ((37 : Int32) + p1).toNatClampNeg then none else (if ((62 : Int32) + (o7 14 ((37 : Int32) + p1).toNatClampNeg)) < 0 ∨ 98 ≤ ((62 : Int32) + (o7 14 ((37 : Int32) + p1).toNatClampNeg)).toNatClampNeg then none else (some ((((o7 14 ((62 : Int32) + (o7 14 ((37 : Int32) + p1).toNatClampNeg)).toNatClampNeg) / (10 : Int32)) - p3), o7))))
def sM_gains_J15 (p1 : Int32) (p2 : Int32) (p3 : Int32) (p4 : Int32) (S2 : US) : Option (Int32 × US) :=
  callK (sM_plays S2 p2 p4) (fun o4 => joinB (fun (x6 : US) => sM_gains_J33 p1 p3 x6) (fun j6 => (if p1 ≤ p2 then j6 o4 else callK (sM_plays o4 p1 p3) (fun o8 => j6 o8))))
def sM_gains (S : US) (p1 : Int32) (p2 : Int32) (p3 : Int32) (p4 : Int32) : Option (Int32 × US) :=
  callK (sM_tries S) (fun o1 => joinB (fun (x3 : US) => sM_gains_J15 p1 p2 p3 p4 x3) (fun j3 => (if p2 ≤ p1 then j3 o1 else callK (sM_plays o1 p1 p3) (fun o9 => j3 o9))))

def sM_game_L59 (p1 : Int32) (p2 : Int32) (p3 : Int32) (rc12 : ((US × Int32 × Int32 × Int32) → Option (Int32 × US))) (S8 : US) (v9 : Int32) (v10 : Int32) (v11 : Int32) : Option (Int32 × US) :=
  (if (4 : Int32) ≤ v11 then (if p3 = 0 then some (v9, S8) else some (v10, S8)) else callK (sM_gains S8 p1 p2 ((1 : Int32) - (v11 / (2 : Int32))) (v11 - v11 / (2 : Int32) * (2 : Int32))) (fun o13 => callK (sM_gains o13.2 p1 p2 (v11 / (2 : Int32)) (v11 - v11 / (2 : Int32) * (2 : Int32))) (fun o14 => (if o14.1 < o13.1 then rc12 (o14.2, v9, v10, (v11 + (1 : Int32))) else callK (sM_gains o14.2 p2 p1 ((1 : Int32) - (v11 - v11 / (2 : Int32) * (2 : Int32))) (v11 / (2 : Int32))) (fun o15 => callK (sM_gains o15.2 p2 p1 (v11 - v11 / (2 : Int32) * (2 : Int32)) (v11 / (2 : Int32))) (fun o16 => (if o15.1 ≤ o16.1 then (if v10 = (-1 : Int32) then letB (((10 : Int32) * (v11 / (2 : Int32))) + (v11 - v11 / (2 : Int32) * (2 : Int32))) (fun e17 => rc12 (o16.2, (v9 + (1 : Int32)), e17, (v11 + (1 : Int32)))) else rc12 (o16.2, (v9 + (1 : Int32)), v10, (v11 + (1 : Int32)))) else rc12 (o16.2, v9, v10, (v11 + (1 : Int32))))))))))
def sM_game_J41 (p1 : Int32) (p2 : Int32) (p3 : Int32) (o4 : (Bool × US)) (y5 : Int32) : Option (Int32 × US) :=
  callK (sM_right o4.2 y5 (2 : Int32)) (fun o7 => (if (bI o7.1) = 0 then some ((0 : Int32), o7.2) else loopK (fun rc (x : (US × Int32 × Int32 × Int32)) => sM_game_L59 p1 p2 p3 rc x.1 x.2.1 x.2.2.1 x.2.2.2) FUEL (o7.2, (0 : Int32), (-1 : Int32), (0 : Int32))))
def sM_game (S : US) (p1 : Int32) (p2 : Int32) (p3 : Int32) : Option (Int32 × US) :=
  letB (u2 S 0 0 (0 : Int32)) (fun S1 => callK (sM_isWoman S1 p1) (fun o2 => (if (bI o2.1) = 0 then some ((0 : Int32), o2.2) else callK (sM_isWoman o2.2 p2) (fun o3 => (if (bI o3.1) = 0 then some ((0 : Int32), o3.2) else callK (sM_isWhat o3.2 p3 (1 : Int32)) (fun o4 => (if (bI o4.1) = 0 then some ((0 : Int32), o4.2) else joinB (fun (x6 : Int32) => sM_game_J41 p1 p2 p3 o4 x6) (fun j6 => (if p1 = p2 then j6 (0 : Int32) else j6 (1 : Int32))))))))))

def sM_draw (S : US) (p1 : Int32) : Option (Int32 × US) :=
  letB (u2 S 0 55 (((S 0 55) * (1103515245 : Int32)) + (12345 : Int32))) (fun S1 => if p1 = 0 then none else (some (((((S1 0 55) >>> ((16 : Int32) &&& 31)) &&& (32767 : Int32)) - (((S1 0 55) >>> ((16 : Int32) &&& 31)) &&& (32767 : Int32)) / p1 * p1), S1)))

def sM_happens_J68 (o1 : (Int32 × US)) (S4 : US) : Option US :=
  (if o1.1 = (2 : Int32) then (if (S4 0 2) = 0 then some S4 else callK (sM_draw S4 (S4 0 2)) (fun o6 => if ((92 : Int32) + o6.1) < 0 ∨ 98 ≤ ((92 : Int32) + o6.1).toNatClampNeg then none else (callK (sM_lesser (99 : Int32) ((o6.2 14 ((92 : Int32) + o6.1).toNatClampNeg) + (5 : Int32))) (fun o7 => if ((92 : Int32) + o6.1) < 0 ∨ 98 ≤ ((92 : Int32) + o6.1).toNatClampNeg then none else letB (u2 o6.2 14 ((92 : Int32) + o6.1).toNatClampNeg o7) (fun S8 => some S8))))) else some S4)
def sM_happens_J47 (o1 : (Int32 × US)) (S2 : US) : Option US :=
  joinB (fun (x5 : US) => sM_happens_J68 o1 x5) (fun j5 => (if o1.1 = (1 : Int32) then callK (sM_draw S2 (S2 0 1)) (fun o9 => callK (sM_strains o9.2 (49 : Int32) o9.1 (9 : Int32)) (fun o10 => j5 o10)) else j5 S2))
def sM_happens (S : US) : Option US :=
  callK (sM_draw S (6 : Int32)) (fun o1 => joinB (fun (x3 : US) => sM_happens_J47 o1 x3) (fun j3 => (if o1.1 = 0 then callK (sM_draw o1.2 (o1.2 0 1)) (fun o11 => callK (sM_draw o11.2 (20 : Int32)) (fun o12 => callK (sM_isGap o12.2 (49 : Int32) o11.1) (fun o13 => (if (bI o13) = 0 then callK (sM_loosens o12.2 (49 : Int32) o11.1 (o12.1 + (1 : Int32))) (fun o14 => j3 o14) else j3 o12.2)))) else j3 o1.2)))

def sM_years_L38 (p2 : Int32) (p3 : Int32) (rc8 : ((US × Int32) → Option (Int32 × US))) (S6 : US) (v7 : Int32) : Option (Int32 × US) :=
  (if p2 ≤ v7 then (if p3 = 0 then callK (sM_openOnes S6 (49 : Int32)) (fun o11 => callK (sM_bits o11) (fun o12 => some (o12, S6))) else (if p3 = (1 : Int32) then callK (sM_sumOf S6 (49 : Int32) (13 : Int32) (S6 0 1)) (fun o10 => some (o10, S6)) else callK (sM_sumOf S6 (49 : Int32) (43 : Int32) (S6 0 2)) (fun o9 => some (o9, S6)))) else callK (sM_happens S6) (fun o13 => callK (sM_dayGoes o13 (49 : Int32)) (fun o14 => rc8 (o14, (v7 + (1 : Int32))))))
def sM_years (S : US) (p1 : Int32) (p2 : Int32) (p3 : Int32) : Option (Int32 × US) :=
  letB (u2 S 0 0 (0 : Int32)) (fun S1 => callK (sM_isWhat S1 p3 (2 : Int32)) (fun o2 => (if (bI o2.1) = 0 then some ((0 : Int32), o2.2) else callK (sM_isDays o2.2 p2 (0 : Int32) (2 : Int32)) (fun o3 => (if (bI o3.1) = 0 then some ((0 : Int32), o3.2) else callK (sM_tries o3.2) (fun o4 => letB (u2 o4 0 55 p1) (fun S5 => loopK (fun rc (x : (US × Int32)) => sM_years_L38 p2 p3 rc x.1 x.2) FUEL (S5, (0 : Int32)))))))))

def sM_steady_L56 (v4 : Int32) (rc5 : ((US × Int32) → Option (Int32 × US))) (o9 : US) (rc12 : ((Int32 × Int32) → Option (Int32 × US))) (v10 : Int32) (v11 : Int32) : Option (Int32 × US) :=
  (if (24 : Int32) ≤ v11 then (if v10 = 0 then rc5 (o9, (v4 + (1 : Int32))) else some (v4, o9)) else (if v10 = 0 then rc12 ((0 : Int32), (v11 + (1 : Int32))) else if v11 < 0 ∨ 24 ≤ v11.toNatClampNeg then none else (if ((50 : Int32) + v11) < 0 ∨ 98 ≤ ((50 : Int32) + v11).toNatClampNeg then none else ((if (o9 27 v11.toNatClampNeg) = (o9 14 ((50 : Int32) + v11).toNatClampNeg) then rc12 ((1 : Int32), (v11 + (1 : Int32))) else rc12 ((0 : Int32), (v11 + (1 : Int32))))))))
def sM_steady_L19 (v4 : Int32) (rc5 : ((US × Int32) → Option (Int32 × US))) (rc8 : ((US × Int32) → Option (Int32 × US))) (S6 : US) (v7 : Int32) : Option (Int32 × US) :=
  (if (24 : Int32) ≤ v7 then callK (sM_dayGoes S6 (49 : Int32)) (fun o9 => loopK (fun rc (x : (Int32 × Int32)) => sM_steady_L56 v4 rc5 o9 rc x.1 x.2) FUEL ((1 : Int32), (0 : Int32))) else if ((50 : Int32) + v7) < 0 ∨ 98 ≤ ((50 : Int32) + v7).toNatClampNeg then none else (if v7 < 0 ∨ 24 ≤ v7.toNatClampNeg then none else letB (u2 S6 27 v7.toNatClampNeg (S6 14 ((50 : Int32) + v7).toNatClampNeg)) (fun S13 => rc8 (S13, (v7 + (1 : Int32))))))
def sM_steady_L11 (rc5 : ((US × Int32) → Option (Int32 × US))) (S3 : US) (v4 : Int32) : Option (Int32 × US) :=
  (if (60 : Int32) < v4 then some ((-1 : Int32), S3) else loopK (fun rc (x : (US × Int32)) => sM_steady_L19 v4 rc5 rc x.1 x.2) FUEL (S3, (0 : Int32)))
def sM_steady (S : US) : Option (Int32 × US) :=
  letB (u2 S 0 0 (0 : Int32)) (fun S1 => callK (sM_tries S1) (fun o2 => loopK (fun rc (x : (US × Int32)) => sM_steady_L11 rc x.1 x.2) FUEL (o2, (1 : Int32))))

def sM_nearest_L19 (p1 : Int32) (o2 : (Bool × US)) (rc5 : ((Int32 × Int32) → Option (Int32 × US))) (v3 : Int32) (v4 : Int32) : Option (Int32 × US) :=
  (if (o2.2 0 2) ≤ v4 then some (v3, o2.2) else (if v3 = (-1 : Int32) then rc5 (v4, (v4 + (1 : Int32))) else if ((37 : Int32) + v4) < 0 ∨ 98 ≤ ((37 : Int32) + v4).toNatClampNeg then none else (callK (sM_stepsBy o2.2 (o2.2 14 ((37 : Int32) + v4).toNatClampNeg) p1) (fun o6 => if ((37 : Int32) + v3) < 0 ∨ 98 ≤ ((37 : Int32) + v3).toNatClampNeg then none else (callK (sM_stepsBy o2.2 (o2.2 14 ((37 : Int32) + v3).toNatClampNeg) p1) (fun o7 => (if o7 ≤ o6 then rc5 (v3, (v4 + (1 : Int32))) else rc5 (v4, (v4 + (1 : Int32))))))))))
def sM_nearest (S : US) (p1 : Int32) : Option (Int32 × US) :=
  letB (u2 S 0 0 (0 : Int32)) (fun S1 => callK (sM_isStretch S1 p1) (fun o2 => (if (bI o2.1) = 0 then some ((0 : Int32), o2.2) else loopK (fun rc (x : (Int32 × Int32)) => sM_nearest_L19 p1 o2 rc x.1 x.2) FUEL ((-1 : Int32), (0 : Int32)))))

def sM_far (S : US) (p1 : Int32) (p2 : Int32) : Option (Int32 × US) :=
  letB (u2 S 0 0 (0 : Int32)) (fun S1 => callK (sM_isStretch S1 p1) (fun o2 => (if (bI o2.1) = 0 then some ((0 : Int32), o2.2) else callK (sM_isStretch o2.2 p2) (fun o3 => (if (bI o3.1) = 0 then some ((0 : Int32), o3.2) else callK (sM_stepsBy o3.2 p1 p2) (fun o4 => some (o4, o3.2)))))))

def sM_worst_L29 (p1 : Int32) (rc8 : ((US × Int32 × Int32 × Int32) → Option (Int32 × US))) (S4 : US) (v5 : Int32) (v6 : Int32) (v7 : Int32) : Option (Int32 × US) :=
  (if (S4 0 1) ≤ v7 then some (v5, S4) else callK (sM_isGap S4 (0 : Int32) v7) (fun o9 => (if (bI o9) = 0 then callK (sM_tries S4) (fun o10 => callK (sM_loosens o10 (49 : Int32) v7 p1) (fun o11 => callK (sM_daysGo o11 (7 : Int32)) (fun o12 => callK (sM_openOnes o12 (49 : Int32)) (fun o13 => callK (sM_bits o13) (fun o14 => (if v6 < o14 then rc8 (o12, v7, o14, (v7 + (1 : Int32))) else rc8 (o12, v5, v6, (v7 + (1 : Int32))))))))) else rc8 (S4, v5, v6, (v7 + (1 : Int32))))))
def sM_worst (S : US) (p1 : Int32) : Option (Int32 × US) :=
  letB (u2 S 0 0 (0 : Int32)) (fun S1 => callK (sM_within p1 (1 : Int32) (50 : Int32)) (fun o2 => callK (sM_right S1 (bI o2) (1 : Int32)) (fun o3 => (if (bI o3.1) = 0 then some ((0 : Int32), o3.2) else loopK (fun rc (x : (US × Int32 × Int32 × Int32)) => sM_worst_L29 p1 rc x.1 x.2.1 x.2.2.1 x.2.2.2) FUEL (o3.2, (-1 : Int32), (-1 : Int32), (0 : Int32))))))

def sM_meet_L29 (p1 : Int32) (p2 : Int32) (rc7 : ((US × Int32) → Option (Int32 × US))) (S5 : US) (v6 : Int32) : Option (Int32 × US) :=
  (if (60 : Int32) < v6 then some ((-1 : Int32), S5) else (if p1 = p2 then some ((-1 : Int32), S5) else if ((86 : Int32) + p1) < 0 ∨ 98 ≤ ((86 : Int32) + p1).toNatClampNeg then none else (if ((86 : Int32) + p2) < 0 ∨ 98 ≤ ((86 : Int32) + p2).toNatClampNeg then none else ((if (S5 14 ((86 : Int32) + p1).toNatClampNeg) = (S5 14 ((86 : Int32) + p2).toNatClampNeg) then some (v6, S5) else callK (sM_dayGoes S5 (49 : Int32)) (fun o8 => rc7 (o8, (v6 + (1 : Int32)))))))))
def sM_meet (S : US) (p1 : Int32) (p2 : Int32) : Option (Int32 × US) :=
  letB (u2 S 0 0 (0 : Int32)) (fun S1 => callK (sM_isWoman S1 p1) (fun o2 => (if (bI o2.1) = 0 then some ((0 : Int32), o2.2) else callK (sM_isWoman o2.2 p2) (fun o3 => (if (bI o3.1) = 0 then some ((0 : Int32), o3.2) else callK (sM_tries o3.2) (fun o4 => loopK (fun rc (x : (US × Int32)) => sM_meet_L29 p1 p2 rc x.1 x.2) FUEL (o4, (0 : Int32))))))))

def sM_bare_L26 (o3 : US) (rc6 : ((Int32 × Int32) → Option (Int32 × US))) (v4 : Int32) (v5 : Int32) : Option (Int32 × US) :=
  (if (o3 0 2) ≤ v5 then some (v4, o3) else if ((92 : Int32) + v5) < 0 ∨ 98 ≤ ((92 : Int32) + v5).toNatClampNeg then none else ((if (o3 14 ((92 : Int32) + v5).toNatClampNeg) = 0 then rc6 ((v4 ||| ((1 : Int32) <<< (v5 &&& 31))), (v5 + (1 : Int32))) else rc6 ((v4 ||| (0 : Int32)), (v5 + (1 : Int32))))))
def sM_bare (S : US) (p1 : Int32) : Option (Int32 × US) :=
  letB (u2 S 0 0 (0 : Int32)) (fun S1 => callK (sM_isDays S1 p1 (0 : Int32) (1 : Int32)) (fun o2 => (if (bI o2.1) = 0 then some ((0 : Int32), o2.2) else callK (sM_goesTo o2.2 p1) (fun o3 => loopK (fun rc (x : (Int32 × Int32)) => sM_bare_L26 o3 rc x.1 x.2) FUEL ((0 : Int32), (0 : Int32))))))

def sM_load_L26 (p1 : Int32) (o3 : (Bool × US)) (rc6 : ((Int32 × Int32) → Option (Int32 × US))) (v4 : Int32) (v5 : Int32) : Option (Int32 × US) :=
  (if (o3.2 0 1) ≤ v5 then (if v4 = 0 then if (1 : Int32) < 0 ∨ 98 ≤ (1 : Int32).toNatClampNeg then none else ((if (o3.2 14 (1 : Int32).toNatClampNeg) < p1 then some (v4, o3.2) else some ((1 : Int32), o3.2))) else some (v4, o3.2)) else if ((1 : Int32) + v5) < 0 ∨ 98 ≤ ((1 : Int32) + v5).toNatClampNeg then none else ((if (o3.2 14 ((1 : Int32) + v5).toNatClampNeg) < p1 then rc6 ((v4 + (0 : Int32)), (v5 + (1 : Int32))) else callK (sM_ahead1 o3.2 v5) (fun o7 => if ((1 : Int32) + o7) < 0 ∨ 98 ≤ ((1 : Int32) + o7).toNatClampNeg then none else ((if p1 ≤ (o3.2 14 ((1 : Int32) + o7).toNatClampNeg) then rc6 ((v4 + (0 : Int32)), (v5 + (1 : Int32))) else rc6 ((v4 + (1 : Int32)), (v5 + (1 : Int32)))))))))
def sM_load (S : US) (p1 : Int32) : Option (Int32 × US) :=
  letB (u2 S 0 0 (0 : Int32)) (fun S1 => callK (sM_within p1 (0 : Int32) (99 : Int32)) (fun o2 => callK (sM_right S1 (bI o2) (1 : Int32)) (fun o3 => (if (bI o3.1) = 0 then some ((0 : Int32), o3.2) else loopK (fun rc (x : (Int32 × Int32)) => sM_load_L26 p1 o3 rc x.1 x.2) FUEL ((0 : Int32), (0 : Int32))))))

def sM_image_L28 (rc7 : ((US × Int32) → Option US)) (S5 : US) (v6 : Int32) : Option US :=
  (if (49 : Int32) ≤ v6 then callK (sM_copies S5 15 1960 29 1960) (fun o8 => callK (sM_copies o8 24 24 30 24) (fun o9 => some o9)) else if v6 < 0 ∨ 98 ≤ v6.toNatClampNeg then none else (if v6 < 0 ∨ 49 ≤ v6.toNatClampNeg then none else letB (u2 S5 28 v6.toNatClampNeg (S5 14 v6.toNatClampNeg)) (fun S10 => rc7 (S10, (v6 + (1 : Int32))))))
def sM_image (S : US) : Option US :=
  letB (u2 S 0 0 (0 : Int32)) (fun S1 => letB (u2 S1 0 57 (1 : Int32)) (fun S2 => letB (u2 S2 0 58 (S2 0 42)) (fun S3 => letB (u2 S3 0 59 (S3 0 51)) (fun S4 => loopK (fun rc (x : (US × Int32)) => sM_image_L28 rc x.1 x.2) FUEL (S4, (0 : Int32))))))

def sM_restore_L32 (rc6 : ((US × Int32) → Option (Bool × US))) (S4 : US) (v5 : Int32) : Option (Bool × US) :=
  (if (49 : Int32) ≤ v5 then callK (sM_copies S4 29 1960 15 1960) (fun o7 => callK (sM_copies o7 30 24 24 24) (fun o8 => some (true, o8))) else if v5 < 0 ∨ 49 ≤ v5.toNatClampNeg then none else (if v5 < 0 ∨ 98 ≤ v5.toNatClampNeg then none else letB (u2 S4 14 v5.toNatClampNeg (S4 28 v5.toNatClampNeg)) (fun S9 => rc6 (S9, (v5 + (1 : Int32))))))
def sM_restore (S : US) : Option (Bool × US) :=
  letB (u2 S 0 0 (0 : Int32)) (fun S1 => (if (S1 0 57) = 0 then some (false, S1) else letB (u2 S1 0 42 (S1 0 58)) (fun S2 => letB (u2 S2 0 51 (S2 0 59)) (fun S3 => loopK (fun rc (x : (US × Int32)) => sM_restore_L32 rc x.1 x.2) FUEL (S3, (0 : Int32))))))
