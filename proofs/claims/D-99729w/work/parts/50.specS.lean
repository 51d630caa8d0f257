set_option maxRecDepth 100000
def t1_found (p1 : Int32) : Option Int32 :=
  (if p1 = 0 then some (1 : Int32) else none)

def t1_right (p1 : Int32) : Option Int32 :=
  (if p1 = 0 then some (2 : Int32) else none)

def t1_oneOf (p1 : Int32) (p2 : Int32) : Option Int32 :=
  callK (s1_in p1 (0 : Int32) p2) (fun o1 => t1_found (bI o1))

def t1_aStretch (S : US) (ct : CT) (P : Nat → Nat → Option Nat) (h : AH) (p1 : Int32) : Option Int32 :=
  callK (s1_in p1 (0 : Int32) ((S (1) 2) - (1 : Int32))) (fun o1 => t1_found (bI o1))

def t1_aWoman (S : US) (ct : CT) (P : Nat → Nat → Option Nat) (h : AH) (p1 : Int32) : Option Int32 :=
  callK (s2_women S P h) (fun o1 => callK (s1_in p1 (0 : Int32) (o1 - (1 : Int32))) (fun o2 => t1_found (bI o2)))

def t1_count (S : US) (ct : CT) (P : Nat → Nat → Option Nat) (h : AH) (p1 : Int32) : Option Int32 :=
  (if p1 = (0 : Int32) then none else (if p1 = (1 : Int32) then none else (if p1 = (2 : Int32) then none else (if p1 = (3 : Int32) then none else (if p1 = (4 : Int32) then none else (if p1 = (5 : Int32) then none else (if p1 = (6 : Int32) then none else (if p1 = (7 : Int32) then none else (if p1 = (8 : Int32) then none else (if p1 = (9 : Int32) then none else (if p1 = (10 : Int32) then none else (if p1 = (11 : Int32) then none else callK (s1_in p1 (12 : Int32) (14 : Int32)) (fun o1 => t1_found (bI o1))))))))))))))

def t1_stretch (S : US) (ct : CT) (P : Nat → Nat → Option Nat) (h : AH) (p1 : Int32) (p2 : Int32) : Option Int32 :=
  tB (t1_aStretch S ct P h p1) (callK (s1_aStretch S p1) (fun o1 => (if p2 = (0 : Int32) then none else (if p2 = (1 : Int32) then none else (if p2 = (2 : Int32) then none else (if p2 = (3 : Int32) then none else (if p2 = (4 : Int32) then none else (if p2 = (5 : Int32) then t1_found (1 : Int32) else t1_found (0 : Int32)))))))))

def t1_woman (S : US) (ct : CT) (P : Nat → Nat → Option Nat) (h : AH) (p1 : Int32) (p2 : Int32) : Option Int32 :=
  tB (t1_aWoman S ct P h p1) (callK (s1_aWoman S P h p1) (fun o1 => t1_oneOf p2 (2 : Int32)))

def t1_mend (S : US) (ct : CT) (P : Nat → Nat → Option Nat) (h : AH) (p1 : Int32) : Option Int32 :=
  t1_aWoman S ct P h p1

def t1_go (S : US) (ct : CT) (P : Nat → Nat → Option Nat) (h : AH) (p1 : Int32) (p2 : Int32) : Option Int32 :=
  tB (t1_aWoman S ct P h p1) (callK (s1_aWoman S P h p1) (fun o1 => t1_aStretch S ct P h p2))

def t1_stitch (S : US) (ct : CT) (P : Nat → Nat → Option Nat) (h : AH) (p1 : Int32) (p2 : Int32) : Option Int32 :=
  t1_aStretch S ct P h p1

def t1_thread (S : US) (ct : CT) (P : Nat → Nat → Option Nat) (h : AH) (p1 : Int32) (p2 : Int32) : Option Int32 :=
  t1_aWoman S ct P h p1

def t1_tear (S : US) (ct : CT) (P : Nat → Nat → Option Nat) (h : AH) (p1 : Int32) (p2 : Int32) : Option Int32 :=
  t1_aStretch S ct P h p1

def t1_then (S : US) (ct : CT) (P : Nat → Nat → Option Nat) (h : AH) (p1 : Int32) (p2 : Int32) (p3 : Int32) : Option Int32 :=
  tB (t1_aStretch S ct P h p1) (callK (s1_aStretch S p1) (fun o1 => tB (t1_oneOf p3 (1 : Int32)) (callK (s1_oneOf p3 (1 : Int32)) (fun o2 => callK (s1_in p2 (0 : Int32) (60 : Int32)) (fun o3 => t1_right (bI o3))))))

def t1_later (S : US) (ct : CT) (P : Nat → Nat → Option Nat) (h : AH) (p1 : Int32) (p2 : Int32) : Option Int32 :=
  tB (t1_oneOf p2 (3 : Int32)) (callK (s1_oneOf p2 (3 : Int32)) (fun o1 => callK (s1_in p1 (0 : Int32) (60 : Int32)) (fun o2 => t1_right (bI o2))))

def t1_opens (S : US) (ct : CT) (P : Nat → Nat → Option Nat) (h : AH) (p1 : Int32) : Option Int32 :=
  t1_aStretch S ct P h p1

def t1_where (S : US) (ct : CT) (P : Nat → Nat → Option Nat) (h : AH) (p1 : Int32) (p2 : Int32) (p3 : Int32) : Option Int32 :=
  tB (t1_aWoman S ct P h p1) (callK (s1_aWoman S P h p1) (fun o1 => tB (t1_oneOf p3 (1 : Int32)) (callK (s1_oneOf p3 (1 : Int32)) (fun o2 => callK (s1_in p2 (0 : Int32) (60 : Int32)) (fun o3 => t1_right (bI o3))))))

def t1_toHold (S : US) (ct : CT) (P : Nat → Nat → Option Nat) (h : AH) (p1 : Int32) (p2 : Int32) : Option Int32 :=
  tB (t1_aStretch S ct P h p1) (callK (s1_aStretch S p1) (fun o1 => callK (s1_in p2 (1 : Int32) (60 : Int32)) (fun o2 => t1_right (bI o2))))

def t1_toSend (S : US) (ct : CT) (P : Nat → Nat → Option Nat) (h : AH) (p1 : Int32) (p2 : Int32) (p3 : Int32) : Option Int32 :=
  tB (t1_aWoman S ct P h p1) (callK (s1_aWoman S P h p1) (fun o1 => tB (t1_oneOf p3 (1 : Int32)) (callK (s1_oneOf p3 (1 : Int32)) (fun o2 => callK (s1_in p2 (1 : Int32) (60 : Int32)) (fun o3 => t1_right (bI o3))))))

def t1_bestStitch (S : US) (ct : CT) (P : Nat → Nat → Option Nat) (h : AH) (p1 : Int32) (p2 : Int32) : Option Int32 :=
  tB (t1_aStretch S ct P h p1) (callK (s1_aStretch S p1) (fun o1 => callK (s1_in p2 (1 : Int32) (60 : Int32)) (fun o2 => t1_right (bI o2))))

def t1_sent_J71 (y5 : Int32) : Option Int32 :=
  t1_found y5
def t1_sent_J33 (p1 : Int32) (p2 : Int32) (S : US) (y2 : Int32) : Option Int32 :=
  tB (t1_right y2) (callK (s1_right y2) (fun o4 => joinB (fun (x6 : Int32) => t1_sent_J71 x6) (fun j6 => (if p2 = (-1 : Int32) then j6 (1 : Int32) else callK (s1_in p2 (0 : Int32) ((S (1) 2) - (1 : Int32))) (fun o7 => (if (bI o7) = 0 then j6 (0 : Int32) else callK (s1_isOf p1 p2) (fun o8 => (if (bI o8) = 0 then j6 (0 : Int32) else j6 (1 : Int32)))))))))
def t1_sent (S : US) (ct : CT) (P : Nat → Nat → Option Nat) (h : AH) (p1 : Int32) (p2 : Int32) : Option Int32 :=
  callK (s1_in p1 (0 : Int32) (((1 : Int32) <<< ((S (1) 2) &&& 31)) - (1 : Int32))) (fun o1 => joinB (fun (x3 : Int32) => t1_sent_J33 p1 p2 S x3) (fun j3 => (if (bI o1) = 0 then j3 (0 : Int32) else callK (sN_bitCount p1) (fun o9 => (if (6 : Int32) < o9 then j3 (0 : Int32) else j3 (1 : Int32))))))

def t1_closed (S : US) (ct : CT) (P : Nat → Nat → Option Nat) (h : AH) (p1 : Int32) : Option Int32 :=
  t1_oneOf p1 (1 : Int32)

def t1_tight (S : US) (ct : CT) (P : Nat → Nat → Option Nat) (h : AH) (p1 : Int32) (p2 : Int32) : Option Int32 :=
  tB (t1_oneOf p2 (1 : Int32)) (callK (s1_oneOf p2 (1 : Int32)) (fun o1 => callK (s1_in p1 (1 : Int32) (12 : Int32)) (fun o2 => t1_right (bI o2))))

def t1_readings (S : US) (ct : CT) (P : Nat → Nat → Option Nat) (h : AH) (p1 : Int32) (p2 : Int32) : Option Int32 :=
  tB (t1_oneOf p2 (1 : Int32)) (callK (s1_oneOf p2 (1 : Int32)) (fun o1 => callK (s1_in p1 (0 : Int32) (999999999 : Int32)) (fun o2 => t1_right (bI o2))))

def t1_see (S : US) (ct : CT) (P : Nat → Nat → Option Nat) (h : AH) (p1 : Int32) (p2 : Int32) (p3 : Int32) : Option Int32 :=
  t1_aStretch S ct P h p1

def t1_torn (S : US) (ct : CT) (P : Nat → Nat → Option Nat) (h : AH) (p1 : Int32) : Option Int32 :=
  t1_oneOf p1 (2 : Int32)

def t1_look (S : US) (ct : CT) (P : Nat → Nat → Option Nat) (h : AH) (p1 : Int32) : Option Int32 :=
  t1_oneOf p1 (1 : Int32)

def t1_gales_J24 (y2 : Int32) : Option Int32 :=
  t1_right y2
def t1_gales (S : US) (ct : CT) (P : Nat → Nat → Option Nat) (h : AH) (p1 : Int32) (p2 : Int32) : Option Int32 :=
  callK (s1_in p1 (1 : Int32) (5 : Int32)) (fun o1 => joinB (fun (x3 : Int32) => t1_gales_J24 x3) (fun j3 => (if (bI o1) = 0 then j3 (0 : Int32) else callK (s1_in p2 (0 : Int32) (10 : Int32)) (fun o4 => (if (bI o4) = 0 then j3 (0 : Int32) else j3 (1 : Int32))))))

def t1_game_J25 (y4 : Int32) : Option Int32 :=
  t1_right y4
def t1_game (S : US) (ct : CT) (P : Nat → Nat → Option Nat) (h : AH) (p1 : Int32) (p2 : Int32) (p3 : Int32) : Option Int32 :=
  tB (t1_aWoman S ct P h p1) (callK (s1_aWoman S P h p1) (fun o1 => tB (t1_aWoman S ct P h p2) (callK (s1_aWoman S P h p2) (fun o2 => tB (t1_oneOf p3 (1 : Int32)) (callK (s1_oneOf p3 (1 : Int32)) (fun o3 => joinB (fun (x5 : Int32) => t1_game_J25 x5) (fun j5 => (if p1 = p2 then j5 (0 : Int32) else j5 (1 : Int32)))))))))

def t1_years (S : US) (ct : CT) (P : Nat → Nat → Option Nat) (h : AH) (p1 : Int32) (p2 : Int32) (p3 : Int32) : Option Int32 :=
  tB (t1_oneOf p3 (2 : Int32)) (callK (s1_oneOf p3 (2 : Int32)) (fun o1 => callK (s1_in p2 (0 : Int32) (60 : Int32)) (fun o2 => t1_right (bI o2))))

def t1_nearest (S : US) (ct : CT) (P : Nat → Nat → Option Nat) (h : AH) (p1 : Int32) : Option Int32 :=
  t1_aStretch S ct P h p1

def t1_far (S : US) (ct : CT) (P : Nat → Nat → Option Nat) (h : AH) (p1 : Int32) (p2 : Int32) : Option Int32 :=
  tB (t1_aStretch S ct P h p1) (callK (s1_aStretch S p1) (fun o1 => t1_aStretch S ct P h p2))

def t1_worst (S : US) (ct : CT) (P : Nat → Nat → Option Nat) (h : AH) (p1 : Int32) : Option Int32 :=
  callK (s1_in p1 (1 : Int32) (50 : Int32)) (fun o1 => t1_right (bI o1))

def t1_meet (S : US) (ct : CT) (P : Nat → Nat → Option Nat) (h : AH) (p1 : Int32) (p2 : Int32) : Option Int32 :=
  tB (t1_aWoman S ct P h p1) (callK (s1_aWoman S P h p1) (fun o1 => t1_aWoman S ct P h p2))

def t1_bare (S : US) (ct : CT) (P : Nat → Nat → Option Nat) (h : AH) (p1 : Int32) : Option Int32 :=
  callK (s1_in p1 (0 : Int32) (60 : Int32)) (fun o1 => t1_right (bI o1))

def t1_load (S : US) (ct : CT) (P : Nat → Nat → Option Nat) (h : AH) (p1 : Int32) : Option Int32 :=
  callK (s1_in p1 (0 : Int32) (99 : Int32)) (fun o1 => t1_right (bI o1))
