set_option maxRecDepth 100000
def t1_ring_J17 (y1 : Int32) : Option Int32 :=
  t1_right y1
def t1_ring (S : US) (ct : CT) (P : Nat → Nat → Option Nat) (h : AH) (p1 : Int32) : Option Int32 :=
  joinB (fun (x2 : Int32) => t1_ring_J17 x2) (fun j2 => (if p1 < 0 then j2 (0 : Int32) else (if (S (0) 6) < p1 then j2 (0 : Int32) else j2 (1 : Int32))))

def s1_ring_J17 (p1 : Int32) (S : US) (P : (Nat → Nat → Option Nat)) (ad : (Nat → Nat)) (G0 : GS) (ct : CT) (y1 : Int32) : Option (Int32 × US × GS × (Nat → Nat → Option Nat) × (Nat → Nat)) :=
  callK (s1_right y1) (fun o3 => letB (u2 S (0) 6 (0 : Int32)) (fun S4 => letB (u2 S4 (0) 7 (-1 : Int32)) (fun S5 => newB ct G0 13 (.inr (4, [.int 0, .null, .null, .null, .null, .int 0, .int 0, .int 0, .int 0, .int 0, .int 0, .int 0, .null])) (fun q6 G7 => callK (s5_init ct G7 q6 (some (ad (0))) p1) (fun o8 => tB (hC o8.1 q6 4 (callK (u5_read ct ad P S5 o8 q6) (fun x9 => hI x9.2.1 q6 4 7 (fun v10 => letB (u2 S5 (0) 7 v10) (fun S11 => if (0 : Int32) < 0 ∨ 3 ≤ (0 : Int32).toNatClampNeg then none else (if (0 : Int32) < 0 ∨ 3 ≤ (0 : Int32).toNatClampNeg then none else letB (u2 S11 (4) (0 : Int32).toNatClampNeg ((S11 (4) (0 : Int32).toNatClampNeg) + (1 : Int32))) (fun S12 => hI x9.2.1 x9.1 5 6 (fun v13 => some (v13, S12, x9.2, P, ad))))))))) (hC o8.1 q6 4 (callK (s5_read ct ad P S5 o8 q6) (fun o14 => onR o14.1 (fun b15 => rel [1] (fun _ => b15) o14.2 ad P S5 (fun S16 G17 P18 d19 => hR G17.1 q6 4 2 (fun r20 => onR r20 (fun b21 => rel iL (nwL G17 b21) G17 d19 P18 S16 (fun S22 G23 P24 d25 => newB ct G23 3 (.inr (10, [.int 0, .null, .int 0])) (fun q26 G27 => callK (sL_init ct G27 q26) (fun o28 => letB (p2 P24 0 9 (some q26)) (fun P29 => newB ct o28 3 (.inr (10, [.int 0, .null, .int 0])) (fun q30 G31 => callK (sL_init ct G31 q30) (fun o32 => letB (p2 P29 0 10 (some q30)) (fun P33 => letB (p2 P33 0 11 none) (fun P34 => some ((0 : Int32), S22, o32, P34, d25)))))))))))))))))))))
def s1_ring (ct : CT) (ad : Nat → Nat) (P : Nat → Nat → Option Nat) (S : US) (G0 : GS) (p1 : Int32) : Option (Int32 × US × GS × (Nat → Nat → Option Nat) × (Nat → Nat)) :=
  joinB (fun (x2 : Int32) => s1_ring_J17 p1 S P ad G0 ct x2) (fun j2 => (if p1 < 0 then j2 (0 : Int32) else (if (S (0) 6) < p1 then j2 (0 : Int32) else j2 (1 : Int32))))

def sW_ring (ct : CT) (ad : Nat → Nat) (P : Nat → Nat → Option Nat) (S : US) (G0 : GS) (p1 : Int32) (q0 : Nat) : Option (Int32 × US × GS × (Nat → Nat → Option Nat) × (Nat → Nat)) :=
  tB (bindT ct G0 (t1_ring S ct P G0.1 p1) (fun k G_ => (if k = 1 then none else some ((1 : Int32), S, G_, P, ad)))) (callK (s1_ring ct ad P S G0 p1) (fun o1 => hPutJ o1.2.2.1 q0 (0 : Int32) o1.1.toInt64 (fun G2 => some ((0 : Int32), o1.2.1, G2, o1.2.2.2.1, o1.2.2.2.2))))

def sW_count (ct : CT) (ad : Nat → Nat) (P : Nat → Nat → Option Nat) (S : US) (G0 : GS) (p1 : Int32) (q0 : Nat) : Option (Int32 × GS) :=
  tB (bindT ct G0 (t1_count S ct P G0.1 p1) (fun k G_ => (if k = 1 then some ((1 : Int32), G_) else none))) (callK (s1_count S P G0.1 p1) (fun o1 => hPutJ G0 q0 (0 : Int32) o1.toInt64 (fun G2 => some ((0 : Int32), G2))))

def sW_stretch (ct : CT) (ad : Nat → Nat) (P : Nat → Nat → Option Nat) (S : US) (G0 : GS) (p1 : Int32) (p2 : Int32) (q0 : Nat) : Option (Int32 × US × GS) :=
  tB (bindT ct G0 (t1_stretch S ct P G0.1 p1 p2) (fun k G_ => (if k = 1 then some ((1 : Int32), S, G_) else none))) (callK (s1_stretch S ct P G0.1 p1 p2) (fun o1 => hPutJ G0 q0 (0 : Int32) o1.1.toInt64 (fun G2 => some ((0 : Int32), o1.2, G2))))

def sW_woman (ct : CT) (ad : Nat → Nat) (P : Nat → Nat → Option Nat) (S : US) (G0 : GS) (p1 : Int32) (p2 : Int32) (q0 : Nat) : Option (Int32 × GS) :=
  tB (bindT ct G0 (t1_woman S ct P G0.1 p1 p2) (fun k G_ => (if k = 1 then some ((1 : Int32), G_) else none))) (callK (s1_woman S P G0.1 p1 p2) (fun o1 => hPutJ G0 q0 (0 : Int32) o1.toInt64 (fun G2 => some ((0 : Int32), G2))))

def sW_mend (ct : CT) (ad : Nat → Nat) (P : Nat → Nat → Option Nat) (S : US) (G0 : GS) (p1 : Int32) (q0 : Nat) : Option (Int32 × US × GS) :=
  tB (bindT ct G0 (t1_mend S ct P G0.1 p1) (fun k G_ => (if k = 1 then some ((1 : Int32), S, G_) else none))) (callK (s1_mend ct ad P S G0 p1) (fun o1 => hPutJ o1.2.2 q0 (0 : Int32) o1.1.toInt64 (fun G2 => some ((0 : Int32), o1.2.1, G2))))

def sW_go (ct : CT) (ad : Nat → Nat) (P : Nat → Nat → Option Nat) (S : US) (G0 : GS) (p1 : Int32) (p2 : Int32) (q0 : Nat) : Option (Int32 × US × GS) :=
  tB (bindT ct G0 (t1_go S ct P G0.1 p1 p2) (fun k G_ => (if k = 1 then some ((1 : Int32), S, G_) else none))) (callK (s1_go ct ad P S G0 p1 p2) (fun o1 => hPutJ o1.2.2 q0 (0 : Int32) o1.1.toInt64 (fun G2 => some ((0 : Int32), o1.2.1, G2))))

def sW_stitch (ct : CT) (ad : Nat → Nat) (P : Nat → Nat → Option Nat) (S : US) (G0 : GS) (p1 : Int32) (p2 : Int32) (q0 : Nat) : Option (Int32 × US × GS) :=
  tB (bindT ct G0 (t1_stitch S ct P G0.1 p1 p2) (fun k G_ => (if k = 1 then some ((1 : Int32), S, G_) else none))) (callK (s1_stitch ct ad P S G0 p1 p2) (fun o1 => hPutJ o1.2.2 q0 (0 : Int32) o1.1.toInt64 (fun G2 => some ((0 : Int32), o1.2.1, G2))))

def sW_thread (ct : CT) (ad : Nat → Nat) (P : Nat → Nat → Option Nat) (S : US) (G0 : GS) (p1 : Int32) (p2 : Int32) (q0 : Nat) : Option (Int32 × US × GS) :=
  tB (bindT ct G0 (t1_thread S ct P G0.1 p1 p2) (fun k G_ => (if k = 1 then some ((1 : Int32), S, G_) else none))) (callK (s1_thread ct ad P S G0 p1 p2) (fun o1 => hPutJ o1.2.2 q0 (0 : Int32) o1.1.toInt64 (fun G2 => some ((0 : Int32), o1.2.1, G2))))

def sW_tear (ct : CT) (ad : Nat → Nat) (P : Nat → Nat → Option Nat) (S : US) (G0 : GS) (p1 : Int32) (p2 : Int32) (q0 : Nat) : Option (Int32 × US × GS) :=
  tB (bindT ct G0 (t1_tear S ct P G0.1 p1 p2) (fun k G_ => (if k = 1 then some ((1 : Int32), S, G_) else none))) (callK (s1_tear ct ad P S G0 p1 p2) (fun o1 => hPutJ o1.2.2 q0 (0 : Int32) o1.1.toInt64 (fun G2 => some ((0 : Int32), o1.2.1, G2))))

def sW_then (ct : CT) (ad : Nat → Nat) (P : Nat → Nat → Option Nat) (S : US) (G0 : GS) (p1 : Int32) (p2 : Int32) (p3 : Int32) (q0 : Nat) : Option (Int32 × US × GS) :=
  tB (bindT ct G0 (t1_then S ct P G0.1 p1 p2 p3) (fun k G_ => (if k = 1 then some ((1 : Int32), S, G_) else some ((2 : Int32), S, G_)))) (callK (s1_then S ct P G0.1 p1 p2 p3) (fun o1 => hPutJ G0 q0 (0 : Int32) o1.1.toInt64 (fun G2 => some ((0 : Int32), o1.2, G2))))

def sW_later (ct : CT) (ad : Nat → Nat) (P : Nat → Nat → Option Nat) (S : US) (G0 : GS) (p1 : Int32) (p2 : Int32) (q0 : Nat) : Option (Int32 × US × GS) :=
  tB (bindT ct G0 (t1_later S ct P G0.1 p1 p2) (fun k G_ => (if k = 1 then some ((1 : Int32), S, G_) else some ((2 : Int32), S, G_)))) (callK (s1_later S ct P G0.1 p1 p2) (fun o1 => hPutJ G0 q0 (0 : Int32) o1.1.toInt64 (fun G2 => some ((0 : Int32), o1.2, G2))))

def sW_opens (ct : CT) (ad : Nat → Nat) (P : Nat → Nat → Option Nat) (S : US) (G0 : GS) (p1 : Int32) (q0 : Nat) : Option (Int32 × US × GS) :=
  tB (bindT ct G0 (t1_opens S ct P G0.1 p1) (fun k G_ => (if k = 1 then some ((1 : Int32), S, G_) else none))) (callK (s1_opens S ct P G0.1 p1) (fun o1 => hPutJ G0 q0 (0 : Int32) o1.1.toInt64 (fun G2 => some ((0 : Int32), o1.2, G2))))

def sW_where (ct : CT) (ad : Nat → Nat) (P : Nat → Nat → Option Nat) (S : US) (G0 : GS) (p1 : Int32) (p2 : Int32) (p3 : Int32) (q0 : Nat) : Option (Int32 × US × GS) :=
  tB (bindT ct G0 (t1_where S ct P G0.1 p1 p2 p3) (fun k G_ => (if k = 1 then some ((1 : Int32), S, G_) else some ((2 : Int32), S, G_)))) (callK (s1_where S ct P G0.1 p1 p2 p3) (fun o1 => hPutJ G0 q0 (0 : Int32) o1.1.toInt64 (fun G2 => some ((0 : Int32), o1.2, G2))))

def sW_toHold (ct : CT) (ad : Nat → Nat) (P : Nat → Nat → Option Nat) (S : US) (G0 : GS) (p1 : Int32) (p2 : Int32) (q0 : Nat) : Option (Int32 × US × GS) :=
  tB (bindT ct G0 (t1_toHold S ct P G0.1 p1 p2) (fun k G_ => (if k = 1 then some ((1 : Int32), S, G_) else some ((2 : Int32), S, G_)))) (callK (s1_toHold S ct P G0.1 p1 p2) (fun o1 => hPutJ G0 q0 (0 : Int32) o1.1.toInt64 (fun G2 => some ((0 : Int32), o1.2, G2))))

def sW_toSend (ct : CT) (ad : Nat → Nat) (P : Nat → Nat → Option Nat) (S : US) (G0 : GS) (p1 : Int32) (p2 : Int32) (p3 : Int32) (q0 : Nat) : Option (Int32 × US × GS) :=
  tB (bindT ct G0 (t1_toSend S ct P G0.1 p1 p2 p3) (fun k G_ => (if k = 1 then some ((1 : Int32), S, G_) else some ((2 : Int32), S, G_)))) (callK (s1_toSend S ct P G0.1 p1 p2 p3) (fun o1 => hPutJ G0 q0 (0 : Int32) o1.1.toInt64 (fun G2 => some ((0 : Int32), o1.2, G2))))

def sW_bestStitch (ct : CT) (ad : Nat → Nat) (P : Nat → Nat → Option Nat) (S : US) (G0 : GS) (p1 : Int32) (p2 : Int32) (q0 : Nat) : Option (Int32 × US × GS) :=
  tB (bindT ct G0 (t1_bestStitch S ct P G0.1 p1 p2) (fun k G_ => (if k = 1 then some ((1 : Int32), S, G_) else some ((2 : Int32), S, G_)))) (callK (s1_bestStitch S ct P G0.1 p1 p2) (fun o1 => hPutJ G0 q0 (0 : Int32) o1.1.toInt64 (fun G2 => some ((0 : Int32), o1.2, G2))))

def sW_sent (ct : CT) (ad : Nat → Nat) (P : Nat → Nat → Option Nat) (S : US) (G0 : GS) (p1 : Int32) (p2 : Int32) (q0 : Nat) : Option (Int32 × GS) :=
  tB (bindT ct G0 (t1_sent S ct P G0.1 p1 p2) (fun k G_ => (if k = 1 then some ((1 : Int32), G_) else some ((2 : Int32), G_)))) (callK (s1_sent ct ad P S G0 p1 p2) (fun o1 => hPutJ o1.2 q0 (0 : Int32) o1.1.toInt64 (fun G2 => some ((0 : Int32), G2))))

def sW_closed (ct : CT) (ad : Nat → Nat) (P : Nat → Nat → Option Nat) (S : US) (G0 : GS) (p1 : Int32) (q0 : Nat) : Option (Int32 × GS) :=
  tB (bindT ct G0 (t1_closed S ct P G0.1 p1) (fun k G_ => (if k = 1 then some ((1 : Int32), G_) else none))) (callK (s1_closed S p1) (fun o1 => hPutJ G0 q0 (0 : Int32) o1.toInt64 (fun G2 => some ((0 : Int32), G2))))

def sW_tight (ct : CT) (ad : Nat → Nat) (P : Nat → Nat → Option Nat) (S : US) (G0 : GS) (p1 : Int32) (p2 : Int32) (q0 : Nat) : Option (Int32 × GS) :=
  tB (bindT ct G0 (t1_tight S ct P G0.1 p1 p2) (fun k G_ => (if k = 1 then some ((1 : Int32), G_) else some ((2 : Int32), G_)))) (callK (s1_tight S p1 p2) (fun o1 => hPutJ G0 q0 (0 : Int32) o1.toInt64 (fun G2 => some ((0 : Int32), G2))))

def sW_readings (ct : CT) (ad : Nat → Nat) (P : Nat → Nat → Option Nat) (S : US) (G0 : GS) (p1 : Int32) (p2 : Int32) (q0 : Nat) : Option (Int32 × GS) :=
  tB (bindT ct G0 (t1_readings S ct P G0.1 p1 p2) (fun k G_ => (if k = 1 then some ((1 : Int32), G_) else some ((2 : Int32), G_)))) (callK (s1_readings ct ad P S G0 p1 p2) (fun o1 => hPutJ o1.2 q0 (0 : Int32) o1.1.toInt64 (fun G2 => some ((0 : Int32), G2))))

def sW_see (ct : CT) (ad : Nat → Nat) (P : Nat → Nat → Option Nat) (S : US) (G0 : GS) (p1 : Int32) (p2 : Int32) (p3 : Int32) (q0 : Nat) : Option (Int32 × US × GS) :=
  tB (bindT ct G0 (t1_see S ct P G0.1 p1 p2 p3) (fun k G_ => (if k = 1 then some ((1 : Int32), S, G_) else none))) (callK (s1_see ct ad P S G0 p1 p2 p3) (fun o1 => hPutJ o1.2.2 q0 (0 : Int32) o1.1.toInt64 (fun G2 => some ((0 : Int32), o1.2.1, G2))))

def sW_torn (ct : CT) (ad : Nat → Nat) (P : Nat → Nat → Option Nat) (S : US) (G0 : GS) (p1 : Int32) (q0 : Nat) : Option (Int32 × US × GS) :=
  tB (bindT ct G0 (t1_torn S ct P G0.1 p1) (fun k G_ => (if k = 1 then some ((1 : Int32), S, G_) else none))) (callK (s1_torn ct ad P S G0 p1) (fun o1 => hPutJ o1.2.2 q0 (0 : Int32) o1.1.toInt64 (fun G2 => some ((0 : Int32), o1.2.1, G2))))

def sW_look (ct : CT) (ad : Nat → Nat) (P : Nat → Nat → Option Nat) (S : US) (G0 : GS) (p1 : Int32) (q0 : Nat) : Option (Int32 × US × GS) :=
  tB (bindT ct G0 (t1_look S ct P G0.1 p1) (fun k G_ => (if k = 1 then some ((1 : Int32), S, G_) else none))) (callK (s1_look ct ad P S G0 p1) (fun o1 => hPutJ o1.2.2 q0 (0 : Int32) o1.1.toInt64 (fun G2 => some ((0 : Int32), o1.2.1, G2))))

def sW_gales (ct : CT) (ad : Nat → Nat) (P : Nat → Nat → Option Nat) (S : US) (G0 : GS) (p1 : Int32) (p2 : Int32) (q0 : Nat) : Option (Int32 × US × GS) :=
  tB (bindT ct G0 (t1_gales S ct P G0.1 p1 p2) (fun k G_ => (if k = 1 then none else some ((1 : Int32), S, G_)))) (callK (s1_gales S ct P G0.1 p1 p2) (fun o1 => hPutJ G0 q0 (0 : Int32) o1.1.toInt64 (fun G2 => some ((0 : Int32), o1.2, G2))))

def sW_game (ct : CT) (ad : Nat → Nat) (P : Nat → Nat → Option Nat) (S : US) (G0 : GS) (p1 : Int32) (p2 : Int32) (p3 : Int32) (q0 : Nat) : Option (Int32 × US × GS) :=
  tB (bindT ct G0 (t1_game S ct P G0.1 p1 p2 p3) (fun k G_ => (if k = 1 then some ((1 : Int32), S, G_) else some ((2 : Int32), S, G_)))) (callK (s1_game ct ad P S G0 p1 p2 p3) (fun o1 => hPutJ o1.2.2 q0 (0 : Int32) o1.1.toInt64 (fun G2 => some ((0 : Int32), o1.2.1, G2))))

def sW_years (ct : CT) (ad : Nat → Nat) (P : Nat → Nat → Option Nat) (S : US) (G0 : GS) (p1 : Int32) (p2 : Int32) (p3 : Int32) (q0 : Nat) : Option (Int32 × US × GS) :=
  tB (bindT ct G0 (t1_years S ct P G0.1 p1 p2 p3) (fun k G_ => (if k = 1 then some ((1 : Int32), S, G_) else some ((2 : Int32), S, G_)))) (callK (s1_years S ct P G0.1 p1 p2 p3) (fun o1 => hPutJ G0 q0 (0 : Int32) o1.1.toInt64 (fun G2 => some ((0 : Int32), o1.2, G2))))

def sW_nearest (ct : CT) (ad : Nat → Nat) (P : Nat → Nat → Option Nat) (S : US) (G0 : GS) (p1 : Int32) (q0 : Nat) : Option (Int32 × GS) :=
  tB (bindT ct G0 (t1_nearest S ct P G0.1 p1) (fun k G_ => (if k = 1 then some ((1 : Int32), G_) else none))) (callK (s1_nearest S P G0.1 p1) (fun o1 => hPutJ G0 q0 (0 : Int32) o1.toInt64 (fun G2 => some ((0 : Int32), G2))))

def sW_far (ct : CT) (ad : Nat → Nat) (P : Nat → Nat → Option Nat) (S : US) (G0 : GS) (p1 : Int32) (p2 : Int32) (q0 : Nat) : Option (Int32 × GS) :=
  tB (bindT ct G0 (t1_far S ct P G0.1 p1 p2) (fun k G_ => (if k = 1 then some ((1 : Int32), G_) else none))) (callK (s1_far S p1 p2) (fun o1 => hPutJ G0 q0 (0 : Int32) o1.toInt64 (fun G2 => some ((0 : Int32), G2))))

def sW_worst (ct : CT) (ad : Nat → Nat) (P : Nat → Nat → Option Nat) (S : US) (G0 : GS) (p1 : Int32) (q0 : Nat) : Option (Int32 × US × GS) :=
  tB (bindT ct G0 (t1_worst S ct P G0.1 p1) (fun k G_ => (if k = 1 then none else some ((1 : Int32), S, G_)))) (callK (s1_worst S ct P G0.1 p1) (fun o1 => hPutJ G0 q0 (0 : Int32) o1.1.toInt64 (fun G2 => some ((0 : Int32), o1.2, G2))))

def sW_meet (ct : CT) (ad : Nat → Nat) (P : Nat → Nat → Option Nat) (S : US) (G0 : GS) (p1 : Int32) (p2 : Int32) (q0 : Nat) : Option (Int32 × US × GS) :=
  tB (bindT ct G0 (t1_meet S ct P G0.1 p1 p2) (fun k G_ => (if k = 1 then some ((1 : Int32), S, G_) else none))) (callK (s1_meet S ct P G0.1 p1 p2) (fun o1 => hPutJ G0 q0 (0 : Int32) o1.1.toInt64 (fun G2 => some ((0 : Int32), o1.2, G2))))

def sW_bare (ct : CT) (ad : Nat → Nat) (P : Nat → Nat → Option Nat) (S : US) (G0 : GS) (p1 : Int32) (q0 : Nat) : Option (Int32 × US × GS) :=
  tB (bindT ct G0 (t1_bare S ct P G0.1 p1) (fun k G_ => (if k = 1 then none else some ((1 : Int32), S, G_)))) (callK (s1_bare S ct P G0.1 p1) (fun o1 => hPutJ G0 q0 (0 : Int32) o1.1.toInt64 (fun G2 => some ((0 : Int32), o1.2, G2))))

def sW_load (ct : CT) (ad : Nat → Nat) (P : Nat → Nat → Option Nat) (S : US) (G0 : GS) (p1 : Int32) (q0 : Nat) : Option (Int32 × GS) :=
  tB (bindT ct G0 (t1_load S ct P G0.1 p1) (fun k G_ => (if k = 1 then none else some ((1 : Int32), G_)))) (callK (s1_load S p1) (fun o1 => hPutJ G0 q0 (0 : Int32) o1.toInt64 (fun G2 => some ((0 : Int32), G2))))
