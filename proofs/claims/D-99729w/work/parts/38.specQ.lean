set_option maxRecDepth 100000
def s7_init (ct : CT) (G0 : GS) (q0 : Nat) (p1 : (Option Nat)) : Option GS :=
  newB ct G0 3 (.inr (10, [.int 0, .null, .int 0])) (fun q1 G2 => callK (sL_init ct G2 q1) (fun o3 => hPut o3 q0 6 0 (.ref q1) (fun G4 => newB ct G4 4 (.inr (11, [.null, .int 0, .int 0, .int 0])) (fun q5 G6 => callK (sB_init ct G6 q5) (fun o7 => hPut o7 q0 6 1 (.ref q5) (fun G8 => hR G8.1 q0 6 0 (fun r9 => onR r9 (fun b10 => hC G8.1 b10 10 (callK (sL_add ct G8 b10 p1) (fun o11 => some o11.2))))))))))

def s7_add (ct : CT) (G0 : GS) (q0 : Nat) (p1 : Int32) (p2 : (Option Nat)) : Option GS :=
  hR G0.1 q0 6 1 (fun r1 => onR r1 (fun b2 => hC G0.1 b2 11 (callK (sB_append ct G0 b2 p1) (fun o3 => hR o3.2.1 q0 6 0 (fun r4 => onR r4 (fun b5 => hC o3.2.1 b5 10 (callK (sL_add ct o3.2 b5 p2) (fun o6 => some o6.2))))))))

def s7_plain (ct : CT) (G0 : GS) (q0 : Nat) : Option ((Option Nat) × GS) :=
  hR G0.1 q0 6 0 (fun r1 => onR r1 (fun b2 => hC G0.1 b2 10 (callK (sL_size G0.1 b2) (fun o3 => (if o3 = (1 : Int32) then hR G0.1 q0 6 0 (fun r4 => onR r4 (fun b5 => hC G0.1 b5 10 (callK (sL_get G0.1 b5 (0 : Int32)) (fun o6 => onR o6 (fun b7 => hF G0.1 b7 (some ((some b7), G0))))))) else some ((some q0), G0))))))

def s8_init (ct : CT) (G0 : GS) (q0 : Nat) (p1 : Int32) : Option GS :=
  hPut G0 q0 7 0 (.int p1) (fun G1 => some G1)

def s9_init (ct : CT) (G0 : GS) (q0 : Nat) (p1 : Int32) : Option GS :=
  hPut G0 q0 8 0 (.int p1) (fun G1 => some G1)

def s10_init (ct : CT) (G0 : GS) (q0 : Nat) (p1 : (Option Nat)) : Option GS :=
  hPut G0 q0 9 0 (va_rf p1) (fun G1 => some G1)
