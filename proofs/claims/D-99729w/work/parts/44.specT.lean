set_option maxRecDepth 100000
def sX_init_2_J41 (q0 : Nat) (p1 : (Option Nat)) (p2 : (Option Nat)) (p3 : Int32) (G4 : GS) : Option GS :=
  hPut G4 q0 5 3 (va_rf p1) (fun G7 => hPut G7 q0 5 0 (va_rf p2) (fun G8 => (if p3 = 0 then hPut G8 q0 5 2 (.null) (fun G9 => some G9) else some G8)))
def sX_init_2 (ct : CT) (G0 : GS) (q0 : Nat) (p1 : (Option Nat)) (p2 : (Option Nat)) (p3 : Int32) (p4 : Int32) : Option GS :=
  hPut G0 q0 5 0 (.ref q0) (fun G1 => hPut G1 q0 5 1 (va_rf (rfN ct 9)) (fun G2 => hPut G2 q0 5 2 (va_rf (rfN ct 11)) (fun G3 => joinB (fun (x5 : GS) => sX_init_2_J41 q0 p1 p2 p3 x5) (fun j5 => (if p4 = 0 then hPut G3 q0 5 1 (.null) (fun G6 => j5 G6) else none)))))

def sE_init_2 (ct : CT) (G0 : GS) (q0 : Nat) (p1 : (Option Nat)) (p2 : (Option Nat)) (p3 : Int32) (p4 : Int32) : Option GS :=
  callK (sX_init_2 ct G0 q0 p1 p2 p3 p4) (fun o1 => some o1)

def s6_init (ct : CT) (G0 : GS) (q0 : Nat) (p1 : Int32) : Option GS :=
  callK (sE_init_2 ct G0 q0 none none (0 : Int32) (0 : Int32)) (fun o1 => hPut o1 q0 5 6 (.int p1) (fun G2 => some G2))
