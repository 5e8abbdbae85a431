/-! which requests may be -/
def inB (v lo hi : Int32) : Bool := decide (¬ (v < lo ∨ hi < v))
def canB (kd : Nat) (ky a b : Int32) : Bool := if kd = 0 then inB ky 0 3 && inB a 0 99 && decide (b = 0) else if kd = 2 then inB ky 0 3 && inB a 0 99 && inB b 0 99 else if kd = 3 then inB ky 0 3 && inB a 0 9 && decide (b = 0) else if kd = 5 then decide (ky = 0) && inB a 1 9 && decide (b = 0) else inB ky 0 3 && decide (a = 0) && decide (b = 0)
