set_option maxRecDepth 100000
/-! QUOTIENTS OF SMALL NUMBERS ARE NUMBERS -/
def fpD (a b : Nat) : Bool := decide (FP.ddiv (FP.i2d (nI a)) (FP.i2d (nI b)) &&& 0x7fffffffffffffff ≤ 0x7ff0000000000000) && decide (Op.cmpValue (FP.dcmp (FP.ddiv (FP.i2d (nI a)) (FP.i2d (nI b))) (FP.ddiv (FP.i2d (nI a)) (FP.i2d (nI b)))) .l = 0)
set_option maxHeartbeats 0 in
theorem fpD_all : (List.range 16).all (fun b => (List.range (100 * (b + 1) + 1)).all (fun a => fpD a (b + 1))) = true := by decide +kernel
