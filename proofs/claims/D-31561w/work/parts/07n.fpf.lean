set_option maxRecDepth 100000
def fpF (a b : Nat) : Bool := decide (FP.fdiv (FP.i2f (nI a)) (FP.i2f (nI b)) &&& 0x7fffffff ≤ 0x7f800000) && (decide (FP.f2d (FP.fdiv (FP.i2f (nI a)) (FP.i2f (nI b))) &&& 0x7fffffffffffffff ≤ 0x7ff0000000000000) && decide (Op.cmpValue (FP.dcmp (FP.f2d (FP.fdiv (FP.i2f (nI a)) (FP.i2f (nI b)))) (FP.f2d (FP.fdiv (FP.i2f (nI a)) (FP.i2f (nI b))))) .l = 0))
set_option maxHeartbeats 0 in
theorem fpF_1 : (List.range 91).all (fun b => (List.range (b + 2)).all (fun a => fpF a (b + 1))) = true := by decide +kernel
set_option maxHeartbeats 0 in
theorem fpF_2 : (List.range 37).all (fun b => (List.range (b + 93)).all (fun a => fpF a (b + 92))) = true := by decide +kernel
set_option maxHeartbeats 0 in
theorem fpF_3 : (List.range 29).all (fun b => (List.range (b + 130)).all (fun a => fpF a (b + 129))) = true := by decide +kernel
set_option maxHeartbeats 0 in
theorem fpF_4 : (List.range 25).all (fun b => (List.range (b + 159)).all (fun a => fpF a (b + 158))) = true := by decide +kernel
