set_option maxRecDepth 100000
set_option maxHeartbeats 0 in
theorem fpF_5 : (List.range 21).all (fun b => (List.range (b + 184)).all (fun a => fpF a (b + 183))) = true := by decide +kernel
set_option maxHeartbeats 0 in
theorem fpF_6 : (List.range 20).all (fun b => (List.range (b + 205)).all (fun a => fpF a (b + 204))) = true := by decide +kernel
set_option maxHeartbeats 0 in
theorem fpF_7 : (List.range 17).all (fun b => (List.range (b + 225)).all (fun a => fpF a (b + 224))) = true := by decide +kernel
set_option maxHeartbeats 0 in
theorem fpF_8 : (List.range 16).all (fun b => (List.range (b + 242)).all (fun a => fpF a (b + 241))) = true := by decide +kernel
