set_option maxRecDepth 100000
theorem fpD_ok {a b : Nat} (hb0 : b ≠ 0) (hb : b ≤ 16) (ha : a ≤ 100 * b) : vf_n64 (FP.ddiv (FP.i2d (nI a)) (FP.i2d (nI b))) ∧ Op.cmpValue (FP.dcmp (FP.ddiv (FP.i2d (nI a)) (FP.i2d (nI b))) (FP.ddiv (FP.i2d (nI a)) (FP.i2d (nI b)))) .l = 0 := by
  obtain ⟨c, rfl⟩ : ∃ c, b = c + 1 := ⟨b - 1, by omega⟩
  have h := List.all_eq_true.mp (List.all_eq_true.mp fpD_all c (List.mem_range.mpr (by omega))) a (List.mem_range.mpr (by omega))
  obtain ⟨h1, h2⟩ := Bool.and_eq_true_iff.mp h
  refine ⟨?_, of_decide_eq_true h2⟩
  show _ &&& 0x7fffffffffffffff ≤ (0x7ff0000000000000 : UInt64)
  exact of_decide_eq_true h1
theorem fpF_ok {a b : Nat} (hb0 : b ≠ 0) (hb : b ≤ 256) (ha : a ≤ b) : vf_n32 (FP.fdiv (FP.i2f (nI a)) (FP.i2f (nI b))) ∧ vf_n64 (FP.f2d (FP.fdiv (FP.i2f (nI a)) (FP.i2f (nI b)))) ∧ Op.cmpValue (FP.dcmp (FP.f2d (FP.fdiv (FP.i2f (nI a)) (FP.i2f (nI b)))) (FP.f2d (FP.fdiv (FP.i2f (nI a)) (FP.i2f (nI b))))) .l = 0 := by
  have key : fpF a b = true := by
    by_cases h0 : b ≤ 91
    · obtain ⟨c, rfl⟩ : ∃ c, b = c + 1 := ⟨b - 1, by omega⟩
      exact List.all_eq_true.mp (List.all_eq_true.mp fpF_1 c (List.mem_range.mpr (by omega))) a (List.mem_range.mpr (by omega))
    by_cases h1 : b ≤ 128
    · obtain ⟨c, rfl⟩ : ∃ c, b = c + 92 := ⟨b - 92, by omega⟩
      exact List.all_eq_true.mp (List.all_eq_true.mp fpF_2 c (List.mem_range.mpr (by omega))) a (List.mem_range.mpr (by omega))
    by_cases h2 : b ≤ 157
    · obtain ⟨c, rfl⟩ : ∃ c, b = c + 129 := ⟨b - 129, by omega⟩
      exact List.all_eq_true.mp (List.all_eq_true.mp fpF_3 c (List.mem_range.mpr (by omega))) a (List.mem_range.mpr (by omega))
    by_cases h3 : b ≤ 182
    · obtain ⟨c, rfl⟩ : ∃ c, b = c + 158 := ⟨b - 158, by omega⟩
      exact List.all_eq_true.mp (List.all_eq_true.mp fpF_4 c (List.mem_range.mpr (by omega))) a (List.mem_range.mpr (by omega))
    by_cases h4 : b ≤ 203
    · obtain ⟨c, rfl⟩ : ∃ c, b = c + 183 := ⟨b - 183, by omega⟩
      exact List.all_eq_true.mp (List.all_eq_true.mp fpF_5 c (List.mem_range.mpr (by omega))) a (List.mem_range.mpr (by omega))
    by_cases h5 : b ≤ 223
    · obtain ⟨c, rfl⟩ : ∃ c, b = c + 204 := ⟨b - 204, by omega⟩
      exact List.all_eq_true.mp (List.all_eq_true.mp fpF_6 c (List.mem_range.mpr (by omega))) a (List.mem_range.mpr (by omega))
    by_cases h6 : b ≤ 240
    · obtain ⟨c, rfl⟩ : ∃ c, b = c + 224 := ⟨b - 224, by omega⟩
      exact List.all_eq_true.mp (List.all_eq_true.mp fpF_7 c (List.mem_range.mpr (by omega))) a (List.mem_range.mpr (by omega))
    obtain ⟨c, rfl⟩ : ∃ c, b = c + 241 := ⟨b - 241, by omega⟩
    exact List.all_eq_true.mp (List.all_eq_true.mp fpF_8 c (List.mem_range.mpr (by omega))) a (List.mem_range.mpr (by omega))
  obtain ⟨h1, h2⟩ := Bool.and_eq_true_iff.mp key
  obtain ⟨h2, h3⟩ := Bool.and_eq_true_iff.mp h2
  refine ⟨?_, ?_, of_decide_eq_true h3⟩
  · show _ &&& 0x7fffffff ≤ (0x7f800000 : UInt32)
    exact of_decide_eq_true h1
  · show _ &&& 0x7fffffffffffffff ≤ (0x7ff0000000000000 : UInt64)
    exact of_decide_eq_true h2
theorem fp_0 : Op.cmpValue (FP.dcmp FP.dconst0 FP.dconst0) .l = 0 ∧ vf_n64 (FP.f2d FP.fconst0) ∧ Op.cmpValue (FP.dcmp (FP.f2d FP.fconst0) (FP.f2d FP.fconst0)) .l = 0 := by
  refine ⟨by decide +kernel, ?_, by decide +kernel⟩
  show FP.f2d FP.fconst0 &&& 0x7fffffffffffffff ≤ 0x7ff0000000000000
  decide +kernel
