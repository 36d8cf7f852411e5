/-! THE MODEL's PARSER: operations, declarers, priorities -/
set_option maxRecDepth 100000
theorem e_X10_priority (d : Nat) (a0 : Nat) (a1 : Int) (h : PH) : F (d + 1) 53303986 [vR a0, vI a1] h = FA (F d) 53303986 0 [vR a0, vI a1, vX] [] h := rfl
theorem c_X10_priority_0 (cf : Nat → List PV → PH → Rs) (a0 : Nat) (a1 : Int) (a2 : PV) (h : PH) (g0 : inT 43 43 (hc h a0)) (g1 : (inT 64 65 (hc h (gR h 1730893486 a0)) ∨ inT 64 65 (kc h (gR h 1730893486 a0))) ∧ inA a1 (hl h (gR h 1730893486 a0))) : FA cf 53303986 0 [vR a0, vI a1, a2] [] h = if (eI h (gR h 1730893486 a0) a1) = 2 then FA cf 53303986 10 [vR a0, vI a1, a2] [] h else FA cf 53303986 126 [vR a0, vI a1, a2] [] h := ((FA_ex cf 53303986 6 _ _ _ _).trans rfl : FA cf 53303986 0 [vR a0, vI a1, a2] [] h = gd (inT 43 43 (hc h a0)) (gd ((inT 64 65 (hc h (gR h 1730893486 a0)) ∨ inT 64 65 (kc h (gR h 1730893486 a0))) ∧ inA a1 (hl h (gR h 1730893486 a0))) (if (eI h (gR h 1730893486 a0) a1) = 2 then FA cf 53303986 10 [vR a0, vI a1, a2] [] h else FA cf 53303986 126 [vR a0, vI a1, a2] [] h))).trans ((gd_t g0).trans ((gd_t g1)))
theorem k_X10_priority_0 (cf : Nat → List PV → PH → Rs) (m : Nat) (a1 : Int) (a2 : PV) (b : PH) (s : MS) (B : MB b m) (b0 : inA a1 490) : FA cf 53303986 0 [vR m, vI a1, a2] [] (MH b m s) = if (aI s 2 a1) = 2 then FA cf 53303986 10 [vR m, vI a1, a2] [] (MH b m s) else FA cf 53303986 126 [vR m, vI a1, a2] [] (MH b m s) := by
  obtain ⟨t1_2, t2_2, t3_2⟩ := mb_tokKind B
  refine (c_X10_priority_0 cf m a1 a2 (MH b m s) (i11 B.1) (by (try simp only [gI_MH, gJ_MH, gR_MH, pI_MH, pJ_MH, t1_2, eI_MH (b := b) (m := m) (k := 2) (by decide) (by decide), qI_MH (b := b) (m := m) (k := 2) (by decide) (by decide)]); exact ⟨Or.inl (T65 t2_2), IAe t3_2 (by assumption)⟩)).trans ?_
  try simp only [gI_MH, gJ_MH, gR_MH, pI_MH, pJ_MH, t1_2, eI_MH (b := b) (m := m) (k := 2) (by decide) (by decide), qI_MH (b := b) (m := m) (k := 2) (by decide) (by decide)]
  try rfl
theorem c_X10_priority_10 (cf : Nat → List PV → PH → Rs) (a0 : Nat) (a1 : Int) (a2 : PV) (h : PH) : FA cf 53303986 10 [vR a0, vI a1, a2] [] h = FA cf 53303986 12 [vR a0, vI a1, vI 0] [] h := (FA_ex cf 53303986 2 _ _ _ _).trans rfl
theorem k_X10_priority_10 (cf : Nat → List PV → PH → Rs) (m : Nat) (a1 : Int) (a2 : PV) (b : PH) (s : MS) (B : MB b m) : FA cf 53303986 10 [vR m, vI a1, a2] [] (MH b m s) = FA cf 53303986 12 [vR m, vI a1, vI 0] [] (MH b m s) := by
  refine (c_X10_priority_10 cf m a1 a2 (MH b m s) ).trans ?_
  try simp only [gI_MH, gJ_MH, gR_MH, pI_MH, pJ_MH]
  try rfl
theorem c_X10_priority_12 (cf : Nat → List PV → PH → Rs) (a0 : Nat) (a1 : Int) (a2 : Int) (h : PH) (g0 : inT 43 43 (hc h a0)) : FA cf 53303986 12 [vR a0, vI a1, vI a2] [] h = if (w32 (a2 + 3)) < (gI h 1722504876 a0) then FA cf 53303986 22 [vR a0, vI a1, vI a2] [] h else FA cf 53303986 124 [vR a0, vI a1, vI a2] [] h := ((FA_ex cf 53303986 6 _ _ _ _).trans rfl : FA cf 53303986 12 [vR a0, vI a1, vI a2] [] h = gd (inT 43 43 (hc h a0)) (if (w32 (a2 + 3)) < (gI h 1722504876 a0) then FA cf 53303986 22 [vR a0, vI a1, vI a2] [] h else FA cf 53303986 124 [vR a0, vI a1, vI a2] [] h)).trans ((gd_t g0))
theorem k_X10_priority_12 (cf : Nat → List PV → PH → Rs) (m : Nat) (a1 : Int) (a2 : Int) (b : PH) (s : MS) (B : MB b m) : FA cf 53303986 12 [vR m, vI a1, vI a2] [] (MH b m s) = if (w32 (a2 + 3)) < (fI s 1722504876) then FA cf 53303986 22 [vR m, vI a1, vI a2] [] (MH b m s) else FA cf 53303986 124 [vR m, vI a1, vI a2] [] (MH b m s) := by
  refine (c_X10_priority_12 cf m a1 a2 (MH b m s) (i11 B.1)).trans ?_
  try simp only [gI_MH, gJ_MH, gR_MH, pI_MH, pJ_MH]
  try rfl
theorem c_X10_priority_22 (cf : Nat → List PV → PH → Rs) (a0 : Nat) (a1 : Int) (a2 : Int) (h : PH) (g0 : inT 43 43 (hc h a0)) (g1 : (inT 64 65 (hc h (gR h 1730893486 a0)) ∨ inT 64 65 (kc h (gR h 1730893486 a0))) ∧ inA a2 (hl h (gR h 1730893486 a0))) : FA cf 53303986 22 [vR a0, vI a1, vI a2] [] h = if (eI h (gR h 1730893486 a0) a2) = 1 then FA cf 53303986 32 [vR a0, vI a1, vI a2] [] h else FA cf 53303986 118 [vR a0, vI a1, vI a2] [] h := ((FA_ex cf 53303986 6 _ _ _ _).trans rfl : FA cf 53303986 22 [vR a0, vI a1, vI a2] [] h = gd (inT 43 43 (hc h a0)) (gd ((inT 64 65 (hc h (gR h 1730893486 a0)) ∨ inT 64 65 (kc h (gR h 1730893486 a0))) ∧ inA a2 (hl h (gR h 1730893486 a0))) (if (eI h (gR h 1730893486 a0) a2) = 1 then FA cf 53303986 32 [vR a0, vI a1, vI a2] [] h else FA cf 53303986 118 [vR a0, vI a1, vI a2] [] h))).trans ((gd_t g0).trans ((gd_t g1)))
theorem k_X10_priority_22 (cf : Nat → List PV → PH → Rs) (m : Nat) (a1 : Int) (a2 : Int) (b : PH) (s : MS) (B : MB b m) (b0 : inA a2 490) : FA cf 53303986 22 [vR m, vI a1, vI a2] [] (MH b m s) = if (aI s 2 a2) = 1 then FA cf 53303986 32 [vR m, vI a1, vI a2] [] (MH b m s) else FA cf 53303986 118 [vR m, vI a1, vI a2] [] (MH b m s) := by
  obtain ⟨t1_2, t2_2, t3_2⟩ := mb_tokKind B
  refine (c_X10_priority_22 cf m a1 a2 (MH b m s) (i11 B.1) (by (try simp only [gI_MH, gJ_MH, gR_MH, pI_MH, pJ_MH, t1_2, eI_MH (b := b) (m := m) (k := 2) (by decide) (by decide), qI_MH (b := b) (m := m) (k := 2) (by decide) (by decide)]); exact ⟨Or.inl (T65 t2_2), IAe t3_2 (by assumption)⟩)).trans ?_
  try simp only [gI_MH, gJ_MH, gR_MH, pI_MH, pJ_MH, t1_2, eI_MH (b := b) (m := m) (k := 2) (by decide) (by decide), qI_MH (b := b) (m := m) (k := 2) (by decide) (by decide)]
  try rfl
theorem c_X10_priority_32 (cf : Nat → List PV → PH → Rs) (a0 : Nat) (a1 : Int) (a2 : Int) (h : PH) (g0 : inT 43 43 (hc h a0)) (g1 : (inT 64 65 (hc h (gR h 1747670702 a0)) ∨ inT 64 65 (kc h (gR h 1747670702 a0))) ∧ inA a2 (hl h (gR h 1747670702 a0))) : FA cf 53303986 32 [vR a0, vI a1, vI a2] [] h = if (eI h (gR h 1747670702 a0) a2) = 1 then FA cf 53303986 42 [vR a0, vI a1, vI a2] [] h else FA cf 53303986 118 [vR a0, vI a1, vI a2] [] h := ((FA_ex cf 53303986 6 _ _ _ _).trans rfl : FA cf 53303986 32 [vR a0, vI a1, vI a2] [] h = gd (inT 43 43 (hc h a0)) (gd ((inT 64 65 (hc h (gR h 1747670702 a0)) ∨ inT 64 65 (kc h (gR h 1747670702 a0))) ∧ inA a2 (hl h (gR h 1747670702 a0))) (if (eI h (gR h 1747670702 a0) a2) = 1 then FA cf 53303986 42 [vR a0, vI a1, vI a2] [] h else FA cf 53303986 118 [vR a0, vI a1, vI a2] [] h))).trans ((gd_t g0).trans ((gd_t g1)))
theorem k_X10_priority_32 (cf : Nat → List PV → PH → Rs) (m : Nat) (a1 : Int) (a2 : Int) (b : PH) (s : MS) (B : MB b m) (b0 : inA a2 490) : FA cf 53303986 32 [vR m, vI a1, vI a2] [] (MH b m s) = if (aI s 4 a2) = 1 then FA cf 53303986 42 [vR m, vI a1, vI a2] [] (MH b m s) else FA cf 53303986 118 [vR m, vI a1, vI a2] [] (MH b m s) := by
  obtain ⟨t1_4, t2_4, t3_4⟩ := mb_tokIs B
  refine (c_X10_priority_32 cf m a1 a2 (MH b m s) (i11 B.1) (by (try simp only [gI_MH, gJ_MH, gR_MH, pI_MH, pJ_MH, t1_4, eI_MH (b := b) (m := m) (k := 4) (by decide) (by decide), qI_MH (b := b) (m := m) (k := 4) (by decide) (by decide)]); exact ⟨Or.inl (T65 t2_4), IAe t3_4 (by assumption)⟩)).trans ?_
  try simp only [gI_MH, gJ_MH, gR_MH, pI_MH, pJ_MH, t1_4, eI_MH (b := b) (m := m) (k := 4) (by decide) (by decide), qI_MH (b := b) (m := m) (k := 4) (by decide) (by decide)]
  try rfl
theorem c_X10_priority_42 (cf : Nat → List PV → PH → Rs) (a0 : Nat) (a1 : Int) (a2 : Int) (h : PH) (g0 : inT 43 43 (hc h a0)) (g1 : (inT 64 65 (hc h (gR h 1730893486 a0)) ∨ inT 64 65 (kc h (gR h 1730893486 a0))) ∧ inA (w32 (a2 + 1)) (hl h (gR h 1730893486 a0))) : FA cf 53303986 42 [vR a0, vI a1, vI a2] [] h = if (eI h (gR h 1730893486 a0) (w32 (a2 + 1))) = 2 then FA cf 53303986 54 [vR a0, vI a1, vI a2] [] h else FA cf 53303986 118 [vR a0, vI a1, vI a2] [] h := ((FA_ex cf 53303986 8 _ _ _ _).trans rfl : FA cf 53303986 42 [vR a0, vI a1, vI a2] [] h = gd (inT 43 43 (hc h a0)) (gd ((inT 64 65 (hc h (gR h 1730893486 a0)) ∨ inT 64 65 (kc h (gR h 1730893486 a0))) ∧ inA (w32 (a2 + 1)) (hl h (gR h 1730893486 a0))) (if (eI h (gR h 1730893486 a0) (w32 (a2 + 1))) = 2 then FA cf 53303986 54 [vR a0, vI a1, vI a2] [] h else FA cf 53303986 118 [vR a0, vI a1, vI a2] [] h))).trans ((gd_t g0).trans ((gd_t g1)))
theorem k_X10_priority_42 (cf : Nat → List PV → PH → Rs) (m : Nat) (a1 : Int) (a2 : Int) (b : PH) (s : MS) (B : MB b m) (b0 : inA (w32 (a2 + 1)) 490) : FA cf 53303986 42 [vR m, vI a1, vI a2] [] (MH b m s) = if (aI s 2 (w32 (a2 + 1))) = 2 then FA cf 53303986 54 [vR m, vI a1, vI a2] [] (MH b m s) else FA cf 53303986 118 [vR m, vI a1, vI a2] [] (MH b m s) := by
  obtain ⟨t1_2, t2_2, t3_2⟩ := mb_tokKind B
  refine (c_X10_priority_42 cf m a1 a2 (MH b m s) (i11 B.1) (by (try simp only [gI_MH, gJ_MH, gR_MH, pI_MH, pJ_MH, t1_2, eI_MH (b := b) (m := m) (k := 2) (by decide) (by decide), qI_MH (b := b) (m := m) (k := 2) (by decide) (by decide)]); exact ⟨Or.inl (T65 t2_2), IAe t3_2 (by assumption)⟩)).trans ?_
  try simp only [gI_MH, gJ_MH, gR_MH, pI_MH, pJ_MH, t1_2, eI_MH (b := b) (m := m) (k := 2) (by decide) (by decide), qI_MH (b := b) (m := m) (k := 2) (by decide) (by decide)]
  try rfl
theorem c_X10_priority_54 (cf : Nat → List PV → PH → Rs) (a0 : Nat) (a1 : Int) (a2 : Int) (h : PH) (g0 : inT 43 43 (hc h a0)) (g1 : (hc h (gR h 1756059310 a0)) = 66 ∧ inA (w32 (a2 + 1)) (hl h (gR h 1756059310 a0))) (g2 : (hc h (gR h 1756059310 a0)) = 66 ∧ inA a1 (hl h (gR h 1756059310 a0))) : FA cf 53303986 54 [vR a0, vI a1, vI a2] [] h = if (lcm (eJ h (gR h 1756059310 a0) (w32 (a2 + 1))) (eJ h (gR h 1756059310 a0) a1)) = 0 then FA cf 53303986 72 [vR a0, vI a1, vI a2] [] h else FA cf 53303986 118 [vR a0, vI a1, vI a2] [] h := ((FA_ex cf 53303986 12 _ _ _ _).trans rfl : FA cf 53303986 54 [vR a0, vI a1, vI a2] [] h = gd (inT 43 43 (hc h a0)) (gd ((hc h (gR h 1756059310 a0)) = 66 ∧ inA (w32 (a2 + 1)) (hl h (gR h 1756059310 a0))) (gd (inT 43 43 (hc h a0)) (gd ((hc h (gR h 1756059310 a0)) = 66 ∧ inA a1 (hl h (gR h 1756059310 a0))) (if (lcm (eJ h (gR h 1756059310 a0) (w32 (a2 + 1))) (eJ h (gR h 1756059310 a0) a1)) = 0 then FA cf 53303986 72 [vR a0, vI a1, vI a2] [] h else FA cf 53303986 118 [vR a0, vI a1, vI a2] [] h))))).trans ((gd_t g0).trans ((gd_t g1).trans ((gd_t g0).trans ((gd_t g2)))))
theorem k_X10_priority_54 (cf : Nat → List PV → PH → Rs) (m : Nat) (a1 : Int) (a2 : Int) (b : PH) (s : MS) (B : MB b m) (b0 : inA (w32 (a2 + 1)) 490) (b1 : inA a1 490) : FA cf 53303986 54 [vR m, vI a1, vI a2] [] (MH b m s) = if (lcm (aJ s 5 (w32 (a2 + 1))) (aJ s 5 a1)) = 0 then FA cf 53303986 72 [vR m, vI a1, vI a2] [] (MH b m s) else FA cf 53303986 118 [vR m, vI a1, vI a2] [] (MH b m s) := by
  obtain ⟨t1_5, t2_5, t3_5⟩ := mb_tokWord B
  refine (c_X10_priority_54 cf m a1 a2 (MH b m s) (i11 B.1) (by (try simp only [gI_MH, gJ_MH, gR_MH, pI_MH, pJ_MH, t1_5, eJ_MH (b := b) (m := m) (k := 5) (by decide) (by decide), qJ_MH (b := b) (m := m) (k := 5) (by decide) (by decide)]); exact ⟨t2_5, IAe t3_5 (by assumption)⟩) (by (try simp only [gI_MH, gJ_MH, gR_MH, pI_MH, pJ_MH, t1_5, eJ_MH (b := b) (m := m) (k := 5) (by decide) (by decide), qJ_MH (b := b) (m := m) (k := 5) (by decide) (by decide)]); exact ⟨t2_5, IAe t3_5 (by assumption)⟩)).trans ?_
  try simp only [gI_MH, gJ_MH, gR_MH, pI_MH, pJ_MH, t1_5, eJ_MH (b := b) (m := m) (k := 5) (by decide) (by decide), qJ_MH (b := b) (m := m) (k := 5) (by decide) (by decide)]
  try rfl
theorem c_X10_priority_72 (cf : Nat → List PV → PH → Rs) (a0 : Nat) (a1 : Int) (a2 : Int) (h : PH) (g0 : inT 43 43 (hc h a0)) (g1 : (inT 64 65 (hc h (gR h 1730893486 a0)) ∨ inT 64 65 (kc h (gR h 1730893486 a0))) ∧ inA (w32 (a2 + 2)) (hl h (gR h 1730893486 a0))) : FA cf 53303986 72 [vR a0, vI a1, vI a2] [] h = if (eI h (gR h 1730893486 a0) (w32 (a2 + 2))) = 5 then FA cf 53303986 84 [vR a0, vI a1, vI a2] [] h else FA cf 53303986 118 [vR a0, vI a1, vI a2] [] h := ((FA_ex cf 53303986 8 _ _ _ _).trans rfl : FA cf 53303986 72 [vR a0, vI a1, vI a2] [] h = gd (inT 43 43 (hc h a0)) (gd ((inT 64 65 (hc h (gR h 1730893486 a0)) ∨ inT 64 65 (kc h (gR h 1730893486 a0))) ∧ inA (w32 (a2 + 2)) (hl h (gR h 1730893486 a0))) (if (eI h (gR h 1730893486 a0) (w32 (a2 + 2))) = 5 then FA cf 53303986 84 [vR a0, vI a1, vI a2] [] h else FA cf 53303986 118 [vR a0, vI a1, vI a2] [] h))).trans ((gd_t g0).trans ((gd_t g1)))
theorem k_X10_priority_72 (cf : Nat → List PV → PH → Rs) (m : Nat) (a1 : Int) (a2 : Int) (b : PH) (s : MS) (B : MB b m) (b0 : inA (w32 (a2 + 2)) 490) : FA cf 53303986 72 [vR m, vI a1, vI a2] [] (MH b m s) = if (aI s 2 (w32 (a2 + 2))) = 5 then FA cf 53303986 84 [vR m, vI a1, vI a2] [] (MH b m s) else FA cf 53303986 118 [vR m, vI a1, vI a2] [] (MH b m s) := by
  obtain ⟨t1_2, t2_2, t3_2⟩ := mb_tokKind B
  refine (c_X10_priority_72 cf m a1 a2 (MH b m s) (i11 B.1) (by (try simp only [gI_MH, gJ_MH, gR_MH, pI_MH, pJ_MH, t1_2, eI_MH (b := b) (m := m) (k := 2) (by decide) (by decide), qI_MH (b := b) (m := m) (k := 2) (by decide) (by decide)]); exact ⟨Or.inl (T65 t2_2), IAe t3_2 (by assumption)⟩)).trans ?_
  try simp only [gI_MH, gJ_MH, gR_MH, pI_MH, pJ_MH, t1_2, eI_MH (b := b) (m := m) (k := 2) (by decide) (by decide), qI_MH (b := b) (m := m) (k := 2) (by decide) (by decide)]
  try rfl
theorem c_X10_priority_84 (cf : Nat → List PV → PH → Rs) (a0 : Nat) (a1 : Int) (a2 : Int) (h : PH) (g0 : inT 43 43 (hc h a0)) (g1 : (inT 64 65 (hc h (gR h 1747670702 a0)) ∨ inT 64 65 (kc h (gR h 1747670702 a0))) ∧ inA (w32 (a2 + 2)) (hl h (gR h 1747670702 a0))) : FA cf 53303986 84 [vR a0, vI a1, vI a2] [] h = if (eI h (gR h 1747670702 a0) (w32 (a2 + 2))) = 61 then FA cf 53303986 97 [vR a0, vI a1, vI a2] [] h else FA cf 53303986 118 [vR a0, vI a1, vI a2] [] h := ((FA_ex cf 53303986 8 _ _ _ _).trans rfl : FA cf 53303986 84 [vR a0, vI a1, vI a2] [] h = gd (inT 43 43 (hc h a0)) (gd ((inT 64 65 (hc h (gR h 1747670702 a0)) ∨ inT 64 65 (kc h (gR h 1747670702 a0))) ∧ inA (w32 (a2 + 2)) (hl h (gR h 1747670702 a0))) (if (eI h (gR h 1747670702 a0) (w32 (a2 + 2))) = 61 then FA cf 53303986 97 [vR a0, vI a1, vI a2] [] h else FA cf 53303986 118 [vR a0, vI a1, vI a2] [] h))).trans ((gd_t g0).trans ((gd_t g1)))
theorem k_X10_priority_84 (cf : Nat → List PV → PH → Rs) (m : Nat) (a1 : Int) (a2 : Int) (b : PH) (s : MS) (B : MB b m) (b0 : inA (w32 (a2 + 2)) 490) : FA cf 53303986 84 [vR m, vI a1, vI a2] [] (MH b m s) = if (aI s 4 (w32 (a2 + 2))) = 61 then FA cf 53303986 97 [vR m, vI a1, vI a2] [] (MH b m s) else FA cf 53303986 118 [vR m, vI a1, vI a2] [] (MH b m s) := by
  obtain ⟨t1_4, t2_4, t3_4⟩ := mb_tokIs B
  refine (c_X10_priority_84 cf m a1 a2 (MH b m s) (i11 B.1) (by (try simp only [gI_MH, gJ_MH, gR_MH, pI_MH, pJ_MH, t1_4, eI_MH (b := b) (m := m) (k := 4) (by decide) (by decide), qI_MH (b := b) (m := m) (k := 4) (by decide) (by decide)]); exact ⟨Or.inl (T65 t2_4), IAe t3_4 (by assumption)⟩)).trans ?_
  try simp only [gI_MH, gJ_MH, gR_MH, pI_MH, pJ_MH, t1_4, eI_MH (b := b) (m := m) (k := 4) (by decide) (by decide), qI_MH (b := b) (m := m) (k := 4) (by decide) (by decide)]
  try rfl
theorem c_X10_priority_97 (cf : Nat → List PV → PH → Rs) (a0 : Nat) (a1 : Int) (a2 : Int) (h : PH) (g0 : inT 43 43 (hc h a0)) (g1 : (inT 64 65 (hc h (gR h 1730893486 a0)) ∨ inT 64 65 (kc h (gR h 1730893486 a0))) ∧ inA (w32 (a2 + 3)) (hl h (gR h 1730893486 a0))) : FA cf 53303986 97 [vR a0, vI a1, vI a2] [] h = if (eI h (gR h 1730893486 a0) (w32 (a2 + 3))) = 4 then FA cf 53303986 109 [vR a0, vI a1, vI a2] [] h else FA cf 53303986 118 [vR a0, vI a1, vI a2] [] h := ((FA_ex cf 53303986 8 _ _ _ _).trans rfl : FA cf 53303986 97 [vR a0, vI a1, vI a2] [] h = gd (inT 43 43 (hc h a0)) (gd ((inT 64 65 (hc h (gR h 1730893486 a0)) ∨ inT 64 65 (kc h (gR h 1730893486 a0))) ∧ inA (w32 (a2 + 3)) (hl h (gR h 1730893486 a0))) (if (eI h (gR h 1730893486 a0) (w32 (a2 + 3))) = 4 then FA cf 53303986 109 [vR a0, vI a1, vI a2] [] h else FA cf 53303986 118 [vR a0, vI a1, vI a2] [] h))).trans ((gd_t g0).trans ((gd_t g1)))
theorem k_X10_priority_97 (cf : Nat → List PV → PH → Rs) (m : Nat) (a1 : Int) (a2 : Int) (b : PH) (s : MS) (B : MB b m) (b0 : inA (w32 (a2 + 3)) 490) : FA cf 53303986 97 [vR m, vI a1, vI a2] [] (MH b m s) = if (aI s 2 (w32 (a2 + 3))) = 4 then FA cf 53303986 109 [vR m, vI a1, vI a2] [] (MH b m s) else FA cf 53303986 118 [vR m, vI a1, vI a2] [] (MH b m s) := by
  obtain ⟨t1_2, t2_2, t3_2⟩ := mb_tokKind B
  refine (c_X10_priority_97 cf m a1 a2 (MH b m s) (i11 B.1) (by (try simp only [gI_MH, gJ_MH, gR_MH, pI_MH, pJ_MH, t1_2, eI_MH (b := b) (m := m) (k := 2) (by decide) (by decide), qI_MH (b := b) (m := m) (k := 2) (by decide) (by decide)]); exact ⟨Or.inl (T65 t2_2), IAe t3_2 (by assumption)⟩)).trans ?_
  try simp only [gI_MH, gJ_MH, gR_MH, pI_MH, pJ_MH, t1_2, eI_MH (b := b) (m := m) (k := 2) (by decide) (by decide), qI_MH (b := b) (m := m) (k := 2) (by decide) (by decide)]
  try rfl
theorem c_X10_priority_109 (cf : Nat → List PV → PH → Rs) (a0 : Nat) (a1 : Int) (a2 : Int) (h : PH) (g0 : inT 43 43 (hc h a0)) (g1 : (inT 64 65 (hc h (gR h 1747670702 a0)) ∨ inT 64 65 (kc h (gR h 1747670702 a0))) ∧ inA (w32 (a2 + 3)) (hl h (gR h 1747670702 a0))) : FA cf 53303986 109 [vR a0, vI a1, vI a2] [] h = some (.inl (some (vI (eI h (gR h 1747670702 a0) (w32 (a2 + 3))))), h) := ((FA_ex cf 53303986 7 _ _ _ _).trans rfl : FA cf 53303986 109 [vR a0, vI a1, vI a2] [] h = gd (inT 43 43 (hc h a0)) (gd ((inT 64 65 (hc h (gR h 1747670702 a0)) ∨ inT 64 65 (kc h (gR h 1747670702 a0))) ∧ inA (w32 (a2 + 3)) (hl h (gR h 1747670702 a0))) (some (.inl (some (vI (eI h (gR h 1747670702 a0) (w32 (a2 + 3))))), h)))).trans ((gd_t g0).trans ((gd_t g1)))
theorem k_X10_priority_109 (cf : Nat → List PV → PH → Rs) (m : Nat) (a1 : Int) (a2 : Int) (b : PH) (s : MS) (B : MB b m) (b0 : inA (w32 (a2 + 3)) 490) : FA cf 53303986 109 [vR m, vI a1, vI a2] [] (MH b m s) = some (.inl (some (vI (aI s 4 (w32 (a2 + 3))))), (MH b m s)) := by
  obtain ⟨t1_4, t2_4, t3_4⟩ := mb_tokIs B
  refine (c_X10_priority_109 cf m a1 a2 (MH b m s) (i11 B.1) (by (try simp only [gI_MH, gJ_MH, gR_MH, pI_MH, pJ_MH, t1_4, eI_MH (b := b) (m := m) (k := 4) (by decide) (by decide), qI_MH (b := b) (m := m) (k := 4) (by decide) (by decide)]); exact ⟨Or.inl (T65 t2_4), IAe t3_4 (by assumption)⟩)).trans ?_
  try simp only [gI_MH, gJ_MH, gR_MH, pI_MH, pJ_MH, t1_4, eI_MH (b := b) (m := m) (k := 4) (by decide) (by decide), qI_MH (b := b) (m := m) (k := 4) (by decide) (by decide)]
  try rfl
theorem c_X10_priority_118 (cf : Nat → List PV → PH → Rs) (a0 : Nat) (a1 : Int) (a2 : Int) (h : PH) : FA cf 53303986 118 [vR a0, vI a1, vI a2] [] h = FA cf 53303986 12 [vR a0, vI a1, vI (w32 (a2 + 1))] [] h := (FA_ex cf 53303986 2 _ _ _ _).trans rfl
theorem k_X10_priority_118 (cf : Nat → List PV → PH → Rs) (m : Nat) (a1 : Int) (a2 : Int) (b : PH) (s : MS) (B : MB b m) : FA cf 53303986 118 [vR m, vI a1, vI a2] [] (MH b m s) = FA cf 53303986 12 [vR m, vI a1, vI (w32 (a2 + 1))] [] (MH b m s) := by
  refine (c_X10_priority_118 cf m a1 a2 (MH b m s) ).trans ?_
  try simp only [gI_MH, gJ_MH, gR_MH, pI_MH, pJ_MH]
  try rfl
theorem c_X10_priority_124 (cf : Nat → List PV → PH → Rs) (a0 : Nat) (a1 : Int) (a2 : Int) (h : PH) : FA cf 53303986 124 [vR a0, vI a1, vI a2] [] h = some (.inl (some (vI 5)), h) := (FA_ex cf 53303986 2 _ _ _ _).trans rfl
theorem k_X10_priority_124 (cf : Nat → List PV → PH → Rs) (m : Nat) (a1 : Int) (a2 : Int) (b : PH) (s : MS) (B : MB b m) : FA cf 53303986 124 [vR m, vI a1, vI a2] [] (MH b m s) = some (.inl (some (vI 5)), (MH b m s)) := by
  refine (c_X10_priority_124 cf m a1 a2 (MH b m s) ).trans ?_
  try simp only [gI_MH, gJ_MH, gR_MH, pI_MH, pJ_MH]
  try rfl
theorem c_X10_priority_126 (cf : Nat → List PV → PH → Rs) (a0 : Nat) (a1 : Int) (a2 : PV) (h : PH) (g0 : inT 43 43 (hc h a0)) (g1 : (inT 64 65 (hc h (gR h 1747670702 a0)) ∨ inT 64 65 (kc h (gR h 1747670702 a0))) ∧ inA a1 (hl h (gR h 1747670702 a0))) : FA cf 53303986 126 [vR a0, vI a1, a2] [] h = if (eI h (gR h 1747670702 a0) a1) = 33 then FA cf 53303986 224 [vR a0, vI a1, a2] [] h else if (eI h (gR h 1747670702 a0) a1) = 38 then FA cf 53303986 226 [vR a0, vI a1, a2] [] h else if (eI h (gR h 1747670702 a0) a1) = 43 then FA cf 53303986 232 [vR a0, vI a1, a2] [] h else if (eI h (gR h 1747670702 a0) a1) = 45 then FA cf 53303986 232 [vR a0, vI a1, a2] [] h else if (eI h (gR h 1747670702 a0) a1) = 60 then FA cf 53303986 230 [vR a0, vI a1, a2] [] h else if (eI h (gR h 1747670702 a0) a1) = 61 then FA cf 53303986 228 [vR a0, vI a1, a2] [] h else if (eI h (gR h 1747670702 a0) a1) = 62 then FA cf 53303986 230 [vR a0, vI a1, a2] [] h else if (eI h (gR h 1747670702 a0) a1) = 301 then FA cf 53303986 228 [vR a0, vI a1, a2] [] h else if (eI h (gR h 1747670702 a0) a1) = 302 then FA cf 53303986 230 [vR a0, vI a1, a2] [] h else if (eI h (gR h 1747670702 a0) a1) = 303 then FA cf 53303986 230 [vR a0, vI a1, a2] [] h else FA cf 53303986 235 [vR a0, vI a1, a2] [] h := ((FA_ex cf 53303986 5 _ _ _ _).trans rfl : FA cf 53303986 126 [vR a0, vI a1, a2] [] h = gd (inT 43 43 (hc h a0)) (gd ((inT 64 65 (hc h (gR h 1747670702 a0)) ∨ inT 64 65 (kc h (gR h 1747670702 a0))) ∧ inA a1 (hl h (gR h 1747670702 a0))) (if (eI h (gR h 1747670702 a0) a1) = 33 then FA cf 53303986 224 [vR a0, vI a1, a2] [] h else if (eI h (gR h 1747670702 a0) a1) = 38 then FA cf 53303986 226 [vR a0, vI a1, a2] [] h else if (eI h (gR h 1747670702 a0) a1) = 43 then FA cf 53303986 232 [vR a0, vI a1, a2] [] h else if (eI h (gR h 1747670702 a0) a1) = 45 then FA cf 53303986 232 [vR a0, vI a1, a2] [] h else if (eI h (gR h 1747670702 a0) a1) = 60 then FA cf 53303986 230 [vR a0, vI a1, a2] [] h else if (eI h (gR h 1747670702 a0) a1) = 61 then FA cf 53303986 228 [vR a0, vI a1, a2] [] h else if (eI h (gR h 1747670702 a0) a1) = 62 then FA cf 53303986 230 [vR a0, vI a1, a2] [] h else if (eI h (gR h 1747670702 a0) a1) = 301 then FA cf 53303986 228 [vR a0, vI a1, a2] [] h else if (eI h (gR h 1747670702 a0) a1) = 302 then FA cf 53303986 230 [vR a0, vI a1, a2] [] h else if (eI h (gR h 1747670702 a0) a1) = 303 then FA cf 53303986 230 [vR a0, vI a1, a2] [] h else FA cf 53303986 235 [vR a0, vI a1, a2] [] h))).trans ((gd_t g0).trans ((gd_t g1)))
theorem k_X10_priority_126 (cf : Nat → List PV → PH → Rs) (m : Nat) (a1 : Int) (a2 : PV) (b : PH) (s : MS) (B : MB b m) (b0 : inA a1 490) : FA cf 53303986 126 [vR m, vI a1, a2] [] (MH b m s) = if (aI s 4 a1) = 33 then FA cf 53303986 224 [vR m, vI a1, a2] [] (MH b m s) else if (aI s 4 a1) = 38 then FA cf 53303986 226 [vR m, vI a1, a2] [] (MH b m s) else if (aI s 4 a1) = 43 then FA cf 53303986 232 [vR m, vI a1, a2] [] (MH b m s) else if (aI s 4 a1) = 45 then FA cf 53303986 232 [vR m, vI a1, a2] [] (MH b m s) else if (aI s 4 a1) = 60 then FA cf 53303986 230 [vR m, vI a1, a2] [] (MH b m s) else if (aI s 4 a1) = 61 then FA cf 53303986 228 [vR m, vI a1, a2] [] (MH b m s) else if (aI s 4 a1) = 62 then FA cf 53303986 230 [vR m, vI a1, a2] [] (MH b m s) else if (aI s 4 a1) = 301 then FA cf 53303986 228 [vR m, vI a1, a2] [] (MH b m s) else if (aI s 4 a1) = 302 then FA cf 53303986 230 [vR m, vI a1, a2] [] (MH b m s) else if (aI s 4 a1) = 303 then FA cf 53303986 230 [vR m, vI a1, a2] [] (MH b m s) else FA cf 53303986 235 [vR m, vI a1, a2] [] (MH b m s) := by
  obtain ⟨t1_4, t2_4, t3_4⟩ := mb_tokIs B
  refine (c_X10_priority_126 cf m a1 a2 (MH b m s) (i11 B.1) (by (try simp only [gI_MH, gJ_MH, gR_MH, pI_MH, pJ_MH, t1_4, eI_MH (b := b) (m := m) (k := 4) (by decide) (by decide), qI_MH (b := b) (m := m) (k := 4) (by decide) (by decide)]); exact ⟨Or.inl (T65 t2_4), IAe t3_4 (by assumption)⟩)).trans ?_
  try simp only [gI_MH, gJ_MH, gR_MH, pI_MH, pJ_MH, t1_4, eI_MH (b := b) (m := m) (k := 4) (by decide) (by decide), qI_MH (b := b) (m := m) (k := 4) (by decide) (by decide)]
  try rfl
theorem c_X10_priority_224 (cf : Nat → List PV → PH → Rs) (a0 : Nat) (a1 : Int) (a2 : PV) (h : PH) : FA cf 53303986 224 [vR a0, vI a1, a2] [] h = some (.inl (some (vI 2)), h) := (FA_ex cf 53303986 2 _ _ _ _).trans rfl
theorem k_X10_priority_224 (cf : Nat → List PV → PH → Rs) (m : Nat) (a1 : Int) (a2 : PV) (b : PH) (s : MS) (B : MB b m) : FA cf 53303986 224 [vR m, vI a1, a2] [] (MH b m s) = some (.inl (some (vI 2)), (MH b m s)) := by
  refine (c_X10_priority_224 cf m a1 a2 (MH b m s) ).trans ?_
  try simp only [gI_MH, gJ_MH, gR_MH, pI_MH, pJ_MH]
  try rfl
theorem c_X10_priority_226 (cf : Nat → List PV → PH → Rs) (a0 : Nat) (a1 : Int) (a2 : PV) (h : PH) : FA cf 53303986 226 [vR a0, vI a1, a2] [] h = some (.inl (some (vI 3)), h) := (FA_ex cf 53303986 2 _ _ _ _).trans rfl
theorem k_X10_priority_226 (cf : Nat → List PV → PH → Rs) (m : Nat) (a1 : Int) (a2 : PV) (b : PH) (s : MS) (B : MB b m) : FA cf 53303986 226 [vR m, vI a1, a2] [] (MH b m s) = some (.inl (some (vI 3)), (MH b m s)) := by
  refine (c_X10_priority_226 cf m a1 a2 (MH b m s) ).trans ?_
  try simp only [gI_MH, gJ_MH, gR_MH, pI_MH, pJ_MH]
  try rfl
theorem c_X10_priority_228 (cf : Nat → List PV → PH → Rs) (a0 : Nat) (a1 : Int) (a2 : PV) (h : PH) : FA cf 53303986 228 [vR a0, vI a1, a2] [] h = some (.inl (some (vI 4)), h) := (FA_ex cf 53303986 2 _ _ _ _).trans rfl
theorem k_X10_priority_228 (cf : Nat → List PV → PH → Rs) (m : Nat) (a1 : Int) (a2 : PV) (b : PH) (s : MS) (B : MB b m) : FA cf 53303986 228 [vR m, vI a1, a2] [] (MH b m s) = some (.inl (some (vI 4)), (MH b m s)) := by
  refine (c_X10_priority_228 cf m a1 a2 (MH b m s) ).trans ?_
  try simp only [gI_MH, gJ_MH, gR_MH, pI_MH, pJ_MH]
  try rfl
theorem c_X10_priority_230 (cf : Nat → List PV → PH → Rs) (a0 : Nat) (a1 : Int) (a2 : PV) (h : PH) : FA cf 53303986 230 [vR a0, vI a1, a2] [] h = some (.inl (some (vI 5)), h) := (FA_ex cf 53303986 2 _ _ _ _).trans rfl
theorem k_X10_priority_230 (cf : Nat → List PV → PH → Rs) (m : Nat) (a1 : Int) (a2 : PV) (b : PH) (s : MS) (B : MB b m) : FA cf 53303986 230 [vR m, vI a1, a2] [] (MH b m s) = some (.inl (some (vI 5)), (MH b m s)) := by
  refine (c_X10_priority_230 cf m a1 a2 (MH b m s) ).trans ?_
  try simp only [gI_MH, gJ_MH, gR_MH, pI_MH, pJ_MH]
  try rfl
theorem c_X10_priority_232 (cf : Nat → List PV → PH → Rs) (a0 : Nat) (a1 : Int) (a2 : PV) (h : PH) : FA cf 53303986 232 [vR a0, vI a1, a2] [] h = some (.inl (some (vI 6)), h) := (FA_ex cf 53303986 2 _ _ _ _).trans rfl
theorem k_X10_priority_232 (cf : Nat → List PV → PH → Rs) (m : Nat) (a1 : Int) (a2 : PV) (b : PH) (s : MS) (B : MB b m) : FA cf 53303986 232 [vR m, vI a1, a2] [] (MH b m s) = some (.inl (some (vI 6)), (MH b m s)) := by
  refine (c_X10_priority_232 cf m a1 a2 (MH b m s) ).trans ?_
  try simp only [gI_MH, gJ_MH, gR_MH, pI_MH, pJ_MH]
  try rfl
theorem c_X10_priority_235 (cf : Nat → List PV → PH → Rs) (a0 : Nat) (a1 : Int) (a2 : PV) (h : PH) : FA cf 53303986 235 [vR a0, vI a1, a2] [] h = some (.inl (some (vI 7)), h) := (FA_ex cf 53303986 2 _ _ _ _).trans rfl
theorem k_X10_priority_235 (cf : Nat → List PV → PH → Rs) (m : Nat) (a1 : Int) (a2 : PV) (b : PH) (s : MS) (B : MB b m) : FA cf 53303986 235 [vR m, vI a1, a2] [] (MH b m s) = some (.inl (some (vI 7)), (MH b m s)) := by
  refine (c_X10_priority_235 cf m a1 a2 (MH b m s) ).trans ?_
  try simp only [gI_MH, gJ_MH, gR_MH, pI_MH, pJ_MH]
  try rfl
section MO
variable {b : PH} {m : Nat} {s : MS} {l : List TokE} {t k : Nat}
theorem sn_in {c : Int} : c ∈ snL ↔ (c = 43 ∨ c = 45 ∨ c = 42 ∨ c = 47 ∨ c = 37 ∨ c = 38 ∨ c = 33 ∨ c = 126 ∨ c = 61 ∨ c = 60 ∨ c = 62 ∨ c = 301 ∨ c = 302 ∨ c = 303) := by unfold snL; simp
theorem mf_isOpSign (d : Nat) (c : Int) (h : PH) : F (d + 1) 45613057 [vI c] h = some (.inl (some (vI (b01 (c ∈ snL)))), h) := by
  rw [e_X10_isOpSign, z_X10_isOpSign_0, c_X10_isOpSign_92 _ _ _ _ b01_b]
  congr 4
  exact congrArg vI (b01_c (by rw [sn_in]; omega))
theorem mf_isOperation (d : Nat) (B : MB b m) (T : TM s l) (hk : k < l.length) : F (d + 3) 45439666 [vR m, vI k] (MH b m s) = some (.inl (some (vI (b01 (isOp l k)))), MH b m s) := by
  have hb := T.in' hk
  obtain ⟨e1, e2, e3, e4⟩ := T.at' hk
  have fin : ¬ (kd l k = 5 ∧ sI l k ∈ snL) → FA (F (d + 2)) 45439666 22 [vR m, vI k] [] (MH b m s) = some (.inl (some (vI (b01 (isOp l k)))), MH b m s) := by
    intro q
    rw [k_X10_isOperation_22 _ _ _ _ _ B, mf_isOpIndicant d B T hk, bnd_v, pu_s, k_X10_isOperation_27 _ _ _ _ _ _ B]
    by_cases r : kd l k = 2 ∧ ¬ isMI l k
    · rw [if_neg (fun z => b01_0.mp z r), k_X10_isOperation_30 _ _ _ _ _ B, k_X10_isOperation_35 _ _ _ _ _ _ B (Or.inr rfl), b01_p (Or.inr r)]
    · rw [if_pos (b01_0.mpr r), k_X10_isOperation_34 _ _ _ _ _ B, k_X10_isOperation_35 _ _ _ _ _ _ B (Or.inl rfl), b01_n (fun z => z.elim q r)]
  rw [e_X10_isOperation, k_X10_isOperation_0 _ _ _ _ _ B hb, e1]
  by_cases q : kd l k = 5
  · rw [if_pos q, k_X10_isOperation_10 _ _ _ _ _ B hb, e3, mf_isOpSign, bnd_v, pu_s, k_X10_isOperation_19 _ _ _ _ _ _ B]
    by_cases r : sI l k ∈ snL
    · rw [if_neg (fun z => b01_0.mp z r), k_X10_isOperation_30 _ _ _ _ _ B, k_X10_isOperation_35 _ _ _ _ _ _ B (Or.inr rfl), b01_p (Or.inl ⟨q, r⟩)]
    · rw [if_pos (b01_0.mpr r), fin (fun z => r z.2)]
  · rw [if_neg q, fin (fun z => q z.1)]
theorem mf_isMonadic (d : Nat) (B : MB b m) (T : TM s l) (hk : k < l.length) : F (d + 3) 50420402 [vR m, vI k] (MH b m s) = some (.inl (some (vI (b01 (isMon l k)))), MH b m s) := by
  have hb := T.in' hk
  obtain ⟨e1, e2, e3, e4⟩ := T.at' hk
  have yes : isMon l k → FA (F (d + 2)) 50420402 51 [vR m, vI k] [] (MH b m s) = some (.inl (some (vI (b01 (isMon l k)))), MH b m s) := fun z => by rw [k_X10_isMonadic_51 _ _ _ _ _ B, k_X10_isMonadic_56 _ _ _ _ _ _ B (Or.inr rfl), b01_p z]
  have no : ¬ isMon l k → FA (F (d + 2)) 50420402 55 [vR m, vI k] [] (MH b m s) = some (.inl (some (vI (b01 (isMon l k)))), MH b m s) := fun z => by rw [k_X10_isMonadic_55 _ _ _ _ _ B, k_X10_isMonadic_56 _ _ _ _ _ _ B (Or.inl rfl), b01_n z]
  rw [e_X10_isMonadic, k_X10_isMonadic_0 _ _ _ _ _ B, mf_isOpIndicant d B T hk, bnd_v, pu_s, k_X10_isMonadic_5 _ _ _ _ _ _ B]
  by_cases r : kd l k = 2 ∧ ¬ isMI l k
  · rw [if_neg (fun z => b01_0.mp z r), yes ⟨Or.inr r, Or.inl r.1⟩]
  rw [if_pos (b01_0.mpr r), k_X10_isMonadic_8 _ _ _ _ _ B hb, e1]
  by_cases q : kd l k = 5
  · rw [if_pos q, k_X10_isMonadic_18 _ _ _ _ _ B hb, e3]
    by_cases a : sI l k = 43
    · rw [if_pos a, yes ⟨Or.inl ⟨q, by rw [a]; decide⟩, Or.inr (Or.inl a)⟩]
    rw [if_neg a, k_X10_isMonadic_29 _ _ _ _ _ B hb, e3]
    by_cases c : sI l k = 45
    · rw [if_pos c, yes ⟨Or.inl ⟨q, by rw [c]; decide⟩, Or.inr (Or.inr (Or.inl c))⟩]
    rw [if_neg c, k_X10_isMonadic_40 _ _ _ _ _ B hb, e3]
    by_cases e : sI l k = 126
    · rw [if_pos e, yes ⟨Or.inl ⟨q, by rw [e]; decide⟩, Or.inr (Or.inr (Or.inr e))⟩]
    rw [if_neg e, no]
    rintro ⟨z1, z2⟩
    rcases z2 with z | z | z | z
    · rw [q] at z; exact absurd z (by decide)
    · exact a z
    · exact c z
    · exact e z
  · rw [if_neg q, no]
    rintro ⟨z1 | z1, z2⟩
    · exact q z1.1
    · exact r z1
theorem mf_isDyadic (d : Nat) (B : MB b m) (T : TM s l) (hk : k < l.length) : F (d + 4) 52779698 [vR m, vI k] (MH b m s) = some (.inl (some (vI (b01 (isDy l k)))), MH b m s) := by
  have hb := T.in' hk
  obtain ⟨e1, e2, e3, e4⟩ := T.at' hk
  have yes : isDy l k → FA (F (d + 3)) 52779698 29 [vR m, vI k] [] (MH b m s) = some (.inl (some (vI (b01 (isDy l k)))), MH b m s) := fun z => by rw [k_X10_isDyadic_29 _ _ _ _ _ B, k_X10_isDyadic_34 _ _ _ _ _ _ B (Or.inr rfl), b01_p z]
  have no : ¬ isDy l k → FA (F (d + 3)) 52779698 33 [vR m, vI k] [] (MH b m s) = some (.inl (some (vI (b01 (isDy l k)))), MH b m s) := fun z => by rw [k_X10_isDyadic_33 _ _ _ _ _ B, k_X10_isDyadic_34 _ _ _ _ _ _ B (Or.inl rfl), b01_n z]
  rw [e_X10_isDyadic, k_X10_isDyadic_0 _ _ _ _ _ B, mf_isOperation d B T hk, bnd_v, pu_s, k_X10_isDyadic_5 _ _ _ _ _ _ B]
  by_cases r : isOp l k
  · rw [if_neg (fun z => b01_0.mp z r), k_X10_isDyadic_8 _ _ _ _ _ B hb, e1]
    by_cases q : kd l k = 5
    · rw [if_pos q, k_X10_isDyadic_18 _ _ _ _ _ B hb, e3]
      by_cases a : sI l k = 126
      · rw [if_pos a, no]
        rintro ⟨z1, z | z⟩
        · rw [q] at z; exact absurd z (by decide)
        · exact z a
      · rw [if_neg a, yes ⟨r, Or.inr a⟩]
    · rw [if_neg q, yes ⟨r, Or.inl (r.elim (fun z => absurd z.1 q) (fun z => z.1))⟩]
  · rw [if_pos (b01_0.mpr r), no (fun z => r z.1)]
theorem mf_isDeclarer (d : Nat) (B : MB b m) (T : TM s l) (hk : k < l.length) (hk1 : kd l k = 1 → k + 1 < l.length) : F (d + 3) 46226098 [vR m, vI k] (MH b m s) = some (.inl (some (vI (b01 (isDec l k)))), MH b m s) := by
  have hb := T.in' hk
  obtain ⟨e1, e2, e3, e4⟩ := T.at' hk
  have hl := T.2.1
  rw [e_X10_isDeclarer, k_X10_isDeclarer_0 _ _ _ _ _ _ B hb, e1]
  by_cases q5 : kd l k = 5
  · rw [if_pos q5, k_X10_isDeclarer_10 _ _ _ _ _ _ B hb, e3]
    by_cases r : sI l k = 91
    · rw [if_pos r, k_X10_isDeclarer_21 _ _ _ _ _ _ B, k_X10_isDeclarer_26 _ _ _ _ _ _ _ B (Or.inr rfl), b01_p (Or.inl ⟨q5, r⟩)]
    · rw [if_neg r, k_X10_isDeclarer_25 _ _ _ _ _ _ B, k_X10_isDeclarer_26 _ _ _ _ _ _ _ B (Or.inl rfl), b01_n]
      rintro (z | z | z)
      · exact r z.2
      · have := z.1; rw [q5] at this; exact absurd this (by decide)
      · have := z.1; rw [q5] at this; exact absurd this (by decide)
  rw [if_neg q5, k_X10_isDeclarer_27 _ _ _ _ _ _ B hb, e1]
  by_cases q2 : kd l k = 2
  · rw [if_pos q2, k_X10_isDeclarer_37 _ _ _ _ _ _ B, mf_isModeIndicant d B T hk, bnd_v, pu_s, k_X10_isDeclarer_42 _ _ _ _ _ _ _ B b01_b]
    congr 4
    refine congrArg vI (b01_c ⟨fun z => Or.inr (Or.inl z), ?_⟩)
    rintro (z | z | z)
    · exact absurd z.1 q5
    · exact z
    · have := z.1; rw [q2] at this; exact absurd this (by decide)
  rw [if_neg q2, k_X10_isDeclarer_43 _ _ _ _ _ _ B hb, e1]
  by_cases q1 : kd l k = 1
  · have yes : isDec l k → FA (F (d + 2)) 46226098 122 [vR m, vI k, vI (sI l k)] [] (MH b m s) = some (.inl (some (vI (b01 (isDec l k)))), MH b m s) := fun z => by rw [k_X10_isDeclarer_122 _ _ _ _ _ _ B, k_X10_isDeclarer_127 _ _ _ _ _ _ _ B (Or.inr rfl), b01_p z]
    have no : ¬ isDec l k → FA (F (d + 2)) 46226098 126 [vR m, vI k, vI (sI l k)] [] (MH b m s) = some (.inl (some (vI (b01 (isDec l k)))), MH b m s) := fun z => by rw [k_X10_isDeclarer_126 _ _ _ _ _ _ B, k_X10_isDeclarer_127 _ _ _ _ _ _ _ B (Or.inl rfl), b01_n z]
    have k6 : k < 1000000 := by omega
    have hk1 := hk1 q1
    rw [if_pos q1, k_X10_isDeclarer_55 _ _ _ _ _ _ B hb, e3]
    by_cases a34 : sI l k = 34
    · rw [if_pos a34, yes (Or.inr (Or.inr ⟨q1, Or.inr (Or.inl a34)⟩))]
    rw [if_neg a34, k_X10_isDeclarer_68 _ _ _ _ _ _ B]
    by_cases a35 : sI l k = 35
    · rw [if_pos a35, yes (Or.inr (Or.inr ⟨q1, Or.inr (Or.inr (Or.inl a35))⟩))]
    rw [if_neg a35, k_X10_isDeclarer_74 _ _ _ _ _ _ B]
    by_cases a36 : sI l k = 36
    · rw [if_pos a36, yes (Or.inr (Or.inr ⟨q1, Or.inr (Or.inr (Or.inr (Or.inl a36)))⟩))]
    rw [if_neg a36, k_X10_isDeclarer_80 _ _ _ _ _ _ B]
    by_cases a37 : sI l k = 37
    · rw [if_pos a37, yes (Or.inr (Or.inr ⟨q1, Or.inr (Or.inr (Or.inr (Or.inr (Or.inl a37))))⟩))]
    rw [if_neg a37, k_X10_isDeclarer_86 _ _ _ _ _ _ B]
    by_cases a38 : sI l k = 38
    · rw [if_pos a38, yes (Or.inr (Or.inr ⟨q1, Or.inr (Or.inr (Or.inr (Or.inr (Or.inr (Or.inl a38)))))⟩))]
    rw [if_neg a38, k_X10_isDeclarer_92 _ _ _ _ _ _ B]
    by_cases a39 : sI l k = 39
    · rw [if_pos a39, yes (Or.inr (Or.inr ⟨q1, Or.inr (Or.inr (Or.inr (Or.inr (Or.inr (Or.inr (Or.inl a39))))))⟩))]
    rw [if_neg a39, k_X10_isDeclarer_98 _ _ _ _ _ _ B]
    by_cases a40 : sI l k = 40
    · rw [if_pos a40, yes (Or.inr (Or.inr ⟨q1, Or.inr (Or.inr (Or.inr (Or.inr (Or.inr (Or.inr (Or.inr a40))))))⟩))]
    rw [if_neg a40, k_X10_isDeclarer_104 _ _ _ _ _ _ B]
    by_cases a12 : sI l k = 12
    · obtain ⟨f1, f2, f3, f4⟩ := T.at' hk1
      rw [if_pos a12, k_X10_isDeclarer_110 _ _ _ _ _ _ B (by rw [w32_1 k6]; exact T.in' hk1), w32_1 k6, f1]
      by_cases q4 : kd l (k + 1) = 4
      · rw [if_pos q4, no]
        rintro (z | z | z)
        · exact q5 z.1
        · exact q2 z.1
        · rcases z.2 with z | z
          · exact z.2 q4
          · omega
      · rw [if_neg q4, yes (Or.inr (Or.inr ⟨q1, Or.inl ⟨a12, q4⟩⟩))]
    · rw [if_neg a12, no]
      rintro (z | z | z)
      · exact q5 z.1
      · exact q2 z.1
      · have := z.2
        omega
  · rw [if_neg q1, k_X10_isDeclarer_53 _ _ _ _ _ _ B, b01_n]
    rintro (z | z | z)
    · exact q5 z.1
    · exact q2 z.1
    · exact q1 z.1
end MO
