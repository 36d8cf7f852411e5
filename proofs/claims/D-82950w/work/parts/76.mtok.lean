/-! THE MODEL's PARSER: questions about tokens -/
set_option maxRecDepth 100000
theorem e_X10_fails (d : Nat) (a0 : Nat) (h : PH) : F (d + 1) 42293937 [vR a0] h = FA (F d) 42293937 0 [vR a0] [] h := rfl
theorem c_X10_fails_0 (cf : Nat → List PV → PH → Rs) (a0 : Nat) (h : PH) (g0 : inT 43 43 (hc h a0)) : FA cf 42293937 0 [vR a0] [] h = if (gI h 1772836524 a0) < 0 then FA cf 42293937 8 [vR a0] [vR a0] h else FA cf 42293937 20 [vR a0] [vR a0] h := ((FA_ex cf 42293937 4 _ _ _ _).trans rfl : FA cf 42293937 0 [vR a0] [] h = gd (inT 43 43 (hc h a0)) (if (gI h 1772836524 a0) < 0 then FA cf 42293937 8 [vR a0] [vR a0] h else FA cf 42293937 20 [vR a0] [vR a0] h)).trans ((gd_t g0))
theorem k_X10_fails_0 (cf : Nat → List PV → PH → Rs) (m : Nat) (b : PH) (s : MS) (B : MB b m) : FA cf 42293937 0 [vR m] [] (MH b m s) = if (fI s 1772836524) < 0 then FA cf 42293937 8 [vR m] [vR m] (MH b m s) else FA cf 42293937 20 [vR m] [vR m] (MH b m s) := by
  refine (c_X10_fails_0 cf m (MH b m s) (i11 B.1)).trans ?_
  try simp only [gI_MH, gJ_MH, gR_MH, pI_MH, pJ_MH]
  try rfl
theorem c_X10_fails_8 (cf : Nat → List PV → PH → Rs) (a0 : Nat) (s0 : Nat) (h : PH) (g0 : inT 43 43 (hc h a0)) (g1 : (inT 64 65 (hc h (gR h 1739282094 a0)) ∨ inT 64 65 (kc h (gR h 1739282094 a0))) ∧ inA (gI h 1764447916 a0) (hl h (gR h 1739282094 a0))) : FA cf 42293937 8 [vR a0] [vR s0] h = FA cf 42293937 24 [vR a0] [vI (eI h (gR h 1739282094 a0) (gI h 1764447916 a0)), vR s0] h := ((FA_ex cf 42293937 6 _ _ _ _).trans rfl : FA cf 42293937 8 [vR a0] [vR s0] h = gd (inT 43 43 (hc h a0)) (gd (inT 43 43 (hc h a0)) (gd ((inT 64 65 (hc h (gR h 1739282094 a0)) ∨ inT 64 65 (kc h (gR h 1739282094 a0))) ∧ inA (gI h 1764447916 a0) (hl h (gR h 1739282094 a0))) (FA cf 42293937 24 [vR a0] [vI (eI h (gR h 1739282094 a0) (gI h 1764447916 a0)), vR s0] h)))).trans ((gd_t g0).trans ((gd_t g0).trans ((gd_t g1))))
theorem k_X10_fails_8 (cf : Nat → List PV → PH → Rs) (m : Nat) (b : PH) (s : MS) (B : MB b m) (b0 : inA (fI s 1764447916) 490) : FA cf 42293937 8 [vR m] [vR m] (MH b m s) = FA cf 42293937 24 [vR m] [vI (aI s 3 (fI s 1764447916)), vR m] (MH b m s) := by
  obtain ⟨t1_3, t2_3, t3_3⟩ := mb_tokAt B
  refine (c_X10_fails_8 cf m m (MH b m s) (i11 B.1) (by (try simp only [gI_MH, gJ_MH, gR_MH, pI_MH, pJ_MH, t1_3, eI_MH (b := b) (m := m) (k := 3) (by decide) (by decide), qI_MH (b := b) (m := m) (k := 3) (by decide) (by decide)]); exact ⟨Or.inl (T65 t2_3), IAe t3_3 (by assumption)⟩)).trans ?_
  try simp only [gI_MH, gJ_MH, gR_MH, pI_MH, pJ_MH, t1_3, eI_MH (b := b) (m := m) (k := 3) (by decide) (by decide), qI_MH (b := b) (m := m) (k := 3) (by decide) (by decide)]
  try rfl
theorem c_X10_fails_20 (cf : Nat → List PV → PH → Rs) (a0 : Nat) (s0 : Nat) (h : PH) (g0 : inT 43 43 (hc h a0)) : FA cf 42293937 20 [vR a0] [vR s0] h = FA cf 42293937 24 [vR a0] [vI (gI h 1772836524 a0), vR s0] h := ((FA_ex cf 42293937 2 _ _ _ _).trans rfl : FA cf 42293937 20 [vR a0] [vR s0] h = gd (inT 43 43 (hc h a0)) (FA cf 42293937 24 [vR a0] [vI (gI h 1772836524 a0), vR s0] h)).trans ((gd_t g0))
theorem k_X10_fails_20 (cf : Nat → List PV → PH → Rs) (m : Nat) (b : PH) (s : MS) (B : MB b m) : FA cf 42293937 20 [vR m] [vR m] (MH b m s) = FA cf 42293937 24 [vR m] [vI (fI s 1772836524), vR m] (MH b m s) := by
  refine (c_X10_fails_20 cf m m (MH b m s) (i11 B.1)).trans ?_
  try simp only [gI_MH, gJ_MH, gR_MH, pI_MH, pJ_MH]
  try rfl
theorem c_X10_fails_24 (cf : Nat → List PV → PH → Rs) (a0 : Nat) (s0 : Int) (s1 : Nat) (h : PH) (g0 : inT 43 43 (hc h s1)) : FA cf 42293937 24 [vR a0] [vI s0, vR s1] h = some (.inl (some (vI 0)), (pI h 1772836524 s1 s0)) := ((FA_ex cf 42293937 3 _ _ _ _).trans rfl : FA cf 42293937 24 [vR a0] [vI s0, vR s1] h = gd (inT 43 43 (hc h s1)) (gd ((0 : Int) = 0 ∨ (0 : Int) = 1) (some (.inl (some (vI 0)), (pI h 1772836524 s1 s0))))).trans ((gd_t g0).trans ((gd_t (by decide))))
theorem k_X10_fails_24 (cf : Nat → List PV → PH → Rs) (m : Nat) (s0 : Int) (b : PH) (s : MS) (B : MB b m) : FA cf 42293937 24 [vR m] [vI s0, vR m] (MH b m s) = some (.inl (some (vI 0)), (MH b m (uI s 1772836524 s0))) := by
  refine (c_X10_fails_24 cf m s0 m (MH b m s) (i11 B.1)).trans ?_
  try simp only [gI_MH, gJ_MH, gR_MH, pI_MH, pJ_MH]
  try rfl
theorem e_X10_isSign (d : Nat) (a0 : Nat) (a1 : Int) (h : PH) : F (d + 1) 43604658 [vR a0, vI a1] h = FA (F d) 43604658 0 [vR a0, vI a1] [] h := rfl
theorem c_X10_isSign_0 (cf : Nat → List PV → PH → Rs) (a0 : Nat) (a1 : Int) (h : PH) (g0 : inT 43 43 (hc h a0)) (g1 : (inT 64 65 (hc h (gR h 1730893486 a0)) ∨ inT 64 65 (kc h (gR h 1730893486 a0))) ∧ inA (gI h 1764447916 a0) (hl h (gR h 1730893486 a0))) : FA cf 43604658 0 [vR a0, vI a1] [] h = if (eI h (gR h 1730893486 a0) (gI h 1764447916 a0)) = 5 then FA cf 43604658 13 [vR a0, vI a1] [] h else FA cf 43604658 30 [vR a0, vI a1] [] h := ((FA_ex cf 43604658 7 _ _ _ _).trans rfl : FA cf 43604658 0 [vR a0, vI a1] [] h = gd (inT 43 43 (hc h a0)) (gd (inT 43 43 (hc h a0)) (gd ((inT 64 65 (hc h (gR h 1730893486 a0)) ∨ inT 64 65 (kc h (gR h 1730893486 a0))) ∧ inA (gI h 1764447916 a0) (hl h (gR h 1730893486 a0))) (if (eI h (gR h 1730893486 a0) (gI h 1764447916 a0)) = 5 then FA cf 43604658 13 [vR a0, vI a1] [] h else FA cf 43604658 30 [vR a0, vI a1] [] h)))).trans ((gd_t g0).trans ((gd_t g0).trans ((gd_t g1))))
theorem k_X10_isSign_0 (cf : Nat → List PV → PH → Rs) (m : Nat) (a1 : Int) (b : PH) (s : MS) (B : MB b m) (b0 : inA (fI s 1764447916) 490) : FA cf 43604658 0 [vR m, vI a1] [] (MH b m s) = if (aI s 2 (fI s 1764447916)) = 5 then FA cf 43604658 13 [vR m, vI a1] [] (MH b m s) else FA cf 43604658 30 [vR m, vI a1] [] (MH b m s) := by
  obtain ⟨t1_2, t2_2, t3_2⟩ := mb_tokKind B
  refine (c_X10_isSign_0 cf m a1 (MH b m s) (i11 B.1) (by (try simp only [gI_MH, gJ_MH, gR_MH, pI_MH, pJ_MH, t1_2, eI_MH (b := b) (m := m) (k := 2) (by decide) (by decide), qI_MH (b := b) (m := m) (k := 2) (by decide) (by decide)]); exact ⟨Or.inl (T65 t2_2), IAe t3_2 (by assumption)⟩)).trans ?_
  try simp only [gI_MH, gJ_MH, gR_MH, pI_MH, pJ_MH, t1_2, eI_MH (b := b) (m := m) (k := 2) (by decide) (by decide), qI_MH (b := b) (m := m) (k := 2) (by decide) (by decide)]
  try rfl
theorem c_X10_isSign_13 (cf : Nat → List PV → PH → Rs) (a0 : Nat) (a1 : Int) (h : PH) (g0 : inT 43 43 (hc h a0)) (g1 : (inT 64 65 (hc h (gR h 1747670702 a0)) ∨ inT 64 65 (kc h (gR h 1747670702 a0))) ∧ inA (gI h 1764447916 a0) (hl h (gR h 1747670702 a0))) : FA cf 43604658 13 [vR a0, vI a1] [] h = if (eI h (gR h 1747670702 a0) (gI h 1764447916 a0)) = a1 then FA cf 43604658 26 [vR a0, vI a1] [] h else FA cf 43604658 30 [vR a0, vI a1] [] h := ((FA_ex cf 43604658 7 _ _ _ _).trans rfl : FA cf 43604658 13 [vR a0, vI a1] [] h = gd (inT 43 43 (hc h a0)) (gd (inT 43 43 (hc h a0)) (gd ((inT 64 65 (hc h (gR h 1747670702 a0)) ∨ inT 64 65 (kc h (gR h 1747670702 a0))) ∧ inA (gI h 1764447916 a0) (hl h (gR h 1747670702 a0))) (if (eI h (gR h 1747670702 a0) (gI h 1764447916 a0)) = a1 then FA cf 43604658 26 [vR a0, vI a1] [] h else FA cf 43604658 30 [vR a0, vI a1] [] h)))).trans ((gd_t g0).trans ((gd_t g0).trans ((gd_t g1))))
theorem k_X10_isSign_13 (cf : Nat → List PV → PH → Rs) (m : Nat) (a1 : Int) (b : PH) (s : MS) (B : MB b m) (b0 : inA (fI s 1764447916) 490) : FA cf 43604658 13 [vR m, vI a1] [] (MH b m s) = if (aI s 4 (fI s 1764447916)) = a1 then FA cf 43604658 26 [vR m, vI a1] [] (MH b m s) else FA cf 43604658 30 [vR m, vI a1] [] (MH b m s) := by
  obtain ⟨t1_4, t2_4, t3_4⟩ := mb_tokIs B
  refine (c_X10_isSign_13 cf m a1 (MH b m s) (i11 B.1) (by (try simp only [gI_MH, gJ_MH, gR_MH, pI_MH, pJ_MH, t1_4, eI_MH (b := b) (m := m) (k := 4) (by decide) (by decide), qI_MH (b := b) (m := m) (k := 4) (by decide) (by decide)]); exact ⟨Or.inl (T65 t2_4), IAe t3_4 (by assumption)⟩)).trans ?_
  try simp only [gI_MH, gJ_MH, gR_MH, pI_MH, pJ_MH, t1_4, eI_MH (b := b) (m := m) (k := 4) (by decide) (by decide), qI_MH (b := b) (m := m) (k := 4) (by decide) (by decide)]
  try rfl
theorem c_X10_isSign_26 (cf : Nat → List PV → PH → Rs) (a0 : Nat) (a1 : Int) (h : PH) : FA cf 43604658 26 [vR a0, vI a1] [] h = FA cf 43604658 31 [vR a0, vI a1] [vI 1] h := (FA_ex cf 43604658 2 _ _ _ _).trans rfl
theorem k_X10_isSign_26 (cf : Nat → List PV → PH → Rs) (m : Nat) (a1 : Int) (b : PH) (s : MS) (B : MB b m) : FA cf 43604658 26 [vR m, vI a1] [] (MH b m s) = FA cf 43604658 31 [vR m, vI a1] [vI 1] (MH b m s) := by
  refine (c_X10_isSign_26 cf m a1 (MH b m s) ).trans ?_
  try simp only [gI_MH, gJ_MH, gR_MH, pI_MH, pJ_MH]
  try rfl
theorem c_X10_isSign_30 (cf : Nat → List PV → PH → Rs) (a0 : Nat) (a1 : Int) (h : PH) : FA cf 43604658 30 [vR a0, vI a1] [] h = FA cf 43604658 31 [vR a0, vI a1] [vI 0] h := (FA_ex cf 43604658 1 _ _ _ _).trans rfl
theorem k_X10_isSign_30 (cf : Nat → List PV → PH → Rs) (m : Nat) (a1 : Int) (b : PH) (s : MS) (B : MB b m) : FA cf 43604658 30 [vR m, vI a1] [] (MH b m s) = FA cf 43604658 31 [vR m, vI a1] [vI 0] (MH b m s) := by
  refine (c_X10_isSign_30 cf m a1 (MH b m s) ).trans ?_
  try simp only [gI_MH, gJ_MH, gR_MH, pI_MH, pJ_MH]
  try rfl
theorem c_X10_isSign_31 (cf : Nat → List PV → PH → Rs) (a0 : Nat) (a1 : Int) (s0 : Int) (h : PH) (g0 : (s0 : Int) = 0 ∨ (s0 : Int) = 1) : FA cf 43604658 31 [vR a0, vI a1] [vI s0] h = some (.inl (some (vI s0)), h) := ((FA_ex cf 43604658 1 _ _ _ _).trans rfl : FA cf 43604658 31 [vR a0, vI a1] [vI s0] h = gd ((s0 : Int) = 0 ∨ (s0 : Int) = 1) (some (.inl (some (vI s0)), h))).trans ((gd_t g0))
theorem k_X10_isSign_31 (cf : Nat → List PV → PH → Rs) (m : Nat) (a1 : Int) (s0 : Int) (b : PH) (s : MS) (B : MB b m) (b0 : (s0 : Int) = 0 ∨ (s0 : Int) = 1) : FA cf 43604658 31 [vR m, vI a1] [vI s0] (MH b m s) = some (.inl (some (vI s0)), (MH b m s)) := by
  refine (c_X10_isSign_31 cf m a1 s0 (MH b m s) (by first | assumption | (simp only [gI_MH, gJ_MH, gR_MH, pI_MH, pJ_MH]; assumption) | decide)).trans ?_
  try simp only [gI_MH, gJ_MH, gR_MH, pI_MH, pJ_MH]
  try rfl
theorem e_X10_isKept (d : Nat) (a0 : Nat) (a1 : Int) (h : PH) : F (d + 1) 42556082 [vR a0, vI a1] h = FA (F d) 42556082 0 [vR a0, vI a1] [] h := rfl
theorem c_X10_isKept_0 (cf : Nat → List PV → PH → Rs) (a0 : Nat) (a1 : Int) (h : PH) (g0 : inT 43 43 (hc h a0)) (g1 : (inT 64 65 (hc h (gR h 1730893486 a0)) ∨ inT 64 65 (kc h (gR h 1730893486 a0))) ∧ inA (gI h 1764447916 a0) (hl h (gR h 1730893486 a0))) : FA cf 42556082 0 [vR a0, vI a1] [] h = if (eI h (gR h 1730893486 a0) (gI h 1764447916 a0)) = 1 then FA cf 42556082 13 [vR a0, vI a1] [] h else FA cf 42556082 30 [vR a0, vI a1] [] h := ((FA_ex cf 42556082 7 _ _ _ _).trans rfl : FA cf 42556082 0 [vR a0, vI a1] [] h = gd (inT 43 43 (hc h a0)) (gd (inT 43 43 (hc h a0)) (gd ((inT 64 65 (hc h (gR h 1730893486 a0)) ∨ inT 64 65 (kc h (gR h 1730893486 a0))) ∧ inA (gI h 1764447916 a0) (hl h (gR h 1730893486 a0))) (if (eI h (gR h 1730893486 a0) (gI h 1764447916 a0)) = 1 then FA cf 42556082 13 [vR a0, vI a1] [] h else FA cf 42556082 30 [vR a0, vI a1] [] h)))).trans ((gd_t g0).trans ((gd_t g0).trans ((gd_t g1))))
theorem k_X10_isKept_0 (cf : Nat → List PV → PH → Rs) (m : Nat) (a1 : Int) (b : PH) (s : MS) (B : MB b m) (b0 : inA (fI s 1764447916) 490) : FA cf 42556082 0 [vR m, vI a1] [] (MH b m s) = if (aI s 2 (fI s 1764447916)) = 1 then FA cf 42556082 13 [vR m, vI a1] [] (MH b m s) else FA cf 42556082 30 [vR m, vI a1] [] (MH b m s) := by
  obtain ⟨t1_2, t2_2, t3_2⟩ := mb_tokKind B
  refine (c_X10_isKept_0 cf m a1 (MH b m s) (i11 B.1) (by (try simp only [gI_MH, gJ_MH, gR_MH, pI_MH, pJ_MH, t1_2, eI_MH (b := b) (m := m) (k := 2) (by decide) (by decide), qI_MH (b := b) (m := m) (k := 2) (by decide) (by decide)]); exact ⟨Or.inl (T65 t2_2), IAe t3_2 (by assumption)⟩)).trans ?_
  try simp only [gI_MH, gJ_MH, gR_MH, pI_MH, pJ_MH, t1_2, eI_MH (b := b) (m := m) (k := 2) (by decide) (by decide), qI_MH (b := b) (m := m) (k := 2) (by decide) (by decide)]
  try rfl
theorem c_X10_isKept_13 (cf : Nat → List PV → PH → Rs) (a0 : Nat) (a1 : Int) (h : PH) (g0 : inT 43 43 (hc h a0)) (g1 : (inT 64 65 (hc h (gR h 1747670702 a0)) ∨ inT 64 65 (kc h (gR h 1747670702 a0))) ∧ inA (gI h 1764447916 a0) (hl h (gR h 1747670702 a0))) : FA cf 42556082 13 [vR a0, vI a1] [] h = if (eI h (gR h 1747670702 a0) (gI h 1764447916 a0)) = a1 then FA cf 42556082 26 [vR a0, vI a1] [] h else FA cf 42556082 30 [vR a0, vI a1] [] h := ((FA_ex cf 42556082 7 _ _ _ _).trans rfl : FA cf 42556082 13 [vR a0, vI a1] [] h = gd (inT 43 43 (hc h a0)) (gd (inT 43 43 (hc h a0)) (gd ((inT 64 65 (hc h (gR h 1747670702 a0)) ∨ inT 64 65 (kc h (gR h 1747670702 a0))) ∧ inA (gI h 1764447916 a0) (hl h (gR h 1747670702 a0))) (if (eI h (gR h 1747670702 a0) (gI h 1764447916 a0)) = a1 then FA cf 42556082 26 [vR a0, vI a1] [] h else FA cf 42556082 30 [vR a0, vI a1] [] h)))).trans ((gd_t g0).trans ((gd_t g0).trans ((gd_t g1))))
theorem k_X10_isKept_13 (cf : Nat → List PV → PH → Rs) (m : Nat) (a1 : Int) (b : PH) (s : MS) (B : MB b m) (b0 : inA (fI s 1764447916) 490) : FA cf 42556082 13 [vR m, vI a1] [] (MH b m s) = if (aI s 4 (fI s 1764447916)) = a1 then FA cf 42556082 26 [vR m, vI a1] [] (MH b m s) else FA cf 42556082 30 [vR m, vI a1] [] (MH b m s) := by
  obtain ⟨t1_4, t2_4, t3_4⟩ := mb_tokIs B
  refine (c_X10_isKept_13 cf m a1 (MH b m s) (i11 B.1) (by (try simp only [gI_MH, gJ_MH, gR_MH, pI_MH, pJ_MH, t1_4, eI_MH (b := b) (m := m) (k := 4) (by decide) (by decide), qI_MH (b := b) (m := m) (k := 4) (by decide) (by decide)]); exact ⟨Or.inl (T65 t2_4), IAe t3_4 (by assumption)⟩)).trans ?_
  try simp only [gI_MH, gJ_MH, gR_MH, pI_MH, pJ_MH, t1_4, eI_MH (b := b) (m := m) (k := 4) (by decide) (by decide), qI_MH (b := b) (m := m) (k := 4) (by decide) (by decide)]
  try rfl
theorem c_X10_isKept_26 (cf : Nat → List PV → PH → Rs) (a0 : Nat) (a1 : Int) (h : PH) : FA cf 42556082 26 [vR a0, vI a1] [] h = FA cf 42556082 31 [vR a0, vI a1] [vI 1] h := (FA_ex cf 42556082 2 _ _ _ _).trans rfl
theorem k_X10_isKept_26 (cf : Nat → List PV → PH → Rs) (m : Nat) (a1 : Int) (b : PH) (s : MS) (B : MB b m) : FA cf 42556082 26 [vR m, vI a1] [] (MH b m s) = FA cf 42556082 31 [vR m, vI a1] [vI 1] (MH b m s) := by
  refine (c_X10_isKept_26 cf m a1 (MH b m s) ).trans ?_
  try simp only [gI_MH, gJ_MH, gR_MH, pI_MH, pJ_MH]
  try rfl
theorem c_X10_isKept_30 (cf : Nat → List PV → PH → Rs) (a0 : Nat) (a1 : Int) (h : PH) : FA cf 42556082 30 [vR a0, vI a1] [] h = FA cf 42556082 31 [vR a0, vI a1] [vI 0] h := (FA_ex cf 42556082 1 _ _ _ _).trans rfl
theorem k_X10_isKept_30 (cf : Nat → List PV → PH → Rs) (m : Nat) (a1 : Int) (b : PH) (s : MS) (B : MB b m) : FA cf 42556082 30 [vR m, vI a1] [] (MH b m s) = FA cf 42556082 31 [vR m, vI a1] [vI 0] (MH b m s) := by
  refine (c_X10_isKept_30 cf m a1 (MH b m s) ).trans ?_
  try simp only [gI_MH, gJ_MH, gR_MH, pI_MH, pJ_MH]
  try rfl
theorem c_X10_isKept_31 (cf : Nat → List PV → PH → Rs) (a0 : Nat) (a1 : Int) (s0 : Int) (h : PH) (g0 : (s0 : Int) = 0 ∨ (s0 : Int) = 1) : FA cf 42556082 31 [vR a0, vI a1] [vI s0] h = some (.inl (some (vI s0)), h) := ((FA_ex cf 42556082 1 _ _ _ _).trans rfl : FA cf 42556082 31 [vR a0, vI a1] [vI s0] h = gd ((s0 : Int) = 0 ∨ (s0 : Int) = 1) (some (.inl (some (vI s0)), h))).trans ((gd_t g0))
theorem k_X10_isKept_31 (cf : Nat → List PV → PH → Rs) (m : Nat) (a1 : Int) (s0 : Int) (b : PH) (s : MS) (B : MB b m) (b0 : (s0 : Int) = 0 ∨ (s0 : Int) = 1) : FA cf 42556082 31 [vR m, vI a1] [vI s0] (MH b m s) = some (.inl (some (vI s0)), (MH b m s)) := by
  refine (c_X10_isKept_31 cf m a1 s0 (MH b m s) (by first | assumption | (simp only [gI_MH, gJ_MH, gR_MH, pI_MH, pJ_MH]; assumption) | decide)).trans ?_
  try simp only [gI_MH, gJ_MH, gR_MH, pI_MH, pJ_MH]
  try rfl
theorem e_X10_takeSign (d : Nat) (a0 : Nat) (a1 : Int) (h : PH) : F (d + 1) 45177522 [vR a0, vI a1] h = FA (F d) 45177522 0 [vR a0, vI a1] [] h := rfl
theorem c_X10_takeSign_0 (cf : Nat → List PV → PH → Rs) (a0 : Nat) (a1 : Int) (h : PH) (g0 : inT 43 43 (hc h a0)) : FA cf 45177522 0 [vR a0, vI a1] [] h = bnd (cf 43604658 [vR a0, vI a1] h) (fun v h' => FA cf 45177522 5 [vR a0, vI a1] (pu v []) h') := ((FA_ex cf 45177522 3 _ _ _ _).trans rfl : FA cf 45177522 0 [vR a0, vI a1] [] h = gd (inT 43 43 (hc h a0)) (bnd (cf 43604658 [vR a0, vI a1] h) (fun v h' => FA cf 45177522 5 [vR a0, vI a1] (pu v []) h'))).trans ((gd_t g0))
theorem k_X10_takeSign_0 (cf : Nat → List PV → PH → Rs) (m : Nat) (a1 : Int) (b : PH) (s : MS) (B : MB b m) : FA cf 45177522 0 [vR m, vI a1] [] (MH b m s) = bnd (cf 43604658 [vR m, vI a1] (MH b m s)) (fun v h' => FA cf 45177522 5 [vR m, vI a1] (pu v []) h') := by
  refine (c_X10_takeSign_0 cf m a1 (MH b m s) (i11 B.1)).trans ?_
  try simp only [gI_MH, gJ_MH, gR_MH, pI_MH, pJ_MH]
  try rfl
theorem c_X10_takeSign_5 (cf : Nat → List PV → PH → Rs) (a0 : Nat) (a1 : Int) (s0 : Int) (h : PH) : FA cf 45177522 5 [vR a0, vI a1] [vI s0] h = if s0 = 0 then FA cf 45177522 8 [vR a0, vI a1] [] h else FA cf 45177522 13 [vR a0, vI a1] [] h := (FA_ex cf 45177522 1 _ _ _ _).trans rfl
theorem k_X10_takeSign_5 (cf : Nat → List PV → PH → Rs) (m : Nat) (a1 : Int) (s0 : Int) (b : PH) (s : MS) (B : MB b m) : FA cf 45177522 5 [vR m, vI a1] [vI s0] (MH b m s) = if s0 = 0 then FA cf 45177522 8 [vR m, vI a1] [] (MH b m s) else FA cf 45177522 13 [vR m, vI a1] [] (MH b m s) := by
  refine (c_X10_takeSign_5 cf m a1 s0 (MH b m s) ).trans ?_
  try simp only [gI_MH, gJ_MH, gR_MH, pI_MH, pJ_MH]
  try rfl
theorem c_X10_takeSign_8 (cf : Nat → List PV → PH → Rs) (a0 : Nat) (a1 : Int) (h : PH) (g0 : inT 43 43 (hc h a0)) : FA cf 45177522 8 [vR a0, vI a1] [] h = bnd (cf 42293937 [vR a0] h) (fun v h' => FA cf 45177522 12 [vR a0, vI a1] (pu v []) h') := ((FA_ex cf 45177522 2 _ _ _ _).trans rfl : FA cf 45177522 8 [vR a0, vI a1] [] h = gd (inT 43 43 (hc h a0)) (bnd (cf 42293937 [vR a0] h) (fun v h' => FA cf 45177522 12 [vR a0, vI a1] (pu v []) h'))).trans ((gd_t g0))
theorem k_X10_takeSign_8 (cf : Nat → List PV → PH → Rs) (m : Nat) (a1 : Int) (b : PH) (s : MS) (B : MB b m) : FA cf 45177522 8 [vR m, vI a1] [] (MH b m s) = bnd (cf 42293937 [vR m] (MH b m s)) (fun v h' => FA cf 45177522 12 [vR m, vI a1] (pu v []) h') := by
  refine (c_X10_takeSign_8 cf m a1 (MH b m s) (i11 B.1)).trans ?_
  try simp only [gI_MH, gJ_MH, gR_MH, pI_MH, pJ_MH]
  try rfl
theorem c_X10_takeSign_12 (cf : Nat → List PV → PH → Rs) (a0 : Nat) (a1 : Int) (s0 : Int) (h : PH) (g0 : (s0 : Int) = 0 ∨ (s0 : Int) = 1) : FA cf 45177522 12 [vR a0, vI a1] [vI s0] h = some (.inl (some (vI s0)), h) := ((FA_ex cf 45177522 1 _ _ _ _).trans rfl : FA cf 45177522 12 [vR a0, vI a1] [vI s0] h = gd ((s0 : Int) = 0 ∨ (s0 : Int) = 1) (some (.inl (some (vI s0)), h))).trans ((gd_t g0))
theorem k_X10_takeSign_12 (cf : Nat → List PV → PH → Rs) (m : Nat) (a1 : Int) (s0 : Int) (b : PH) (s : MS) (B : MB b m) (b0 : (s0 : Int) = 0 ∨ (s0 : Int) = 1) : FA cf 45177522 12 [vR m, vI a1] [vI s0] (MH b m s) = some (.inl (some (vI s0)), (MH b m s)) := by
  refine (c_X10_takeSign_12 cf m a1 s0 (MH b m s) (by first | assumption | (simp only [gI_MH, gJ_MH, gR_MH, pI_MH, pJ_MH]; assumption) | decide)).trans ?_
  try simp only [gI_MH, gJ_MH, gR_MH, pI_MH, pJ_MH]
  try rfl
theorem c_X10_takeSign_13 (cf : Nat → List PV → PH → Rs) (a0 : Nat) (a1 : Int) (h : PH) (g0 : inT 43 43 (hc h a0)) : FA cf 45177522 13 [vR a0, vI a1] [] h = some (.inl (some (vI 1)), (pI h 1764447916 a0 (w32 ((gI h 1764447916 a0) + 1)))) := ((FA_ex cf 45177522 8 _ _ _ _).trans rfl : FA cf 45177522 13 [vR a0, vI a1] [] h = gd (inT 43 43 (hc h a0)) (gd (inT 43 43 (hc h a0)) (gd ((1 : Int) = 0 ∨ (1 : Int) = 1) (some (.inl (some (vI 1)), (pI h 1764447916 a0 (w32 ((gI h 1764447916 a0) + 1)))))))).trans ((gd_t g0).trans ((gd_t g0).trans ((gd_t (by decide)))))
theorem k_X10_takeSign_13 (cf : Nat → List PV → PH → Rs) (m : Nat) (a1 : Int) (b : PH) (s : MS) (B : MB b m) : FA cf 45177522 13 [vR m, vI a1] [] (MH b m s) = some (.inl (some (vI 1)), (MH b m (uI s 1764447916 (w32 ((fI s 1764447916) + 1))))) := by
  refine (c_X10_takeSign_13 cf m a1 (MH b m s) (i11 B.1)).trans ?_
  try simp only [gI_MH, gJ_MH, gR_MH, pI_MH, pJ_MH]
  try rfl
theorem e_X10_takeKept (d : Nat) (a0 : Nat) (a1 : Int) (h : PH) : F (d + 1) 57498290 [vR a0, vI a1] h = FA (F d) 57498290 0 [vR a0, vI a1] [] h := rfl
theorem c_X10_takeKept_0 (cf : Nat → List PV → PH → Rs) (a0 : Nat) (a1 : Int) (h : PH) (g0 : inT 43 43 (hc h a0)) : FA cf 57498290 0 [vR a0, vI a1] [] h = bnd (cf 42556082 [vR a0, vI a1] h) (fun v h' => FA cf 57498290 5 [vR a0, vI a1] (pu v []) h') := ((FA_ex cf 57498290 3 _ _ _ _).trans rfl : FA cf 57498290 0 [vR a0, vI a1] [] h = gd (inT 43 43 (hc h a0)) (bnd (cf 42556082 [vR a0, vI a1] h) (fun v h' => FA cf 57498290 5 [vR a0, vI a1] (pu v []) h'))).trans ((gd_t g0))
theorem k_X10_takeKept_0 (cf : Nat → List PV → PH → Rs) (m : Nat) (a1 : Int) (b : PH) (s : MS) (B : MB b m) : FA cf 57498290 0 [vR m, vI a1] [] (MH b m s) = bnd (cf 42556082 [vR m, vI a1] (MH b m s)) (fun v h' => FA cf 57498290 5 [vR m, vI a1] (pu v []) h') := by
  refine (c_X10_takeKept_0 cf m a1 (MH b m s) (i11 B.1)).trans ?_
  try simp only [gI_MH, gJ_MH, gR_MH, pI_MH, pJ_MH]
  try rfl
theorem c_X10_takeKept_5 (cf : Nat → List PV → PH → Rs) (a0 : Nat) (a1 : Int) (s0 : Int) (h : PH) : FA cf 57498290 5 [vR a0, vI a1] [vI s0] h = if s0 = 0 then FA cf 57498290 8 [vR a0, vI a1] [] h else FA cf 57498290 13 [vR a0, vI a1] [] h := (FA_ex cf 57498290 1 _ _ _ _).trans rfl
theorem k_X10_takeKept_5 (cf : Nat → List PV → PH → Rs) (m : Nat) (a1 : Int) (s0 : Int) (b : PH) (s : MS) (B : MB b m) : FA cf 57498290 5 [vR m, vI a1] [vI s0] (MH b m s) = if s0 = 0 then FA cf 57498290 8 [vR m, vI a1] [] (MH b m s) else FA cf 57498290 13 [vR m, vI a1] [] (MH b m s) := by
  refine (c_X10_takeKept_5 cf m a1 s0 (MH b m s) ).trans ?_
  try simp only [gI_MH, gJ_MH, gR_MH, pI_MH, pJ_MH]
  try rfl
theorem c_X10_takeKept_8 (cf : Nat → List PV → PH → Rs) (a0 : Nat) (a1 : Int) (h : PH) (g0 : inT 43 43 (hc h a0)) : FA cf 57498290 8 [vR a0, vI a1] [] h = bnd (cf 42293937 [vR a0] h) (fun v h' => FA cf 57498290 12 [vR a0, vI a1] (pu v []) h') := ((FA_ex cf 57498290 2 _ _ _ _).trans rfl : FA cf 57498290 8 [vR a0, vI a1] [] h = gd (inT 43 43 (hc h a0)) (bnd (cf 42293937 [vR a0] h) (fun v h' => FA cf 57498290 12 [vR a0, vI a1] (pu v []) h'))).trans ((gd_t g0))
theorem k_X10_takeKept_8 (cf : Nat → List PV → PH → Rs) (m : Nat) (a1 : Int) (b : PH) (s : MS) (B : MB b m) : FA cf 57498290 8 [vR m, vI a1] [] (MH b m s) = bnd (cf 42293937 [vR m] (MH b m s)) (fun v h' => FA cf 57498290 12 [vR m, vI a1] (pu v []) h') := by
  refine (c_X10_takeKept_8 cf m a1 (MH b m s) (i11 B.1)).trans ?_
  try simp only [gI_MH, gJ_MH, gR_MH, pI_MH, pJ_MH]
  try rfl
theorem c_X10_takeKept_12 (cf : Nat → List PV → PH → Rs) (a0 : Nat) (a1 : Int) (s0 : Int) (h : PH) (g0 : (s0 : Int) = 0 ∨ (s0 : Int) = 1) : FA cf 57498290 12 [vR a0, vI a1] [vI s0] h = some (.inl (some (vI s0)), h) := ((FA_ex cf 57498290 1 _ _ _ _).trans rfl : FA cf 57498290 12 [vR a0, vI a1] [vI s0] h = gd ((s0 : Int) = 0 ∨ (s0 : Int) = 1) (some (.inl (some (vI s0)), h))).trans ((gd_t g0))
theorem k_X10_takeKept_12 (cf : Nat → List PV → PH → Rs) (m : Nat) (a1 : Int) (s0 : Int) (b : PH) (s : MS) (B : MB b m) (b0 : (s0 : Int) = 0 ∨ (s0 : Int) = 1) : FA cf 57498290 12 [vR m, vI a1] [vI s0] (MH b m s) = some (.inl (some (vI s0)), (MH b m s)) := by
  refine (c_X10_takeKept_12 cf m a1 s0 (MH b m s) (by first | assumption | (simp only [gI_MH, gJ_MH, gR_MH, pI_MH, pJ_MH]; assumption) | decide)).trans ?_
  try simp only [gI_MH, gJ_MH, gR_MH, pI_MH, pJ_MH]
  try rfl
theorem c_X10_takeKept_13 (cf : Nat → List PV → PH → Rs) (a0 : Nat) (a1 : Int) (h : PH) (g0 : inT 43 43 (hc h a0)) : FA cf 57498290 13 [vR a0, vI a1] [] h = some (.inl (some (vI 1)), (pI h 1764447916 a0 (w32 ((gI h 1764447916 a0) + 1)))) := ((FA_ex cf 57498290 8 _ _ _ _).trans rfl : FA cf 57498290 13 [vR a0, vI a1] [] h = gd (inT 43 43 (hc h a0)) (gd (inT 43 43 (hc h a0)) (gd ((1 : Int) = 0 ∨ (1 : Int) = 1) (some (.inl (some (vI 1)), (pI h 1764447916 a0 (w32 ((gI h 1764447916 a0) + 1)))))))).trans ((gd_t g0).trans ((gd_t g0).trans ((gd_t (by decide)))))
theorem k_X10_takeKept_13 (cf : Nat → List PV → PH → Rs) (m : Nat) (a1 : Int) (b : PH) (s : MS) (B : MB b m) : FA cf 57498290 13 [vR m, vI a1] [] (MH b m s) = some (.inl (some (vI 1)), (MH b m (uI s 1764447916 (w32 ((fI s 1764447916) + 1))))) := by
  refine (c_X10_takeKept_13 cf m a1 (MH b m s) (i11 B.1)).trans ?_
  try simp only [gI_MH, gJ_MH, gR_MH, pI_MH, pJ_MH]
  try rfl
theorem e_X10_opens (d : Nat) (a0 : Nat) (h : PH) : F (d + 1) 43866801 [vR a0] h = FA (F d) 43866801 0 [vR a0] [] h := rfl
theorem c_X10_opens_0 (cf : Nat → List PV → PH → Rs) (a0 : Nat) (h : PH) (g0 : inT 43 43 (hc h a0)) : FA cf 43866801 0 [vR a0] [] h = if (gI h 1781225132 a0) = 24 then FA cf 43866801 9 [vR a0] [] h else FA cf 43866801 14 [vR a0] [] h := ((FA_ex cf 43866801 4 _ _ _ _).trans rfl : FA cf 43866801 0 [vR a0] [] h = gd (inT 43 43 (hc h a0)) (if (gI h 1781225132 a0) = 24 then FA cf 43866801 9 [vR a0] [] h else FA cf 43866801 14 [vR a0] [] h)).trans ((gd_t g0))
theorem k_X10_opens_0 (cf : Nat → List PV → PH → Rs) (m : Nat) (b : PH) (s : MS) (B : MB b m) : FA cf 43866801 0 [vR m] [] (MH b m s) = if (fI s 1781225132) = 24 then FA cf 43866801 9 [vR m] [] (MH b m s) else FA cf 43866801 14 [vR m] [] (MH b m s) := by
  refine (c_X10_opens_0 cf m (MH b m s) (i11 B.1)).trans ?_
  try simp only [gI_MH, gJ_MH, gR_MH, pI_MH, pJ_MH]
  try rfl
theorem c_X10_opens_9 (cf : Nat → List PV → PH → Rs) (a0 : Nat) (h : PH) (g0 : inT 43 43 (hc h a0)) : FA cf 43866801 9 [vR a0] [] h = bnd (cf 42293937 [vR a0] h) (fun v h' => FA cf 43866801 13 [vR a0] (pu v []) h') := ((FA_ex cf 43866801 2 _ _ _ _).trans rfl : FA cf 43866801 9 [vR a0] [] h = gd (inT 43 43 (hc h a0)) (bnd (cf 42293937 [vR a0] h) (fun v h' => FA cf 43866801 13 [vR a0] (pu v []) h'))).trans ((gd_t g0))
theorem k_X10_opens_9 (cf : Nat → List PV → PH → Rs) (m : Nat) (b : PH) (s : MS) (B : MB b m) : FA cf 43866801 9 [vR m] [] (MH b m s) = bnd (cf 42293937 [vR m] (MH b m s)) (fun v h' => FA cf 43866801 13 [vR m] (pu v []) h') := by
  refine (c_X10_opens_9 cf m (MH b m s) (i11 B.1)).trans ?_
  try simp only [gI_MH, gJ_MH, gR_MH, pI_MH, pJ_MH]
  try rfl
theorem c_X10_opens_13 (cf : Nat → List PV → PH → Rs) (a0 : Nat) (s0 : Int) (h : PH) (g0 : (s0 : Int) = 0 ∨ (s0 : Int) = 1) : FA cf 43866801 13 [vR a0] [vI s0] h = some (.inl (some (vI s0)), h) := ((FA_ex cf 43866801 1 _ _ _ _).trans rfl : FA cf 43866801 13 [vR a0] [vI s0] h = gd ((s0 : Int) = 0 ∨ (s0 : Int) = 1) (some (.inl (some (vI s0)), h))).trans ((gd_t g0))
theorem k_X10_opens_13 (cf : Nat → List PV → PH → Rs) (m : Nat) (s0 : Int) (b : PH) (s : MS) (B : MB b m) (b0 : (s0 : Int) = 0 ∨ (s0 : Int) = 1) : FA cf 43866801 13 [vR m] [vI s0] (MH b m s) = some (.inl (some (vI s0)), (MH b m s)) := by
  refine (c_X10_opens_13 cf m s0 (MH b m s) (by first | assumption | (simp only [gI_MH, gJ_MH, gR_MH, pI_MH, pJ_MH]; assumption) | decide)).trans ?_
  try simp only [gI_MH, gJ_MH, gR_MH, pI_MH, pJ_MH]
  try rfl
theorem c_X10_opens_14 (cf : Nat → List PV → PH → Rs) (a0 : Nat) (h : PH) (g0 : inT 43 43 (hc h a0)) : FA cf 43866801 14 [vR a0] [] h = some (.inl (some (vI 1)), (pI h 1781225132 a0 (w32 ((gI h 1781225132 a0) + 1)))) := ((FA_ex cf 43866801 8 _ _ _ _).trans rfl : FA cf 43866801 14 [vR a0] [] h = gd (inT 43 43 (hc h a0)) (gd (inT 43 43 (hc h a0)) (gd ((1 : Int) = 0 ∨ (1 : Int) = 1) (some (.inl (some (vI 1)), (pI h 1781225132 a0 (w32 ((gI h 1781225132 a0) + 1)))))))).trans ((gd_t g0).trans ((gd_t g0).trans ((gd_t (by decide)))))
theorem k_X10_opens_14 (cf : Nat → List PV → PH → Rs) (m : Nat) (b : PH) (s : MS) (B : MB b m) : FA cf 43866801 14 [vR m] [] (MH b m s) = some (.inl (some (vI 1)), (MH b m (uI s 1781225132 (w32 ((fI s 1781225132) + 1))))) := by
  refine (c_X10_opens_14 cf m (MH b m s) (i11 B.1)).trans ?_
  try simp only [gI_MH, gJ_MH, gR_MH, pI_MH, pJ_MH]
  try rfl
theorem e_X10_opensSign (d : Nat) (a0 : Nat) (a1 : Int) (h : PH) : F (d + 1) 43342514 [vR a0, vI a1] h = FA (F d) 43342514 0 [vR a0, vI a1] [] h := rfl
theorem c_X10_opensSign_0 (cf : Nat → List PV → PH → Rs) (a0 : Nat) (a1 : Int) (h : PH) (g0 : inT 43 43 (hc h a0)) : FA cf 43342514 0 [vR a0, vI a1] [] h = bnd (cf 43604658 [vR a0, vI a1] h) (fun v h' => FA cf 43342514 5 [vR a0, vI a1] (pu v []) h') := ((FA_ex cf 43342514 3 _ _ _ _).trans rfl : FA cf 43342514 0 [vR a0, vI a1] [] h = gd (inT 43 43 (hc h a0)) (bnd (cf 43604658 [vR a0, vI a1] h) (fun v h' => FA cf 43342514 5 [vR a0, vI a1] (pu v []) h'))).trans ((gd_t g0))
theorem k_X10_opensSign_0 (cf : Nat → List PV → PH → Rs) (m : Nat) (a1 : Int) (b : PH) (s : MS) (B : MB b m) : FA cf 43342514 0 [vR m, vI a1] [] (MH b m s) = bnd (cf 43604658 [vR m, vI a1] (MH b m s)) (fun v h' => FA cf 43342514 5 [vR m, vI a1] (pu v []) h') := by
  refine (c_X10_opensSign_0 cf m a1 (MH b m s) (i11 B.1)).trans ?_
  try simp only [gI_MH, gJ_MH, gR_MH, pI_MH, pJ_MH]
  try rfl
theorem c_X10_opensSign_5 (cf : Nat → List PV → PH → Rs) (a0 : Nat) (a1 : Int) (s0 : Int) (h : PH) : FA cf 43342514 5 [vR a0, vI a1] [vI s0] h = if s0 = 0 then FA cf 43342514 15 [vR a0, vI a1] [] h else FA cf 43342514 8 [vR a0, vI a1] [] h := (FA_ex cf 43342514 1 _ _ _ _).trans rfl
theorem k_X10_opensSign_5 (cf : Nat → List PV → PH → Rs) (m : Nat) (a1 : Int) (s0 : Int) (b : PH) (s : MS) (B : MB b m) : FA cf 43342514 5 [vR m, vI a1] [vI s0] (MH b m s) = if s0 = 0 then FA cf 43342514 15 [vR m, vI a1] [] (MH b m s) else FA cf 43342514 8 [vR m, vI a1] [] (MH b m s) := by
  refine (c_X10_opensSign_5 cf m a1 s0 (MH b m s) ).trans ?_
  try simp only [gI_MH, gJ_MH, gR_MH, pI_MH, pJ_MH]
  try rfl
theorem c_X10_opensSign_8 (cf : Nat → List PV → PH → Rs) (a0 : Nat) (a1 : Int) (h : PH) (g0 : inT 43 43 (hc h a0)) : FA cf 43342514 8 [vR a0, vI a1] [] h = bnd (cf 43866801 [vR a0] h) (fun v h' => FA cf 43342514 12 [vR a0, vI a1] (pu v []) h') := ((FA_ex cf 43342514 2 _ _ _ _).trans rfl : FA cf 43342514 8 [vR a0, vI a1] [] h = gd (inT 43 43 (hc h a0)) (bnd (cf 43866801 [vR a0] h) (fun v h' => FA cf 43342514 12 [vR a0, vI a1] (pu v []) h'))).trans ((gd_t g0))
theorem k_X10_opensSign_8 (cf : Nat → List PV → PH → Rs) (m : Nat) (a1 : Int) (b : PH) (s : MS) (B : MB b m) : FA cf 43342514 8 [vR m, vI a1] [] (MH b m s) = bnd (cf 43866801 [vR m] (MH b m s)) (fun v h' => FA cf 43342514 12 [vR m, vI a1] (pu v []) h') := by
  refine (c_X10_opensSign_8 cf m a1 (MH b m s) (i11 B.1)).trans ?_
  try simp only [gI_MH, gJ_MH, gR_MH, pI_MH, pJ_MH]
  try rfl
theorem c_X10_opensSign_12 (cf : Nat → List PV → PH → Rs) (a0 : Nat) (a1 : Int) (s0 : Int) (h : PH) : FA cf 43342514 12 [vR a0, vI a1] [vI s0] h = if s0 = 0 then FA cf 43342514 15 [vR a0, vI a1] [] h else FA cf 43342514 20 [vR a0, vI a1] [] h := (FA_ex cf 43342514 1 _ _ _ _).trans rfl
theorem k_X10_opensSign_12 (cf : Nat → List PV → PH → Rs) (m : Nat) (a1 : Int) (s0 : Int) (b : PH) (s : MS) (B : MB b m) : FA cf 43342514 12 [vR m, vI a1] [vI s0] (MH b m s) = if s0 = 0 then FA cf 43342514 15 [vR m, vI a1] [] (MH b m s) else FA cf 43342514 20 [vR m, vI a1] [] (MH b m s) := by
  refine (c_X10_opensSign_12 cf m a1 s0 (MH b m s) ).trans ?_
  try simp only [gI_MH, gJ_MH, gR_MH, pI_MH, pJ_MH]
  try rfl
theorem c_X10_opensSign_15 (cf : Nat → List PV → PH → Rs) (a0 : Nat) (a1 : Int) (h : PH) (g0 : inT 43 43 (hc h a0)) : FA cf 43342514 15 [vR a0, vI a1] [] h = bnd (cf 42293937 [vR a0] h) (fun v h' => FA cf 43342514 19 [vR a0, vI a1] (pu v []) h') := ((FA_ex cf 43342514 2 _ _ _ _).trans rfl : FA cf 43342514 15 [vR a0, vI a1] [] h = gd (inT 43 43 (hc h a0)) (bnd (cf 42293937 [vR a0] h) (fun v h' => FA cf 43342514 19 [vR a0, vI a1] (pu v []) h'))).trans ((gd_t g0))
theorem k_X10_opensSign_15 (cf : Nat → List PV → PH → Rs) (m : Nat) (a1 : Int) (b : PH) (s : MS) (B : MB b m) : FA cf 43342514 15 [vR m, vI a1] [] (MH b m s) = bnd (cf 42293937 [vR m] (MH b m s)) (fun v h' => FA cf 43342514 19 [vR m, vI a1] (pu v []) h') := by
  refine (c_X10_opensSign_15 cf m a1 (MH b m s) (i11 B.1)).trans ?_
  try simp only [gI_MH, gJ_MH, gR_MH, pI_MH, pJ_MH]
  try rfl
theorem c_X10_opensSign_19 (cf : Nat → List PV → PH → Rs) (a0 : Nat) (a1 : Int) (s0 : Int) (h : PH) (g0 : (s0 : Int) = 0 ∨ (s0 : Int) = 1) : FA cf 43342514 19 [vR a0, vI a1] [vI s0] h = some (.inl (some (vI s0)), h) := ((FA_ex cf 43342514 1 _ _ _ _).trans rfl : FA cf 43342514 19 [vR a0, vI a1] [vI s0] h = gd ((s0 : Int) = 0 ∨ (s0 : Int) = 1) (some (.inl (some (vI s0)), h))).trans ((gd_t g0))
theorem k_X10_opensSign_19 (cf : Nat → List PV → PH → Rs) (m : Nat) (a1 : Int) (s0 : Int) (b : PH) (s : MS) (B : MB b m) (b0 : (s0 : Int) = 0 ∨ (s0 : Int) = 1) : FA cf 43342514 19 [vR m, vI a1] [vI s0] (MH b m s) = some (.inl (some (vI s0)), (MH b m s)) := by
  refine (c_X10_opensSign_19 cf m a1 s0 (MH b m s) (by first | assumption | (simp only [gI_MH, gJ_MH, gR_MH, pI_MH, pJ_MH]; assumption) | decide)).trans ?_
  try simp only [gI_MH, gJ_MH, gR_MH, pI_MH, pJ_MH]
  try rfl
theorem c_X10_opensSign_20 (cf : Nat → List PV → PH → Rs) (a0 : Nat) (a1 : Int) (h : PH) (g0 : inT 43 43 (hc h a0)) : FA cf 43342514 20 [vR a0, vI a1] [] h = some (.inl (some (vI 1)), (pI h 1764447916 a0 (w32 ((gI h 1764447916 a0) + 1)))) := ((FA_ex cf 43342514 8 _ _ _ _).trans rfl : FA cf 43342514 20 [vR a0, vI a1] [] h = gd (inT 43 43 (hc h a0)) (gd (inT 43 43 (hc h a0)) (gd ((1 : Int) = 0 ∨ (1 : Int) = 1) (some (.inl (some (vI 1)), (pI h 1764447916 a0 (w32 ((gI h 1764447916 a0) + 1)))))))).trans ((gd_t g0).trans ((gd_t g0).trans ((gd_t (by decide)))))
theorem k_X10_opensSign_20 (cf : Nat → List PV → PH → Rs) (m : Nat) (a1 : Int) (b : PH) (s : MS) (B : MB b m) : FA cf 43342514 20 [vR m, vI a1] [] (MH b m s) = some (.inl (some (vI 1)), (MH b m (uI s 1764447916 (w32 ((fI s 1764447916) + 1))))) := by
  refine (c_X10_opensSign_20 cf m a1 (MH b m s) (i11 B.1)).trans ?_
  try simp only [gI_MH, gJ_MH, gR_MH, pI_MH, pJ_MH]
  try rfl
theorem e_X10_closesSign (d : Nat) (a0 : Nat) (a1 : Int) (h : PH) : F (d + 1) 51993266 [vR a0, vI a1] h = FA (F d) 51993266 0 [vR a0, vI a1] [] h := rfl
theorem c_X10_closesSign_0 (cf : Nat → List PV → PH → Rs) (a0 : Nat) (a1 : Int) (h : PH) (g0 : inT 43 43 (hc h a0)) : FA cf 51993266 0 [vR a0, vI a1] [] h = bnd (cf 45177522 [vR a0, vI a1] h) (fun v h' => FA cf 51993266 5 [vR a0, vI a1] (pu v []) h') := ((FA_ex cf 51993266 3 _ _ _ _).trans rfl : FA cf 51993266 0 [vR a0, vI a1] [] h = gd (inT 43 43 (hc h a0)) (bnd (cf 45177522 [vR a0, vI a1] h) (fun v h' => FA cf 51993266 5 [vR a0, vI a1] (pu v []) h'))).trans ((gd_t g0))
theorem k_X10_closesSign_0 (cf : Nat → List PV → PH → Rs) (m : Nat) (a1 : Int) (b : PH) (s : MS) (B : MB b m) : FA cf 51993266 0 [vR m, vI a1] [] (MH b m s) = bnd (cf 45177522 [vR m, vI a1] (MH b m s)) (fun v h' => FA cf 51993266 5 [vR m, vI a1] (pu v []) h') := by
  refine (c_X10_closesSign_0 cf m a1 (MH b m s) (i11 B.1)).trans ?_
  try simp only [gI_MH, gJ_MH, gR_MH, pI_MH, pJ_MH]
  try rfl
theorem c_X10_closesSign_5 (cf : Nat → List PV → PH → Rs) (a0 : Nat) (a1 : Int) (s0 : Int) (h : PH) : FA cf 51993266 5 [vR a0, vI a1] [vI s0] h = if s0 = 0 then FA cf 51993266 8 [vR a0, vI a1] [] h else FA cf 51993266 10 [vR a0, vI a1] [] h := (FA_ex cf 51993266 1 _ _ _ _).trans rfl
theorem k_X10_closesSign_5 (cf : Nat → List PV → PH → Rs) (m : Nat) (a1 : Int) (s0 : Int) (b : PH) (s : MS) (B : MB b m) : FA cf 51993266 5 [vR m, vI a1] [vI s0] (MH b m s) = if s0 = 0 then FA cf 51993266 8 [vR m, vI a1] [] (MH b m s) else FA cf 51993266 10 [vR m, vI a1] [] (MH b m s) := by
  refine (c_X10_closesSign_5 cf m a1 s0 (MH b m s) ).trans ?_
  try simp only [gI_MH, gJ_MH, gR_MH, pI_MH, pJ_MH]
  try rfl
theorem c_X10_closesSign_8 (cf : Nat → List PV → PH → Rs) (a0 : Nat) (a1 : Int) (h : PH) : FA cf 51993266 8 [vR a0, vI a1] [] h = some (.inl (some (vI 0)), h) := ((FA_ex cf 51993266 2 _ _ _ _).trans rfl : FA cf 51993266 8 [vR a0, vI a1] [] h = gd ((0 : Int) = 0 ∨ (0 : Int) = 1) (some (.inl (some (vI 0)), h))).trans ((gd_t (by decide)))
theorem k_X10_closesSign_8 (cf : Nat → List PV → PH → Rs) (m : Nat) (a1 : Int) (b : PH) (s : MS) (B : MB b m) : FA cf 51993266 8 [vR m, vI a1] [] (MH b m s) = some (.inl (some (vI 0)), (MH b m s)) := by
  refine (c_X10_closesSign_8 cf m a1 (MH b m s) ).trans ?_
  try simp only [gI_MH, gJ_MH, gR_MH, pI_MH, pJ_MH]
  try rfl
theorem c_X10_closesSign_10 (cf : Nat → List PV → PH → Rs) (a0 : Nat) (a1 : Int) (h : PH) (g0 : inT 43 43 (hc h a0)) : FA cf 51993266 10 [vR a0, vI a1] [] h = some (.inl (some (vI 1)), (pI h 1781225132 a0 (w32 ((gI h 1781225132 a0) - 1)))) := ((FA_ex cf 51993266 8 _ _ _ _).trans rfl : FA cf 51993266 10 [vR a0, vI a1] [] h = gd (inT 43 43 (hc h a0)) (gd (inT 43 43 (hc h a0)) (gd ((1 : Int) = 0 ∨ (1 : Int) = 1) (some (.inl (some (vI 1)), (pI h 1781225132 a0 (w32 ((gI h 1781225132 a0) - 1)))))))).trans ((gd_t g0).trans ((gd_t g0).trans ((gd_t (by decide)))))
theorem k_X10_closesSign_10 (cf : Nat → List PV → PH → Rs) (m : Nat) (a1 : Int) (b : PH) (s : MS) (B : MB b m) : FA cf 51993266 10 [vR m, vI a1] [] (MH b m s) = some (.inl (some (vI 1)), (MH b m (uI s 1781225132 (w32 ((fI s 1781225132) - 1))))) := by
  refine (c_X10_closesSign_10 cf m a1 (MH b m s) (i11 B.1)).trans ?_
  try simp only [gI_MH, gJ_MH, gR_MH, pI_MH, pJ_MH]
  try rfl
theorem e_X10_isModeWord (d : Nat) (a0 : Nat) (a1 : Int) (h : PH) : F (d + 1) 43080370 [vR a0, vJ a1] h = FA (F d) 43080370 0 [vR a0, vJ a1, vX, vX, vX] [] h := rfl
theorem c_X10_isModeWord_0 (cf : Nat → List PV → PH → Rs) (a0 : Nat) (a1 : Int) (a3 : PV) (a4 : PV) (h : PH) : FA cf 43080370 0 [vR a0, vJ a1, vX, a3, a4] [] h = FA cf 43080370 5 [vR a0, vJ a1, vX, vI 0, vI 0] [] h := (FA_ex cf 43080370 4 _ _ _ _).trans rfl
theorem k_X10_isModeWord_0 (cf : Nat → List PV → PH → Rs) (m : Nat) (a1 : Int) (a3 : PV) (a4 : PV) (b : PH) (s : MS) (B : MB b m) : FA cf 43080370 0 [vR m, vJ a1, vX, a3, a4] [] (MH b m s) = FA cf 43080370 5 [vR m, vJ a1, vX, vI 0, vI 0] [] (MH b m s) := by
  refine (c_X10_isModeWord_0 cf m a1 a3 a4 (MH b m s) ).trans ?_
  try simp only [gI_MH, gJ_MH, gR_MH, pI_MH, pJ_MH]
  try rfl
theorem c_X10_isModeWord_5 (cf : Nat → List PV → PH → Rs) (a0 : Nat) (a1 : Int) (a3 : Int) (a4 : Int) (h : PH) (g0 : inT 43 43 (hc h a0)) : FA cf 43080370 5 [vR a0, vJ a1, vX, vI a3, vI a4] [] h = if (w32 (a4 + 1)) < (gI h 1722504876 a0) then FA cf 43080370 16 [vR a0, vJ a1, vX, vI a3, vI a4] [] h else FA cf 43080370 80 [vR a0, vJ a1, vX, vI a3, vI a4] [] h := ((FA_ex cf 43080370 6 _ _ _ _).trans rfl : FA cf 43080370 5 [vR a0, vJ a1, vX, vI a3, vI a4] [] h = gd (inT 43 43 (hc h a0)) (if (w32 (a4 + 1)) < (gI h 1722504876 a0) then FA cf 43080370 16 [vR a0, vJ a1, vX, vI a3, vI a4] [] h else FA cf 43080370 80 [vR a0, vJ a1, vX, vI a3, vI a4] [] h)).trans ((gd_t g0))
theorem k_X10_isModeWord_5 (cf : Nat → List PV → PH → Rs) (m : Nat) (a1 : Int) (a3 : Int) (a4 : Int) (b : PH) (s : MS) (B : MB b m) : FA cf 43080370 5 [vR m, vJ a1, vX, vI a3, vI a4] [] (MH b m s) = if (w32 (a4 + 1)) < (fI s 1722504876) then FA cf 43080370 16 [vR m, vJ a1, vX, vI a3, vI a4] [] (MH b m s) else FA cf 43080370 80 [vR m, vJ a1, vX, vI a3, vI a4] [] (MH b m s) := by
  refine (c_X10_isModeWord_5 cf m a1 a3 a4 (MH b m s) (i11 B.1)).trans ?_
  try simp only [gI_MH, gJ_MH, gR_MH, pI_MH, pJ_MH]
  try rfl
theorem c_X10_isModeWord_16 (cf : Nat → List PV → PH → Rs) (a0 : Nat) (a1 : Int) (a3 : Int) (a4 : Int) (h : PH) : FA cf 43080370 16 [vR a0, vJ a1, vX, vI a3, vI a4] [] h = if a3 = 0 then FA cf 43080370 20 [vR a0, vJ a1, vX, vI a3, vI a4] [] h else FA cf 43080370 68 [vR a0, vJ a1, vX, vI a3, vI a4] [] h := (FA_ex cf 43080370 2 _ _ _ _).trans rfl
theorem k_X10_isModeWord_16 (cf : Nat → List PV → PH → Rs) (m : Nat) (a1 : Int) (a3 : Int) (a4 : Int) (b : PH) (s : MS) (B : MB b m) : FA cf 43080370 16 [vR m, vJ a1, vX, vI a3, vI a4] [] (MH b m s) = if a3 = 0 then FA cf 43080370 20 [vR m, vJ a1, vX, vI a3, vI a4] [] (MH b m s) else FA cf 43080370 68 [vR m, vJ a1, vX, vI a3, vI a4] [] (MH b m s) := by
  refine (c_X10_isModeWord_16 cf m a1 a3 a4 (MH b m s) ).trans ?_
  try simp only [gI_MH, gJ_MH, gR_MH, pI_MH, pJ_MH]
  try rfl
theorem c_X10_isModeWord_20 (cf : Nat → List PV → PH → Rs) (a0 : Nat) (a1 : Int) (a3 : Int) (a4 : Int) (h : PH) (g0 : inT 43 43 (hc h a0)) (g1 : (inT 64 65 (hc h (gR h 1730893486 a0)) ∨ inT 64 65 (kc h (gR h 1730893486 a0))) ∧ inA a4 (hl h (gR h 1730893486 a0))) : FA cf 43080370 20 [vR a0, vJ a1, vX, vI a3, vI a4] [] h = if (eI h (gR h 1730893486 a0) a4) = 1 then FA cf 43080370 31 [vR a0, vJ a1, vX, vI a3, vI a4] [] h else FA cf 43080370 72 [vR a0, vJ a1, vX, vI a3, vI a4] [] h := ((FA_ex cf 43080370 6 _ _ _ _).trans rfl : FA cf 43080370 20 [vR a0, vJ a1, vX, vI a3, vI a4] [] h = gd (inT 43 43 (hc h a0)) (gd ((inT 64 65 (hc h (gR h 1730893486 a0)) ∨ inT 64 65 (kc h (gR h 1730893486 a0))) ∧ inA a4 (hl h (gR h 1730893486 a0))) (if (eI h (gR h 1730893486 a0) a4) = 1 then FA cf 43080370 31 [vR a0, vJ a1, vX, vI a3, vI a4] [] h else FA cf 43080370 72 [vR a0, vJ a1, vX, vI a3, vI a4] [] h))).trans ((gd_t g0).trans ((gd_t g1)))
theorem k_X10_isModeWord_20 (cf : Nat → List PV → PH → Rs) (m : Nat) (a1 : Int) (a3 : Int) (a4 : Int) (b : PH) (s : MS) (B : MB b m) (b0 : inA a4 490) : FA cf 43080370 20 [vR m, vJ a1, vX, vI a3, vI a4] [] (MH b m s) = if (aI s 2 a4) = 1 then FA cf 43080370 31 [vR m, vJ a1, vX, vI a3, vI a4] [] (MH b m s) else FA cf 43080370 72 [vR m, vJ a1, vX, vI a3, vI a4] [] (MH b m s) := by
  obtain ⟨t1_2, t2_2, t3_2⟩ := mb_tokKind B
  refine (c_X10_isModeWord_20 cf m a1 a3 a4 (MH b m s) (i11 B.1) (by (try simp only [gI_MH, gJ_MH, gR_MH, pI_MH, pJ_MH, t1_2, eI_MH (b := b) (m := m) (k := 2) (by decide) (by decide), qI_MH (b := b) (m := m) (k := 2) (by decide) (by decide)]); exact ⟨Or.inl (T65 t2_2), IAe t3_2 (by assumption)⟩)).trans ?_
  try simp only [gI_MH, gJ_MH, gR_MH, pI_MH, pJ_MH, t1_2, eI_MH (b := b) (m := m) (k := 2) (by decide) (by decide), qI_MH (b := b) (m := m) (k := 2) (by decide) (by decide)]
  try rfl
theorem c_X10_isModeWord_31 (cf : Nat → List PV → PH → Rs) (a0 : Nat) (a1 : Int) (a3 : Int) (a4 : Int) (h : PH) (g0 : inT 43 43 (hc h a0)) (g1 : (inT 64 65 (hc h (gR h 1747670702 a0)) ∨ inT 64 65 (kc h (gR h 1747670702 a0))) ∧ inA a4 (hl h (gR h 1747670702 a0))) : FA cf 43080370 31 [vR a0, vJ a1, vX, vI a3, vI a4] [] h = if (eI h (gR h 1747670702 a0) a4) = 0 then FA cf 43080370 41 [vR a0, vJ a1, vX, vI a3, vI a4] [] h else FA cf 43080370 72 [vR a0, vJ a1, vX, vI a3, vI a4] [] h := ((FA_ex cf 43080370 5 _ _ _ _).trans rfl : FA cf 43080370 31 [vR a0, vJ a1, vX, vI a3, vI a4] [] h = gd (inT 43 43 (hc h a0)) (gd ((inT 64 65 (hc h (gR h 1747670702 a0)) ∨ inT 64 65 (kc h (gR h 1747670702 a0))) ∧ inA a4 (hl h (gR h 1747670702 a0))) (if (eI h (gR h 1747670702 a0) a4) = 0 then FA cf 43080370 41 [vR a0, vJ a1, vX, vI a3, vI a4] [] h else FA cf 43080370 72 [vR a0, vJ a1, vX, vI a3, vI a4] [] h))).trans ((gd_t g0).trans ((gd_t g1)))
theorem k_X10_isModeWord_31 (cf : Nat → List PV → PH → Rs) (m : Nat) (a1 : Int) (a3 : Int) (a4 : Int) (b : PH) (s : MS) (B : MB b m) (b0 : inA a4 490) : FA cf 43080370 31 [vR m, vJ a1, vX, vI a3, vI a4] [] (MH b m s) = if (aI s 4 a4) = 0 then FA cf 43080370 41 [vR m, vJ a1, vX, vI a3, vI a4] [] (MH b m s) else FA cf 43080370 72 [vR m, vJ a1, vX, vI a3, vI a4] [] (MH b m s) := by
  obtain ⟨t1_4, t2_4, t3_4⟩ := mb_tokIs B
  refine (c_X10_isModeWord_31 cf m a1 a3 a4 (MH b m s) (i11 B.1) (by (try simp only [gI_MH, gJ_MH, gR_MH, pI_MH, pJ_MH, t1_4, eI_MH (b := b) (m := m) (k := 4) (by decide) (by decide), qI_MH (b := b) (m := m) (k := 4) (by decide) (by decide)]); exact ⟨Or.inl (T65 t2_4), IAe t3_4 (by assumption)⟩)).trans ?_
  try simp only [gI_MH, gJ_MH, gR_MH, pI_MH, pJ_MH, t1_4, eI_MH (b := b) (m := m) (k := 4) (by decide) (by decide), qI_MH (b := b) (m := m) (k := 4) (by decide) (by decide)]
  try rfl
theorem c_X10_isModeWord_41 (cf : Nat → List PV → PH → Rs) (a0 : Nat) (a1 : Int) (a3 : Int) (a4 : Int) (h : PH) (g0 : inT 43 43 (hc h a0)) (g1 : (inT 64 65 (hc h (gR h 1730893486 a0)) ∨ inT 64 65 (kc h (gR h 1730893486 a0))) ∧ inA (w32 (a4 + 1)) (hl h (gR h 1730893486 a0))) : FA cf 43080370 41 [vR a0, vJ a1, vX, vI a3, vI a4] [] h = if (eI h (gR h 1730893486 a0) (w32 (a4 + 1))) = 2 then FA cf 43080370 54 [vR a0, vJ a1, vX, vI a3, vI a4] [] h else FA cf 43080370 72 [vR a0, vJ a1, vX, vI a3, vI a4] [] h := ((FA_ex cf 43080370 8 _ _ _ _).trans rfl : FA cf 43080370 41 [vR a0, vJ a1, vX, vI a3, vI a4] [] h = gd (inT 43 43 (hc h a0)) (gd ((inT 64 65 (hc h (gR h 1730893486 a0)) ∨ inT 64 65 (kc h (gR h 1730893486 a0))) ∧ inA (w32 (a4 + 1)) (hl h (gR h 1730893486 a0))) (if (eI h (gR h 1730893486 a0) (w32 (a4 + 1))) = 2 then FA cf 43080370 54 [vR a0, vJ a1, vX, vI a3, vI a4] [] h else FA cf 43080370 72 [vR a0, vJ a1, vX, vI a3, vI a4] [] h))).trans ((gd_t g0).trans ((gd_t g1)))
theorem k_X10_isModeWord_41 (cf : Nat → List PV → PH → Rs) (m : Nat) (a1 : Int) (a3 : Int) (a4 : Int) (b : PH) (s : MS) (B : MB b m) (b0 : inA (w32 (a4 + 1)) 490) : FA cf 43080370 41 [vR m, vJ a1, vX, vI a3, vI a4] [] (MH b m s) = if (aI s 2 (w32 (a4 + 1))) = 2 then FA cf 43080370 54 [vR m, vJ a1, vX, vI a3, vI a4] [] (MH b m s) else FA cf 43080370 72 [vR m, vJ a1, vX, vI a3, vI a4] [] (MH b m s) := by
  obtain ⟨t1_2, t2_2, t3_2⟩ := mb_tokKind B
  refine (c_X10_isModeWord_41 cf m a1 a3 a4 (MH b m s) (i11 B.1) (by (try simp only [gI_MH, gJ_MH, gR_MH, pI_MH, pJ_MH, t1_2, eI_MH (b := b) (m := m) (k := 2) (by decide) (by decide), qI_MH (b := b) (m := m) (k := 2) (by decide) (by decide)]); exact ⟨Or.inl (T65 t2_2), IAe t3_2 (by assumption)⟩)).trans ?_
  try simp only [gI_MH, gJ_MH, gR_MH, pI_MH, pJ_MH, t1_2, eI_MH (b := b) (m := m) (k := 2) (by decide) (by decide), qI_MH (b := b) (m := m) (k := 2) (by decide) (by decide)]
  try rfl
theorem c_X10_isModeWord_54 (cf : Nat → List PV → PH → Rs) (a0 : Nat) (a1 : Int) (a3 : Int) (a4 : Int) (h : PH) (g0 : inT 43 43 (hc h a0)) (g1 : (hc h (gR h 1756059310 a0)) = 66 ∧ inA (w32 (a4 + 1)) (hl h (gR h 1756059310 a0))) : FA cf 43080370 54 [vR a0, vJ a1, vX, vI a3, vI a4] [] h = if (lcm (eJ h (gR h 1756059310 a0) (w32 (a4 + 1))) a1) = 0 then FA cf 43080370 68 [vR a0, vJ a1, vX, vI a3, vI a4] [] h else FA cf 43080370 72 [vR a0, vJ a1, vX, vI a3, vI a4] [] h := ((FA_ex cf 43080370 9 _ _ _ _).trans rfl : FA cf 43080370 54 [vR a0, vJ a1, vX, vI a3, vI a4] [] h = gd (inT 43 43 (hc h a0)) (gd ((hc h (gR h 1756059310 a0)) = 66 ∧ inA (w32 (a4 + 1)) (hl h (gR h 1756059310 a0))) (if (lcm (eJ h (gR h 1756059310 a0) (w32 (a4 + 1))) a1) = 0 then FA cf 43080370 68 [vR a0, vJ a1, vX, vI a3, vI a4] [] h else FA cf 43080370 72 [vR a0, vJ a1, vX, vI a3, vI a4] [] h))).trans ((gd_t g0).trans ((gd_t g1)))
theorem k_X10_isModeWord_54 (cf : Nat → List PV → PH → Rs) (m : Nat) (a1 : Int) (a3 : Int) (a4 : Int) (b : PH) (s : MS) (B : MB b m) (b0 : inA (w32 (a4 + 1)) 490) : FA cf 43080370 54 [vR m, vJ a1, vX, vI a3, vI a4] [] (MH b m s) = if (lcm (aJ s 5 (w32 (a4 + 1))) a1) = 0 then FA cf 43080370 68 [vR m, vJ a1, vX, vI a3, vI a4] [] (MH b m s) else FA cf 43080370 72 [vR m, vJ a1, vX, vI a3, vI a4] [] (MH b m s) := by
  obtain ⟨t1_5, t2_5, t3_5⟩ := mb_tokWord B
  refine (c_X10_isModeWord_54 cf m a1 a3 a4 (MH b m s) (i11 B.1) (by (try simp only [gI_MH, gJ_MH, gR_MH, pI_MH, pJ_MH, t1_5, eJ_MH (b := b) (m := m) (k := 5) (by decide) (by decide), qJ_MH (b := b) (m := m) (k := 5) (by decide) (by decide)]); exact ⟨t2_5, IAe t3_5 (by assumption)⟩)).trans ?_
  try simp only [gI_MH, gJ_MH, gR_MH, pI_MH, pJ_MH, t1_5, eJ_MH (b := b) (m := m) (k := 5) (by decide) (by decide), qJ_MH (b := b) (m := m) (k := 5) (by decide) (by decide)]
  try rfl
theorem c_X10_isModeWord_68 (cf : Nat → List PV → PH → Rs) (a0 : Nat) (a1 : Int) (a3 : Int) (a4 : Int) (h : PH) : FA cf 43080370 68 [vR a0, vJ a1, vX, vI a3, vI a4] [] h = FA cf 43080370 73 [vR a0, vJ a1, vX, vI a3, vI a4] [vI 1] h := (FA_ex cf 43080370 2 _ _ _ _).trans rfl
theorem k_X10_isModeWord_68 (cf : Nat → List PV → PH → Rs) (m : Nat) (a1 : Int) (a3 : Int) (a4 : Int) (b : PH) (s : MS) (B : MB b m) : FA cf 43080370 68 [vR m, vJ a1, vX, vI a3, vI a4] [] (MH b m s) = FA cf 43080370 73 [vR m, vJ a1, vX, vI a3, vI a4] [vI 1] (MH b m s) := by
  refine (c_X10_isModeWord_68 cf m a1 a3 a4 (MH b m s) ).trans ?_
  try simp only [gI_MH, gJ_MH, gR_MH, pI_MH, pJ_MH]
  try rfl
theorem c_X10_isModeWord_72 (cf : Nat → List PV → PH → Rs) (a0 : Nat) (a1 : Int) (a3 : Int) (a4 : Int) (h : PH) : FA cf 43080370 72 [vR a0, vJ a1, vX, vI a3, vI a4] [] h = FA cf 43080370 73 [vR a0, vJ a1, vX, vI a3, vI a4] [vI 0] h := (FA_ex cf 43080370 1 _ _ _ _).trans rfl
theorem k_X10_isModeWord_72 (cf : Nat → List PV → PH → Rs) (m : Nat) (a1 : Int) (a3 : Int) (a4 : Int) (b : PH) (s : MS) (B : MB b m) : FA cf 43080370 72 [vR m, vJ a1, vX, vI a3, vI a4] [] (MH b m s) = FA cf 43080370 73 [vR m, vJ a1, vX, vI a3, vI a4] [vI 0] (MH b m s) := by
  refine (c_X10_isModeWord_72 cf m a1 a3 a4 (MH b m s) ).trans ?_
  try simp only [gI_MH, gJ_MH, gR_MH, pI_MH, pJ_MH]
  try rfl
theorem c_X10_isModeWord_73 (cf : Nat → List PV → PH → Rs) (a0 : Nat) (a1 : Int) (a3 : Int) (a4 : Int) (s0 : Int) (h : PH) : FA cf 43080370 73 [vR a0, vJ a1, vX, vI a3, vI a4] [vI s0] h = FA cf 43080370 5 [vR a0, vJ a1, vX, vI s0, vI (w32 (a4 + 1))] [] h := (FA_ex cf 43080370 3 _ _ _ _).trans rfl
theorem k_X10_isModeWord_73 (cf : Nat → List PV → PH → Rs) (m : Nat) (a1 : Int) (a3 : Int) (a4 : Int) (s0 : Int) (b : PH) (s : MS) (B : MB b m) : FA cf 43080370 73 [vR m, vJ a1, vX, vI a3, vI a4] [vI s0] (MH b m s) = FA cf 43080370 5 [vR m, vJ a1, vX, vI s0, vI (w32 (a4 + 1))] [] (MH b m s) := by
  refine (c_X10_isModeWord_73 cf m a1 a3 a4 s0 (MH b m s) ).trans ?_
  try simp only [gI_MH, gJ_MH, gR_MH, pI_MH, pJ_MH]
  try rfl
theorem c_X10_isModeWord_80 (cf : Nat → List PV → PH → Rs) (a0 : Nat) (a1 : Int) (a3 : Int) (a4 : Int) (h : PH) (g0 : (a3 : Int) = 0 ∨ (a3 : Int) = 1) : FA cf 43080370 80 [vR a0, vJ a1, vX, vI a3, vI a4] [] h = some (.inl (some (vI a3)), h) := ((FA_ex cf 43080370 2 _ _ _ _).trans rfl : FA cf 43080370 80 [vR a0, vJ a1, vX, vI a3, vI a4] [] h = gd ((a3 : Int) = 0 ∨ (a3 : Int) = 1) (some (.inl (some (vI a3)), h))).trans ((gd_t g0))
theorem k_X10_isModeWord_80 (cf : Nat → List PV → PH → Rs) (m : Nat) (a1 : Int) (a3 : Int) (a4 : Int) (b : PH) (s : MS) (B : MB b m) (b0 : (a3 : Int) = 0 ∨ (a3 : Int) = 1) : FA cf 43080370 80 [vR m, vJ a1, vX, vI a3, vI a4] [] (MH b m s) = some (.inl (some (vI a3)), (MH b m s)) := by
  refine (c_X10_isModeWord_80 cf m a1 a3 a4 (MH b m s) (by first | assumption | (simp only [gI_MH, gJ_MH, gR_MH, pI_MH, pJ_MH]; assumption) | decide)).trans ?_
  try simp only [gI_MH, gJ_MH, gR_MH, pI_MH, pJ_MH]
  try rfl
theorem e_X10_isModeIndicant (d : Nat) (a0 : Nat) (a1 : Int) (h : PH) : F (d + 1) 42818226 [vR a0, vI a1] h = FA (F d) 42818226 0 [vR a0, vI a1] [] h := rfl
theorem c_X10_isModeIndicant_0 (cf : Nat → List PV → PH → Rs) (a0 : Nat) (a1 : Int) (h : PH) (g0 : inT 43 43 (hc h a0)) (g1 : (inT 64 65 (hc h (gR h 1730893486 a0)) ∨ inT 64 65 (kc h (gR h 1730893486 a0))) ∧ inA a1 (hl h (gR h 1730893486 a0))) : FA cf 42818226 0 [vR a0, vI a1] [] h = if (eI h (gR h 1730893486 a0) a1) = 2 then FA cf 42818226 10 [vR a0, vI a1] [] h else FA cf 42818226 27 [vR a0, vI a1] [] h := ((FA_ex cf 42818226 6 _ _ _ _).trans rfl : FA cf 42818226 0 [vR a0, vI a1] [] h = gd (inT 43 43 (hc h a0)) (gd ((inT 64 65 (hc h (gR h 1730893486 a0)) ∨ inT 64 65 (kc h (gR h 1730893486 a0))) ∧ inA a1 (hl h (gR h 1730893486 a0))) (if (eI h (gR h 1730893486 a0) a1) = 2 then FA cf 42818226 10 [vR a0, vI a1] [] h else FA cf 42818226 27 [vR a0, vI a1] [] h))).trans ((gd_t g0).trans ((gd_t g1)))
theorem k_X10_isModeIndicant_0 (cf : Nat → List PV → PH → Rs) (m : Nat) (a1 : Int) (b : PH) (s : MS) (B : MB b m) (b0 : inA a1 490) : FA cf 42818226 0 [vR m, vI a1] [] (MH b m s) = if (aI s 2 a1) = 2 then FA cf 42818226 10 [vR m, vI a1] [] (MH b m s) else FA cf 42818226 27 [vR m, vI a1] [] (MH b m s) := by
  obtain ⟨t1_2, t2_2, t3_2⟩ := mb_tokKind B
  refine (c_X10_isModeIndicant_0 cf m a1 (MH b m s) (i11 B.1) (by (try simp only [gI_MH, gJ_MH, gR_MH, pI_MH, pJ_MH, t1_2, eI_MH (b := b) (m := m) (k := 2) (by decide) (by decide), qI_MH (b := b) (m := m) (k := 2) (by decide) (by decide)]); exact ⟨Or.inl (T65 t2_2), IAe t3_2 (by assumption)⟩)).trans ?_
  try simp only [gI_MH, gJ_MH, gR_MH, pI_MH, pJ_MH, t1_2, eI_MH (b := b) (m := m) (k := 2) (by decide) (by decide), qI_MH (b := b) (m := m) (k := 2) (by decide) (by decide)]
  try rfl
theorem c_X10_isModeIndicant_10 (cf : Nat → List PV → PH → Rs) (a0 : Nat) (a1 : Int) (h : PH) (g0 : inT 43 43 (hc h a0)) (g1 : (hc h (gR h 1756059310 a0)) = 66 ∧ inA a1 (hl h (gR h 1756059310 a0))) : FA cf 42818226 10 [vR a0, vI a1] [] h = bnd (cf 43080370 [vR a0, vJ (eJ h (gR h 1756059310 a0) a1)] h) (fun v h' => FA cf 42818226 20 [vR a0, vI a1] (pu v []) h') := ((FA_ex cf 42818226 6 _ _ _ _).trans rfl : FA cf 42818226 10 [vR a0, vI a1] [] h = gd (inT 43 43 (hc h a0)) (gd ((hc h (gR h 1756059310 a0)) = 66 ∧ inA a1 (hl h (gR h 1756059310 a0))) (gd (inT 43 43 (hc h a0)) (bnd (cf 43080370 [vR a0, vJ (eJ h (gR h 1756059310 a0) a1)] h) (fun v h' => FA cf 42818226 20 [vR a0, vI a1] (pu v []) h'))))).trans ((gd_t g0).trans ((gd_t g1).trans ((gd_t g0))))
theorem k_X10_isModeIndicant_10 (cf : Nat → List PV → PH → Rs) (m : Nat) (a1 : Int) (b : PH) (s : MS) (B : MB b m) (b0 : inA a1 490) : FA cf 42818226 10 [vR m, vI a1] [] (MH b m s) = bnd (cf 43080370 [vR m, vJ (aJ s 5 a1)] (MH b m s)) (fun v h' => FA cf 42818226 20 [vR m, vI a1] (pu v []) h') := by
  obtain ⟨t1_5, t2_5, t3_5⟩ := mb_tokWord B
  refine (c_X10_isModeIndicant_10 cf m a1 (MH b m s) (i11 B.1) (by (try simp only [gI_MH, gJ_MH, gR_MH, pI_MH, pJ_MH, t1_5, eJ_MH (b := b) (m := m) (k := 5) (by decide) (by decide), qJ_MH (b := b) (m := m) (k := 5) (by decide) (by decide)]); exact ⟨t2_5, IAe t3_5 (by assumption)⟩)).trans ?_
  try simp only [gI_MH, gJ_MH, gR_MH, pI_MH, pJ_MH, t1_5, eJ_MH (b := b) (m := m) (k := 5) (by decide) (by decide), qJ_MH (b := b) (m := m) (k := 5) (by decide) (by decide)]
  try rfl
theorem c_X10_isModeIndicant_20 (cf : Nat → List PV → PH → Rs) (a0 : Nat) (a1 : Int) (s0 : Int) (h : PH) : FA cf 42818226 20 [vR a0, vI a1] [vI s0] h = if s0 = 0 then FA cf 42818226 27 [vR a0, vI a1] [] h else FA cf 42818226 23 [vR a0, vI a1] [] h := (FA_ex cf 42818226 1 _ _ _ _).trans rfl
theorem k_X10_isModeIndicant_20 (cf : Nat → List PV → PH → Rs) (m : Nat) (a1 : Int) (s0 : Int) (b : PH) (s : MS) (B : MB b m) : FA cf 42818226 20 [vR m, vI a1] [vI s0] (MH b m s) = if s0 = 0 then FA cf 42818226 27 [vR m, vI a1] [] (MH b m s) else FA cf 42818226 23 [vR m, vI a1] [] (MH b m s) := by
  refine (c_X10_isModeIndicant_20 cf m a1 s0 (MH b m s) ).trans ?_
  try simp only [gI_MH, gJ_MH, gR_MH, pI_MH, pJ_MH]
  try rfl
theorem c_X10_isModeIndicant_23 (cf : Nat → List PV → PH → Rs) (a0 : Nat) (a1 : Int) (h : PH) : FA cf 42818226 23 [vR a0, vI a1] [] h = FA cf 42818226 28 [vR a0, vI a1] [vI 1] h := (FA_ex cf 42818226 2 _ _ _ _).trans rfl
theorem k_X10_isModeIndicant_23 (cf : Nat → List PV → PH → Rs) (m : Nat) (a1 : Int) (b : PH) (s : MS) (B : MB b m) : FA cf 42818226 23 [vR m, vI a1] [] (MH b m s) = FA cf 42818226 28 [vR m, vI a1] [vI 1] (MH b m s) := by
  refine (c_X10_isModeIndicant_23 cf m a1 (MH b m s) ).trans ?_
  try simp only [gI_MH, gJ_MH, gR_MH, pI_MH, pJ_MH]
  try rfl
theorem c_X10_isModeIndicant_27 (cf : Nat → List PV → PH → Rs) (a0 : Nat) (a1 : Int) (h : PH) : FA cf 42818226 27 [vR a0, vI a1] [] h = FA cf 42818226 28 [vR a0, vI a1] [vI 0] h := (FA_ex cf 42818226 1 _ _ _ _).trans rfl
theorem k_X10_isModeIndicant_27 (cf : Nat → List PV → PH → Rs) (m : Nat) (a1 : Int) (b : PH) (s : MS) (B : MB b m) : FA cf 42818226 27 [vR m, vI a1] [] (MH b m s) = FA cf 42818226 28 [vR m, vI a1] [vI 0] (MH b m s) := by
  refine (c_X10_isModeIndicant_27 cf m a1 (MH b m s) ).trans ?_
  try simp only [gI_MH, gJ_MH, gR_MH, pI_MH, pJ_MH]
  try rfl
theorem c_X10_isModeIndicant_28 (cf : Nat → List PV → PH → Rs) (a0 : Nat) (a1 : Int) (s0 : Int) (h : PH) (g0 : (s0 : Int) = 0 ∨ (s0 : Int) = 1) : FA cf 42818226 28 [vR a0, vI a1] [vI s0] h = some (.inl (some (vI s0)), h) := ((FA_ex cf 42818226 1 _ _ _ _).trans rfl : FA cf 42818226 28 [vR a0, vI a1] [vI s0] h = gd ((s0 : Int) = 0 ∨ (s0 : Int) = 1) (some (.inl (some (vI s0)), h))).trans ((gd_t g0))
theorem k_X10_isModeIndicant_28 (cf : Nat → List PV → PH → Rs) (m : Nat) (a1 : Int) (s0 : Int) (b : PH) (s : MS) (B : MB b m) (b0 : (s0 : Int) = 0 ∨ (s0 : Int) = 1) : FA cf 42818226 28 [vR m, vI a1] [vI s0] (MH b m s) = some (.inl (some (vI s0)), (MH b m s)) := by
  refine (c_X10_isModeIndicant_28 cf m a1 s0 (MH b m s) (by first | assumption | (simp only [gI_MH, gJ_MH, gR_MH, pI_MH, pJ_MH]; assumption) | decide)).trans ?_
  try simp only [gI_MH, gJ_MH, gR_MH, pI_MH, pJ_MH]
  try rfl
theorem e_X10_isOpIndicant (d : Nat) (a0 : Nat) (a1 : Int) (h : PH) : F (d + 1) 44391090 [vR a0, vI a1] h = FA (F d) 44391090 0 [vR a0, vI a1] [] h := rfl
theorem c_X10_isOpIndicant_0 (cf : Nat → List PV → PH → Rs) (a0 : Nat) (a1 : Int) (h : PH) (g0 : inT 43 43 (hc h a0)) (g1 : (inT 64 65 (hc h (gR h 1730893486 a0)) ∨ inT 64 65 (kc h (gR h 1730893486 a0))) ∧ inA a1 (hl h (gR h 1730893486 a0))) : FA cf 44391090 0 [vR a0, vI a1] [] h = if (eI h (gR h 1730893486 a0) a1) = 2 then FA cf 44391090 10 [vR a0, vI a1] [] h else FA cf 44391090 27 [vR a0, vI a1] [] h := ((FA_ex cf 44391090 6 _ _ _ _).trans rfl : FA cf 44391090 0 [vR a0, vI a1] [] h = gd (inT 43 43 (hc h a0)) (gd ((inT 64 65 (hc h (gR h 1730893486 a0)) ∨ inT 64 65 (kc h (gR h 1730893486 a0))) ∧ inA a1 (hl h (gR h 1730893486 a0))) (if (eI h (gR h 1730893486 a0) a1) = 2 then FA cf 44391090 10 [vR a0, vI a1] [] h else FA cf 44391090 27 [vR a0, vI a1] [] h))).trans ((gd_t g0).trans ((gd_t g1)))
theorem k_X10_isOpIndicant_0 (cf : Nat → List PV → PH → Rs) (m : Nat) (a1 : Int) (b : PH) (s : MS) (B : MB b m) (b0 : inA a1 490) : FA cf 44391090 0 [vR m, vI a1] [] (MH b m s) = if (aI s 2 a1) = 2 then FA cf 44391090 10 [vR m, vI a1] [] (MH b m s) else FA cf 44391090 27 [vR m, vI a1] [] (MH b m s) := by
  obtain ⟨t1_2, t2_2, t3_2⟩ := mb_tokKind B
  refine (c_X10_isOpIndicant_0 cf m a1 (MH b m s) (i11 B.1) (by (try simp only [gI_MH, gJ_MH, gR_MH, pI_MH, pJ_MH, t1_2, eI_MH (b := b) (m := m) (k := 2) (by decide) (by decide), qI_MH (b := b) (m := m) (k := 2) (by decide) (by decide)]); exact ⟨Or.inl (T65 t2_2), IAe t3_2 (by assumption)⟩)).trans ?_
  try simp only [gI_MH, gJ_MH, gR_MH, pI_MH, pJ_MH, t1_2, eI_MH (b := b) (m := m) (k := 2) (by decide) (by decide), qI_MH (b := b) (m := m) (k := 2) (by decide) (by decide)]
  try rfl
theorem c_X10_isOpIndicant_10 (cf : Nat → List PV → PH → Rs) (a0 : Nat) (a1 : Int) (h : PH) (g0 : inT 43 43 (hc h a0)) (g1 : (hc h (gR h 1756059310 a0)) = 66 ∧ inA a1 (hl h (gR h 1756059310 a0))) : FA cf 44391090 10 [vR a0, vI a1] [] h = bnd (cf 43080370 [vR a0, vJ (eJ h (gR h 1756059310 a0) a1)] h) (fun v h' => FA cf 44391090 20 [vR a0, vI a1] (pu v []) h') := ((FA_ex cf 44391090 6 _ _ _ _).trans rfl : FA cf 44391090 10 [vR a0, vI a1] [] h = gd (inT 43 43 (hc h a0)) (gd ((hc h (gR h 1756059310 a0)) = 66 ∧ inA a1 (hl h (gR h 1756059310 a0))) (gd (inT 43 43 (hc h a0)) (bnd (cf 43080370 [vR a0, vJ (eJ h (gR h 1756059310 a0) a1)] h) (fun v h' => FA cf 44391090 20 [vR a0, vI a1] (pu v []) h'))))).trans ((gd_t g0).trans ((gd_t g1).trans ((gd_t g0))))
theorem k_X10_isOpIndicant_10 (cf : Nat → List PV → PH → Rs) (m : Nat) (a1 : Int) (b : PH) (s : MS) (B : MB b m) (b0 : inA a1 490) : FA cf 44391090 10 [vR m, vI a1] [] (MH b m s) = bnd (cf 43080370 [vR m, vJ (aJ s 5 a1)] (MH b m s)) (fun v h' => FA cf 44391090 20 [vR m, vI a1] (pu v []) h') := by
  obtain ⟨t1_5, t2_5, t3_5⟩ := mb_tokWord B
  refine (c_X10_isOpIndicant_10 cf m a1 (MH b m s) (i11 B.1) (by (try simp only [gI_MH, gJ_MH, gR_MH, pI_MH, pJ_MH, t1_5, eJ_MH (b := b) (m := m) (k := 5) (by decide) (by decide), qJ_MH (b := b) (m := m) (k := 5) (by decide) (by decide)]); exact ⟨t2_5, IAe t3_5 (by assumption)⟩)).trans ?_
  try simp only [gI_MH, gJ_MH, gR_MH, pI_MH, pJ_MH, t1_5, eJ_MH (b := b) (m := m) (k := 5) (by decide) (by decide), qJ_MH (b := b) (m := m) (k := 5) (by decide) (by decide)]
  try rfl
theorem c_X10_isOpIndicant_20 (cf : Nat → List PV → PH → Rs) (a0 : Nat) (a1 : Int) (s0 : Int) (h : PH) : FA cf 44391090 20 [vR a0, vI a1] [vI s0] h = if s0 = 0 then FA cf 44391090 23 [vR a0, vI a1] [] h else FA cf 44391090 27 [vR a0, vI a1] [] h := (FA_ex cf 44391090 1 _ _ _ _).trans rfl
theorem k_X10_isOpIndicant_20 (cf : Nat → List PV → PH → Rs) (m : Nat) (a1 : Int) (s0 : Int) (b : PH) (s : MS) (B : MB b m) : FA cf 44391090 20 [vR m, vI a1] [vI s0] (MH b m s) = if s0 = 0 then FA cf 44391090 23 [vR m, vI a1] [] (MH b m s) else FA cf 44391090 27 [vR m, vI a1] [] (MH b m s) := by
  refine (c_X10_isOpIndicant_20 cf m a1 s0 (MH b m s) ).trans ?_
  try simp only [gI_MH, gJ_MH, gR_MH, pI_MH, pJ_MH]
  try rfl
theorem c_X10_isOpIndicant_23 (cf : Nat → List PV → PH → Rs) (a0 : Nat) (a1 : Int) (h : PH) : FA cf 44391090 23 [vR a0, vI a1] [] h = FA cf 44391090 28 [vR a0, vI a1] [vI 1] h := (FA_ex cf 44391090 2 _ _ _ _).trans rfl
theorem k_X10_isOpIndicant_23 (cf : Nat → List PV → PH → Rs) (m : Nat) (a1 : Int) (b : PH) (s : MS) (B : MB b m) : FA cf 44391090 23 [vR m, vI a1] [] (MH b m s) = FA cf 44391090 28 [vR m, vI a1] [vI 1] (MH b m s) := by
  refine (c_X10_isOpIndicant_23 cf m a1 (MH b m s) ).trans ?_
  try simp only [gI_MH, gJ_MH, gR_MH, pI_MH, pJ_MH]
  try rfl
theorem c_X10_isOpIndicant_27 (cf : Nat → List PV → PH → Rs) (a0 : Nat) (a1 : Int) (h : PH) : FA cf 44391090 27 [vR a0, vI a1] [] h = FA cf 44391090 28 [vR a0, vI a1] [vI 0] h := (FA_ex cf 44391090 1 _ _ _ _).trans rfl
theorem k_X10_isOpIndicant_27 (cf : Nat → List PV → PH → Rs) (m : Nat) (a1 : Int) (b : PH) (s : MS) (B : MB b m) : FA cf 44391090 27 [vR m, vI a1] [] (MH b m s) = FA cf 44391090 28 [vR m, vI a1] [vI 0] (MH b m s) := by
  refine (c_X10_isOpIndicant_27 cf m a1 (MH b m s) ).trans ?_
  try simp only [gI_MH, gJ_MH, gR_MH, pI_MH, pJ_MH]
  try rfl
theorem c_X10_isOpIndicant_28 (cf : Nat → List PV → PH → Rs) (a0 : Nat) (a1 : Int) (s0 : Int) (h : PH) (g0 : (s0 : Int) = 0 ∨ (s0 : Int) = 1) : FA cf 44391090 28 [vR a0, vI a1] [vI s0] h = some (.inl (some (vI s0)), h) := ((FA_ex cf 44391090 1 _ _ _ _).trans rfl : FA cf 44391090 28 [vR a0, vI a1] [vI s0] h = gd ((s0 : Int) = 0 ∨ (s0 : Int) = 1) (some (.inl (some (vI s0)), h))).trans ((gd_t g0))
theorem k_X10_isOpIndicant_28 (cf : Nat → List PV → PH → Rs) (m : Nat) (a1 : Int) (s0 : Int) (b : PH) (s : MS) (B : MB b m) (b0 : (s0 : Int) = 0 ∨ (s0 : Int) = 1) : FA cf 44391090 28 [vR m, vI a1] [vI s0] (MH b m s) = some (.inl (some (vI s0)), (MH b m s)) := by
  refine (c_X10_isOpIndicant_28 cf m a1 s0 (MH b m s) (by first | assumption | (simp only [gI_MH, gJ_MH, gR_MH, pI_MH, pJ_MH]; assumption) | decide)).trans ?_
  try simp only [gI_MH, gJ_MH, gR_MH, pI_MH, pJ_MH]
  try rfl
theorem e_X10_isOperation (d : Nat) (a0 : Nat) (a1 : Int) (h : PH) : F (d + 1) 45439666 [vR a0, vI a1] h = FA (F d) 45439666 0 [vR a0, vI a1] [] h := rfl
theorem c_X10_isOperation_0 (cf : Nat → List PV → PH → Rs) (a0 : Nat) (a1 : Int) (h : PH) (g0 : inT 43 43 (hc h a0)) (g1 : (inT 64 65 (hc h (gR h 1730893486 a0)) ∨ inT 64 65 (kc h (gR h 1730893486 a0))) ∧ inA a1 (hl h (gR h 1730893486 a0))) : FA cf 45439666 0 [vR a0, vI a1] [] h = if (eI h (gR h 1730893486 a0) a1) = 5 then FA cf 45439666 10 [vR a0, vI a1] [] h else FA cf 45439666 22 [vR a0, vI a1] [] h := ((FA_ex cf 45439666 6 _ _ _ _).trans rfl : FA cf 45439666 0 [vR a0, vI a1] [] h = gd (inT 43 43 (hc h a0)) (gd ((inT 64 65 (hc h (gR h 1730893486 a0)) ∨ inT 64 65 (kc h (gR h 1730893486 a0))) ∧ inA a1 (hl h (gR h 1730893486 a0))) (if (eI h (gR h 1730893486 a0) a1) = 5 then FA cf 45439666 10 [vR a0, vI a1] [] h else FA cf 45439666 22 [vR a0, vI a1] [] h))).trans ((gd_t g0).trans ((gd_t g1)))
theorem k_X10_isOperation_0 (cf : Nat → List PV → PH → Rs) (m : Nat) (a1 : Int) (b : PH) (s : MS) (B : MB b m) (b0 : inA a1 490) : FA cf 45439666 0 [vR m, vI a1] [] (MH b m s) = if (aI s 2 a1) = 5 then FA cf 45439666 10 [vR m, vI a1] [] (MH b m s) else FA cf 45439666 22 [vR m, vI a1] [] (MH b m s) := by
  obtain ⟨t1_2, t2_2, t3_2⟩ := mb_tokKind B
  refine (c_X10_isOperation_0 cf m a1 (MH b m s) (i11 B.1) (by (try simp only [gI_MH, gJ_MH, gR_MH, pI_MH, pJ_MH, t1_2, eI_MH (b := b) (m := m) (k := 2) (by decide) (by decide), qI_MH (b := b) (m := m) (k := 2) (by decide) (by decide)]); exact ⟨Or.inl (T65 t2_2), IAe t3_2 (by assumption)⟩)).trans ?_
  try simp only [gI_MH, gJ_MH, gR_MH, pI_MH, pJ_MH, t1_2, eI_MH (b := b) (m := m) (k := 2) (by decide) (by decide), qI_MH (b := b) (m := m) (k := 2) (by decide) (by decide)]
  try rfl
theorem c_X10_isOperation_10 (cf : Nat → List PV → PH → Rs) (a0 : Nat) (a1 : Int) (h : PH) (g0 : inT 43 43 (hc h a0)) (g1 : (inT 64 65 (hc h (gR h 1747670702 a0)) ∨ inT 64 65 (kc h (gR h 1747670702 a0))) ∧ inA a1 (hl h (gR h 1747670702 a0))) : FA cf 45439666 10 [vR a0, vI a1] [] h = bnd (cf 45613057 [vI (eI h (gR h 1747670702 a0) a1)] h) (fun v h' => FA cf 45439666 19 [vR a0, vI a1] (pu v []) h') := ((FA_ex cf 45439666 5 _ _ _ _).trans rfl : FA cf 45439666 10 [vR a0, vI a1] [] h = gd (inT 43 43 (hc h a0)) (gd ((inT 64 65 (hc h (gR h 1747670702 a0)) ∨ inT 64 65 (kc h (gR h 1747670702 a0))) ∧ inA a1 (hl h (gR h 1747670702 a0))) (bnd (cf 45613057 [vI (eI h (gR h 1747670702 a0) a1)] h) (fun v h' => FA cf 45439666 19 [vR a0, vI a1] (pu v []) h')))).trans ((gd_t g0).trans ((gd_t g1)))
theorem k_X10_isOperation_10 (cf : Nat → List PV → PH → Rs) (m : Nat) (a1 : Int) (b : PH) (s : MS) (B : MB b m) (b0 : inA a1 490) : FA cf 45439666 10 [vR m, vI a1] [] (MH b m s) = bnd (cf 45613057 [vI (aI s 4 a1)] (MH b m s)) (fun v h' => FA cf 45439666 19 [vR m, vI a1] (pu v []) h') := by
  obtain ⟨t1_4, t2_4, t3_4⟩ := mb_tokIs B
  refine (c_X10_isOperation_10 cf m a1 (MH b m s) (i11 B.1) (by (try simp only [gI_MH, gJ_MH, gR_MH, pI_MH, pJ_MH, t1_4, eI_MH (b := b) (m := m) (k := 4) (by decide) (by decide), qI_MH (b := b) (m := m) (k := 4) (by decide) (by decide)]); exact ⟨Or.inl (T65 t2_4), IAe t3_4 (by assumption)⟩)).trans ?_
  try simp only [gI_MH, gJ_MH, gR_MH, pI_MH, pJ_MH, t1_4, eI_MH (b := b) (m := m) (k := 4) (by decide) (by decide), qI_MH (b := b) (m := m) (k := 4) (by decide) (by decide)]
  try rfl
theorem c_X10_isOperation_19 (cf : Nat → List PV → PH → Rs) (a0 : Nat) (a1 : Int) (s0 : Int) (h : PH) : FA cf 45439666 19 [vR a0, vI a1] [vI s0] h = if s0 = 0 then FA cf 45439666 22 [vR a0, vI a1] [] h else FA cf 45439666 30 [vR a0, vI a1] [] h := (FA_ex cf 45439666 1 _ _ _ _).trans rfl
theorem k_X10_isOperation_19 (cf : Nat → List PV → PH → Rs) (m : Nat) (a1 : Int) (s0 : Int) (b : PH) (s : MS) (B : MB b m) : FA cf 45439666 19 [vR m, vI a1] [vI s0] (MH b m s) = if s0 = 0 then FA cf 45439666 22 [vR m, vI a1] [] (MH b m s) else FA cf 45439666 30 [vR m, vI a1] [] (MH b m s) := by
  refine (c_X10_isOperation_19 cf m a1 s0 (MH b m s) ).trans ?_
  try simp only [gI_MH, gJ_MH, gR_MH, pI_MH, pJ_MH]
  try rfl
theorem c_X10_isOperation_22 (cf : Nat → List PV → PH → Rs) (a0 : Nat) (a1 : Int) (h : PH) (g0 : inT 43 43 (hc h a0)) : FA cf 45439666 22 [vR a0, vI a1] [] h = bnd (cf 44391090 [vR a0, vI a1] h) (fun v h' => FA cf 45439666 27 [vR a0, vI a1] (pu v []) h') := ((FA_ex cf 45439666 3 _ _ _ _).trans rfl : FA cf 45439666 22 [vR a0, vI a1] [] h = gd (inT 43 43 (hc h a0)) (bnd (cf 44391090 [vR a0, vI a1] h) (fun v h' => FA cf 45439666 27 [vR a0, vI a1] (pu v []) h'))).trans ((gd_t g0))
theorem k_X10_isOperation_22 (cf : Nat → List PV → PH → Rs) (m : Nat) (a1 : Int) (b : PH) (s : MS) (B : MB b m) : FA cf 45439666 22 [vR m, vI a1] [] (MH b m s) = bnd (cf 44391090 [vR m, vI a1] (MH b m s)) (fun v h' => FA cf 45439666 27 [vR m, vI a1] (pu v []) h') := by
  refine (c_X10_isOperation_22 cf m a1 (MH b m s) (i11 B.1)).trans ?_
  try simp only [gI_MH, gJ_MH, gR_MH, pI_MH, pJ_MH]
  try rfl
theorem c_X10_isOperation_27 (cf : Nat → List PV → PH → Rs) (a0 : Nat) (a1 : Int) (s0 : Int) (h : PH) : FA cf 45439666 27 [vR a0, vI a1] [vI s0] h = if s0 = 0 then FA cf 45439666 34 [vR a0, vI a1] [] h else FA cf 45439666 30 [vR a0, vI a1] [] h := (FA_ex cf 45439666 1 _ _ _ _).trans rfl
theorem k_X10_isOperation_27 (cf : Nat → List PV → PH → Rs) (m : Nat) (a1 : Int) (s0 : Int) (b : PH) (s : MS) (B : MB b m) : FA cf 45439666 27 [vR m, vI a1] [vI s0] (MH b m s) = if s0 = 0 then FA cf 45439666 34 [vR m, vI a1] [] (MH b m s) else FA cf 45439666 30 [vR m, vI a1] [] (MH b m s) := by
  refine (c_X10_isOperation_27 cf m a1 s0 (MH b m s) ).trans ?_
  try simp only [gI_MH, gJ_MH, gR_MH, pI_MH, pJ_MH]
  try rfl
theorem c_X10_isOperation_30 (cf : Nat → List PV → PH → Rs) (a0 : Nat) (a1 : Int) (h : PH) : FA cf 45439666 30 [vR a0, vI a1] [] h = FA cf 45439666 35 [vR a0, vI a1] [vI 1] h := (FA_ex cf 45439666 2 _ _ _ _).trans rfl
theorem k_X10_isOperation_30 (cf : Nat → List PV → PH → Rs) (m : Nat) (a1 : Int) (b : PH) (s : MS) (B : MB b m) : FA cf 45439666 30 [vR m, vI a1] [] (MH b m s) = FA cf 45439666 35 [vR m, vI a1] [vI 1] (MH b m s) := by
  refine (c_X10_isOperation_30 cf m a1 (MH b m s) ).trans ?_
  try simp only [gI_MH, gJ_MH, gR_MH, pI_MH, pJ_MH]
  try rfl
theorem c_X10_isOperation_34 (cf : Nat → List PV → PH → Rs) (a0 : Nat) (a1 : Int) (h : PH) : FA cf 45439666 34 [vR a0, vI a1] [] h = FA cf 45439666 35 [vR a0, vI a1] [vI 0] h := (FA_ex cf 45439666 1 _ _ _ _).trans rfl
theorem k_X10_isOperation_34 (cf : Nat → List PV → PH → Rs) (m : Nat) (a1 : Int) (b : PH) (s : MS) (B : MB b m) : FA cf 45439666 34 [vR m, vI a1] [] (MH b m s) = FA cf 45439666 35 [vR m, vI a1] [vI 0] (MH b m s) := by
  refine (c_X10_isOperation_34 cf m a1 (MH b m s) ).trans ?_
  try simp only [gI_MH, gJ_MH, gR_MH, pI_MH, pJ_MH]
  try rfl
theorem c_X10_isOperation_35 (cf : Nat → List PV → PH → Rs) (a0 : Nat) (a1 : Int) (s0 : Int) (h : PH) (g0 : (s0 : Int) = 0 ∨ (s0 : Int) = 1) : FA cf 45439666 35 [vR a0, vI a1] [vI s0] h = some (.inl (some (vI s0)), h) := ((FA_ex cf 45439666 1 _ _ _ _).trans rfl : FA cf 45439666 35 [vR a0, vI a1] [vI s0] h = gd ((s0 : Int) = 0 ∨ (s0 : Int) = 1) (some (.inl (some (vI s0)), h))).trans ((gd_t g0))
theorem k_X10_isOperation_35 (cf : Nat → List PV → PH → Rs) (m : Nat) (a1 : Int) (s0 : Int) (b : PH) (s : MS) (B : MB b m) (b0 : (s0 : Int) = 0 ∨ (s0 : Int) = 1) : FA cf 45439666 35 [vR m, vI a1] [vI s0] (MH b m s) = some (.inl (some (vI s0)), (MH b m s)) := by
  refine (c_X10_isOperation_35 cf m a1 s0 (MH b m s) (by first | assumption | (simp only [gI_MH, gJ_MH, gR_MH, pI_MH, pJ_MH]; assumption) | decide)).trans ?_
  try simp only [gI_MH, gJ_MH, gR_MH, pI_MH, pJ_MH]
  try rfl
theorem e_X10_isMonadic (d : Nat) (a0 : Nat) (a1 : Int) (h : PH) : F (d + 1) 50420402 [vR a0, vI a1] h = FA (F d) 50420402 0 [vR a0, vI a1] [] h := rfl
theorem c_X10_isMonadic_0 (cf : Nat → List PV → PH → Rs) (a0 : Nat) (a1 : Int) (h : PH) (g0 : inT 43 43 (hc h a0)) : FA cf 50420402 0 [vR a0, vI a1] [] h = bnd (cf 44391090 [vR a0, vI a1] h) (fun v h' => FA cf 50420402 5 [vR a0, vI a1] (pu v []) h') := ((FA_ex cf 50420402 3 _ _ _ _).trans rfl : FA cf 50420402 0 [vR a0, vI a1] [] h = gd (inT 43 43 (hc h a0)) (bnd (cf 44391090 [vR a0, vI a1] h) (fun v h' => FA cf 50420402 5 [vR a0, vI a1] (pu v []) h'))).trans ((gd_t g0))
theorem k_X10_isMonadic_0 (cf : Nat → List PV → PH → Rs) (m : Nat) (a1 : Int) (b : PH) (s : MS) (B : MB b m) : FA cf 50420402 0 [vR m, vI a1] [] (MH b m s) = bnd (cf 44391090 [vR m, vI a1] (MH b m s)) (fun v h' => FA cf 50420402 5 [vR m, vI a1] (pu v []) h') := by
  refine (c_X10_isMonadic_0 cf m a1 (MH b m s) (i11 B.1)).trans ?_
  try simp only [gI_MH, gJ_MH, gR_MH, pI_MH, pJ_MH]
  try rfl
theorem c_X10_isMonadic_5 (cf : Nat → List PV → PH → Rs) (a0 : Nat) (a1 : Int) (s0 : Int) (h : PH) : FA cf 50420402 5 [vR a0, vI a1] [vI s0] h = if s0 = 0 then FA cf 50420402 8 [vR a0, vI a1] [] h else FA cf 50420402 51 [vR a0, vI a1] [] h := (FA_ex cf 50420402 1 _ _ _ _).trans rfl
theorem k_X10_isMonadic_5 (cf : Nat → List PV → PH → Rs) (m : Nat) (a1 : Int) (s0 : Int) (b : PH) (s : MS) (B : MB b m) : FA cf 50420402 5 [vR m, vI a1] [vI s0] (MH b m s) = if s0 = 0 then FA cf 50420402 8 [vR m, vI a1] [] (MH b m s) else FA cf 50420402 51 [vR m, vI a1] [] (MH b m s) := by
  refine (c_X10_isMonadic_5 cf m a1 s0 (MH b m s) ).trans ?_
  try simp only [gI_MH, gJ_MH, gR_MH, pI_MH, pJ_MH]
  try rfl
theorem c_X10_isMonadic_8 (cf : Nat → List PV → PH → Rs) (a0 : Nat) (a1 : Int) (h : PH) (g0 : inT 43 43 (hc h a0)) (g1 : (inT 64 65 (hc h (gR h 1730893486 a0)) ∨ inT 64 65 (kc h (gR h 1730893486 a0))) ∧ inA a1 (hl h (gR h 1730893486 a0))) : FA cf 50420402 8 [vR a0, vI a1] [] h = if (eI h (gR h 1730893486 a0) a1) = 5 then FA cf 50420402 18 [vR a0, vI a1] [] h else FA cf 50420402 55 [vR a0, vI a1] [] h := ((FA_ex cf 50420402 6 _ _ _ _).trans rfl : FA cf 50420402 8 [vR a0, vI a1] [] h = gd (inT 43 43 (hc h a0)) (gd ((inT 64 65 (hc h (gR h 1730893486 a0)) ∨ inT 64 65 (kc h (gR h 1730893486 a0))) ∧ inA a1 (hl h (gR h 1730893486 a0))) (if (eI h (gR h 1730893486 a0) a1) = 5 then FA cf 50420402 18 [vR a0, vI a1] [] h else FA cf 50420402 55 [vR a0, vI a1] [] h))).trans ((gd_t g0).trans ((gd_t g1)))
theorem k_X10_isMonadic_8 (cf : Nat → List PV → PH → Rs) (m : Nat) (a1 : Int) (b : PH) (s : MS) (B : MB b m) (b0 : inA a1 490) : FA cf 50420402 8 [vR m, vI a1] [] (MH b m s) = if (aI s 2 a1) = 5 then FA cf 50420402 18 [vR m, vI a1] [] (MH b m s) else FA cf 50420402 55 [vR m, vI a1] [] (MH b m s) := by
  obtain ⟨t1_2, t2_2, t3_2⟩ := mb_tokKind B
  refine (c_X10_isMonadic_8 cf m a1 (MH b m s) (i11 B.1) (by (try simp only [gI_MH, gJ_MH, gR_MH, pI_MH, pJ_MH, t1_2, eI_MH (b := b) (m := m) (k := 2) (by decide) (by decide), qI_MH (b := b) (m := m) (k := 2) (by decide) (by decide)]); exact ⟨Or.inl (T65 t2_2), IAe t3_2 (by assumption)⟩)).trans ?_
  try simp only [gI_MH, gJ_MH, gR_MH, pI_MH, pJ_MH, t1_2, eI_MH (b := b) (m := m) (k := 2) (by decide) (by decide), qI_MH (b := b) (m := m) (k := 2) (by decide) (by decide)]
  try rfl
theorem c_X10_isMonadic_18 (cf : Nat → List PV → PH → Rs) (a0 : Nat) (a1 : Int) (h : PH) (g0 : inT 43 43 (hc h a0)) (g1 : (inT 64 65 (hc h (gR h 1747670702 a0)) ∨ inT 64 65 (kc h (gR h 1747670702 a0))) ∧ inA a1 (hl h (gR h 1747670702 a0))) : FA cf 50420402 18 [vR a0, vI a1] [] h = if (eI h (gR h 1747670702 a0) a1) = 43 then FA cf 50420402 51 [vR a0, vI a1] [] h else FA cf 50420402 29 [vR a0, vI a1] [] h := ((FA_ex cf 50420402 6 _ _ _ _).trans rfl : FA cf 50420402 18 [vR a0, vI a1] [] h = gd (inT 43 43 (hc h a0)) (gd ((inT 64 65 (hc h (gR h 1747670702 a0)) ∨ inT 64 65 (kc h (gR h 1747670702 a0))) ∧ inA a1 (hl h (gR h 1747670702 a0))) (if (eI h (gR h 1747670702 a0) a1) = 43 then FA cf 50420402 51 [vR a0, vI a1] [] h else FA cf 50420402 29 [vR a0, vI a1] [] h))).trans ((gd_t g0).trans ((gd_t g1)))
theorem k_X10_isMonadic_18 (cf : Nat → List PV → PH → Rs) (m : Nat) (a1 : Int) (b : PH) (s : MS) (B : MB b m) (b0 : inA a1 490) : FA cf 50420402 18 [vR m, vI a1] [] (MH b m s) = if (aI s 4 a1) = 43 then FA cf 50420402 51 [vR m, vI a1] [] (MH b m s) else FA cf 50420402 29 [vR m, vI a1] [] (MH b m s) := by
  obtain ⟨t1_4, t2_4, t3_4⟩ := mb_tokIs B
  refine (c_X10_isMonadic_18 cf m a1 (MH b m s) (i11 B.1) (by (try simp only [gI_MH, gJ_MH, gR_MH, pI_MH, pJ_MH, t1_4, eI_MH (b := b) (m := m) (k := 4) (by decide) (by decide), qI_MH (b := b) (m := m) (k := 4) (by decide) (by decide)]); exact ⟨Or.inl (T65 t2_4), IAe t3_4 (by assumption)⟩)).trans ?_
  try simp only [gI_MH, gJ_MH, gR_MH, pI_MH, pJ_MH, t1_4, eI_MH (b := b) (m := m) (k := 4) (by decide) (by decide), qI_MH (b := b) (m := m) (k := 4) (by decide) (by decide)]
  try rfl
theorem c_X10_isMonadic_29 (cf : Nat → List PV → PH → Rs) (a0 : Nat) (a1 : Int) (h : PH) (g0 : inT 43 43 (hc h a0)) (g1 : (inT 64 65 (hc h (gR h 1747670702 a0)) ∨ inT 64 65 (kc h (gR h 1747670702 a0))) ∧ inA a1 (hl h (gR h 1747670702 a0))) : FA cf 50420402 29 [vR a0, vI a1] [] h = if (eI h (gR h 1747670702 a0) a1) = 45 then FA cf 50420402 51 [vR a0, vI a1] [] h else FA cf 50420402 40 [vR a0, vI a1] [] h := ((FA_ex cf 50420402 6 _ _ _ _).trans rfl : FA cf 50420402 29 [vR a0, vI a1] [] h = gd (inT 43 43 (hc h a0)) (gd ((inT 64 65 (hc h (gR h 1747670702 a0)) ∨ inT 64 65 (kc h (gR h 1747670702 a0))) ∧ inA a1 (hl h (gR h 1747670702 a0))) (if (eI h (gR h 1747670702 a0) a1) = 45 then FA cf 50420402 51 [vR a0, vI a1] [] h else FA cf 50420402 40 [vR a0, vI a1] [] h))).trans ((gd_t g0).trans ((gd_t g1)))
theorem k_X10_isMonadic_29 (cf : Nat → List PV → PH → Rs) (m : Nat) (a1 : Int) (b : PH) (s : MS) (B : MB b m) (b0 : inA a1 490) : FA cf 50420402 29 [vR m, vI a1] [] (MH b m s) = if (aI s 4 a1) = 45 then FA cf 50420402 51 [vR m, vI a1] [] (MH b m s) else FA cf 50420402 40 [vR m, vI a1] [] (MH b m s) := by
  obtain ⟨t1_4, t2_4, t3_4⟩ := mb_tokIs B
  refine (c_X10_isMonadic_29 cf m a1 (MH b m s) (i11 B.1) (by (try simp only [gI_MH, gJ_MH, gR_MH, pI_MH, pJ_MH, t1_4, eI_MH (b := b) (m := m) (k := 4) (by decide) (by decide), qI_MH (b := b) (m := m) (k := 4) (by decide) (by decide)]); exact ⟨Or.inl (T65 t2_4), IAe t3_4 (by assumption)⟩)).trans ?_
  try simp only [gI_MH, gJ_MH, gR_MH, pI_MH, pJ_MH, t1_4, eI_MH (b := b) (m := m) (k := 4) (by decide) (by decide), qI_MH (b := b) (m := m) (k := 4) (by decide) (by decide)]
  try rfl
theorem c_X10_isMonadic_40 (cf : Nat → List PV → PH → Rs) (a0 : Nat) (a1 : Int) (h : PH) (g0 : inT 43 43 (hc h a0)) (g1 : (inT 64 65 (hc h (gR h 1747670702 a0)) ∨ inT 64 65 (kc h (gR h 1747670702 a0))) ∧ inA a1 (hl h (gR h 1747670702 a0))) : FA cf 50420402 40 [vR a0, vI a1] [] h = if (eI h (gR h 1747670702 a0) a1) = 126 then FA cf 50420402 51 [vR a0, vI a1] [] h else FA cf 50420402 55 [vR a0, vI a1] [] h := ((FA_ex cf 50420402 6 _ _ _ _).trans rfl : FA cf 50420402 40 [vR a0, vI a1] [] h = gd (inT 43 43 (hc h a0)) (gd ((inT 64 65 (hc h (gR h 1747670702 a0)) ∨ inT 64 65 (kc h (gR h 1747670702 a0))) ∧ inA a1 (hl h (gR h 1747670702 a0))) (if (eI h (gR h 1747670702 a0) a1) = 126 then FA cf 50420402 51 [vR a0, vI a1] [] h else FA cf 50420402 55 [vR a0, vI a1] [] h))).trans ((gd_t g0).trans ((gd_t g1)))
theorem k_X10_isMonadic_40 (cf : Nat → List PV → PH → Rs) (m : Nat) (a1 : Int) (b : PH) (s : MS) (B : MB b m) (b0 : inA a1 490) : FA cf 50420402 40 [vR m, vI a1] [] (MH b m s) = if (aI s 4 a1) = 126 then FA cf 50420402 51 [vR m, vI a1] [] (MH b m s) else FA cf 50420402 55 [vR m, vI a1] [] (MH b m s) := by
  obtain ⟨t1_4, t2_4, t3_4⟩ := mb_tokIs B
  refine (c_X10_isMonadic_40 cf m a1 (MH b m s) (i11 B.1) (by (try simp only [gI_MH, gJ_MH, gR_MH, pI_MH, pJ_MH, t1_4, eI_MH (b := b) (m := m) (k := 4) (by decide) (by decide), qI_MH (b := b) (m := m) (k := 4) (by decide) (by decide)]); exact ⟨Or.inl (T65 t2_4), IAe t3_4 (by assumption)⟩)).trans ?_
  try simp only [gI_MH, gJ_MH, gR_MH, pI_MH, pJ_MH, t1_4, eI_MH (b := b) (m := m) (k := 4) (by decide) (by decide), qI_MH (b := b) (m := m) (k := 4) (by decide) (by decide)]
  try rfl
theorem c_X10_isMonadic_51 (cf : Nat → List PV → PH → Rs) (a0 : Nat) (a1 : Int) (h : PH) : FA cf 50420402 51 [vR a0, vI a1] [] h = FA cf 50420402 56 [vR a0, vI a1] [vI 1] h := (FA_ex cf 50420402 2 _ _ _ _).trans rfl
theorem k_X10_isMonadic_51 (cf : Nat → List PV → PH → Rs) (m : Nat) (a1 : Int) (b : PH) (s : MS) (B : MB b m) : FA cf 50420402 51 [vR m, vI a1] [] (MH b m s) = FA cf 50420402 56 [vR m, vI a1] [vI 1] (MH b m s) := by
  refine (c_X10_isMonadic_51 cf m a1 (MH b m s) ).trans ?_
  try simp only [gI_MH, gJ_MH, gR_MH, pI_MH, pJ_MH]
  try rfl
theorem c_X10_isMonadic_55 (cf : Nat → List PV → PH → Rs) (a0 : Nat) (a1 : Int) (h : PH) : FA cf 50420402 55 [vR a0, vI a1] [] h = FA cf 50420402 56 [vR a0, vI a1] [vI 0] h := (FA_ex cf 50420402 1 _ _ _ _).trans rfl
theorem k_X10_isMonadic_55 (cf : Nat → List PV → PH → Rs) (m : Nat) (a1 : Int) (b : PH) (s : MS) (B : MB b m) : FA cf 50420402 55 [vR m, vI a1] [] (MH b m s) = FA cf 50420402 56 [vR m, vI a1] [vI 0] (MH b m s) := by
  refine (c_X10_isMonadic_55 cf m a1 (MH b m s) ).trans ?_
  try simp only [gI_MH, gJ_MH, gR_MH, pI_MH, pJ_MH]
  try rfl
theorem c_X10_isMonadic_56 (cf : Nat → List PV → PH → Rs) (a0 : Nat) (a1 : Int) (s0 : Int) (h : PH) (g0 : (s0 : Int) = 0 ∨ (s0 : Int) = 1) : FA cf 50420402 56 [vR a0, vI a1] [vI s0] h = some (.inl (some (vI s0)), h) := ((FA_ex cf 50420402 1 _ _ _ _).trans rfl : FA cf 50420402 56 [vR a0, vI a1] [vI s0] h = gd ((s0 : Int) = 0 ∨ (s0 : Int) = 1) (some (.inl (some (vI s0)), h))).trans ((gd_t g0))
theorem k_X10_isMonadic_56 (cf : Nat → List PV → PH → Rs) (m : Nat) (a1 : Int) (s0 : Int) (b : PH) (s : MS) (B : MB b m) (b0 : (s0 : Int) = 0 ∨ (s0 : Int) = 1) : FA cf 50420402 56 [vR m, vI a1] [vI s0] (MH b m s) = some (.inl (some (vI s0)), (MH b m s)) := by
  refine (c_X10_isMonadic_56 cf m a1 s0 (MH b m s) (by first | assumption | (simp only [gI_MH, gJ_MH, gR_MH, pI_MH, pJ_MH]; assumption) | decide)).trans ?_
  try simp only [gI_MH, gJ_MH, gR_MH, pI_MH, pJ_MH]
  try rfl
theorem e_X10_isDyadic (d : Nat) (a0 : Nat) (a1 : Int) (h : PH) : F (d + 1) 52779698 [vR a0, vI a1] h = FA (F d) 52779698 0 [vR a0, vI a1] [] h := rfl
theorem c_X10_isDyadic_0 (cf : Nat → List PV → PH → Rs) (a0 : Nat) (a1 : Int) (h : PH) (g0 : inT 43 43 (hc h a0)) : FA cf 52779698 0 [vR a0, vI a1] [] h = bnd (cf 45439666 [vR a0, vI a1] h) (fun v h' => FA cf 52779698 5 [vR a0, vI a1] (pu v []) h') := ((FA_ex cf 52779698 3 _ _ _ _).trans rfl : FA cf 52779698 0 [vR a0, vI a1] [] h = gd (inT 43 43 (hc h a0)) (bnd (cf 45439666 [vR a0, vI a1] h) (fun v h' => FA cf 52779698 5 [vR a0, vI a1] (pu v []) h'))).trans ((gd_t g0))
theorem k_X10_isDyadic_0 (cf : Nat → List PV → PH → Rs) (m : Nat) (a1 : Int) (b : PH) (s : MS) (B : MB b m) : FA cf 52779698 0 [vR m, vI a1] [] (MH b m s) = bnd (cf 45439666 [vR m, vI a1] (MH b m s)) (fun v h' => FA cf 52779698 5 [vR m, vI a1] (pu v []) h') := by
  refine (c_X10_isDyadic_0 cf m a1 (MH b m s) (i11 B.1)).trans ?_
  try simp only [gI_MH, gJ_MH, gR_MH, pI_MH, pJ_MH]
  try rfl
theorem c_X10_isDyadic_5 (cf : Nat → List PV → PH → Rs) (a0 : Nat) (a1 : Int) (s0 : Int) (h : PH) : FA cf 52779698 5 [vR a0, vI a1] [vI s0] h = if s0 = 0 then FA cf 52779698 33 [vR a0, vI a1] [] h else FA cf 52779698 8 [vR a0, vI a1] [] h := (FA_ex cf 52779698 1 _ _ _ _).trans rfl
theorem k_X10_isDyadic_5 (cf : Nat → List PV → PH → Rs) (m : Nat) (a1 : Int) (s0 : Int) (b : PH) (s : MS) (B : MB b m) : FA cf 52779698 5 [vR m, vI a1] [vI s0] (MH b m s) = if s0 = 0 then FA cf 52779698 33 [vR m, vI a1] [] (MH b m s) else FA cf 52779698 8 [vR m, vI a1] [] (MH b m s) := by
  refine (c_X10_isDyadic_5 cf m a1 s0 (MH b m s) ).trans ?_
  try simp only [gI_MH, gJ_MH, gR_MH, pI_MH, pJ_MH]
  try rfl
theorem c_X10_isDyadic_8 (cf : Nat → List PV → PH → Rs) (a0 : Nat) (a1 : Int) (h : PH) (g0 : inT 43 43 (hc h a0)) (g1 : (inT 64 65 (hc h (gR h 1730893486 a0)) ∨ inT 64 65 (kc h (gR h 1730893486 a0))) ∧ inA a1 (hl h (gR h 1730893486 a0))) : FA cf 52779698 8 [vR a0, vI a1] [] h = if (eI h (gR h 1730893486 a0) a1) = 5 then FA cf 52779698 18 [vR a0, vI a1] [] h else FA cf 52779698 29 [vR a0, vI a1] [] h := ((FA_ex cf 52779698 6 _ _ _ _).trans rfl : FA cf 52779698 8 [vR a0, vI a1] [] h = gd (inT 43 43 (hc h a0)) (gd ((inT 64 65 (hc h (gR h 1730893486 a0)) ∨ inT 64 65 (kc h (gR h 1730893486 a0))) ∧ inA a1 (hl h (gR h 1730893486 a0))) (if (eI h (gR h 1730893486 a0) a1) = 5 then FA cf 52779698 18 [vR a0, vI a1] [] h else FA cf 52779698 29 [vR a0, vI a1] [] h))).trans ((gd_t g0).trans ((gd_t g1)))
theorem k_X10_isDyadic_8 (cf : Nat → List PV → PH → Rs) (m : Nat) (a1 : Int) (b : PH) (s : MS) (B : MB b m) (b0 : inA a1 490) : FA cf 52779698 8 [vR m, vI a1] [] (MH b m s) = if (aI s 2 a1) = 5 then FA cf 52779698 18 [vR m, vI a1] [] (MH b m s) else FA cf 52779698 29 [vR m, vI a1] [] (MH b m s) := by
  obtain ⟨t1_2, t2_2, t3_2⟩ := mb_tokKind B
  refine (c_X10_isDyadic_8 cf m a1 (MH b m s) (i11 B.1) (by (try simp only [gI_MH, gJ_MH, gR_MH, pI_MH, pJ_MH, t1_2, eI_MH (b := b) (m := m) (k := 2) (by decide) (by decide), qI_MH (b := b) (m := m) (k := 2) (by decide) (by decide)]); exact ⟨Or.inl (T65 t2_2), IAe t3_2 (by assumption)⟩)).trans ?_
  try simp only [gI_MH, gJ_MH, gR_MH, pI_MH, pJ_MH, t1_2, eI_MH (b := b) (m := m) (k := 2) (by decide) (by decide), qI_MH (b := b) (m := m) (k := 2) (by decide) (by decide)]
  try rfl
theorem c_X10_isDyadic_18 (cf : Nat → List PV → PH → Rs) (a0 : Nat) (a1 : Int) (h : PH) (g0 : inT 43 43 (hc h a0)) (g1 : (inT 64 65 (hc h (gR h 1747670702 a0)) ∨ inT 64 65 (kc h (gR h 1747670702 a0))) ∧ inA a1 (hl h (gR h 1747670702 a0))) : FA cf 52779698 18 [vR a0, vI a1] [] h = if (eI h (gR h 1747670702 a0) a1) = 126 then FA cf 52779698 33 [vR a0, vI a1] [] h else FA cf 52779698 29 [vR a0, vI a1] [] h := ((FA_ex cf 52779698 6 _ _ _ _).trans rfl : FA cf 52779698 18 [vR a0, vI a1] [] h = gd (inT 43 43 (hc h a0)) (gd ((inT 64 65 (hc h (gR h 1747670702 a0)) ∨ inT 64 65 (kc h (gR h 1747670702 a0))) ∧ inA a1 (hl h (gR h 1747670702 a0))) (if (eI h (gR h 1747670702 a0) a1) = 126 then FA cf 52779698 33 [vR a0, vI a1] [] h else FA cf 52779698 29 [vR a0, vI a1] [] h))).trans ((gd_t g0).trans ((gd_t g1)))
theorem k_X10_isDyadic_18 (cf : Nat → List PV → PH → Rs) (m : Nat) (a1 : Int) (b : PH) (s : MS) (B : MB b m) (b0 : inA a1 490) : FA cf 52779698 18 [vR m, vI a1] [] (MH b m s) = if (aI s 4 a1) = 126 then FA cf 52779698 33 [vR m, vI a1] [] (MH b m s) else FA cf 52779698 29 [vR m, vI a1] [] (MH b m s) := by
  obtain ⟨t1_4, t2_4, t3_4⟩ := mb_tokIs B
  refine (c_X10_isDyadic_18 cf m a1 (MH b m s) (i11 B.1) (by (try simp only [gI_MH, gJ_MH, gR_MH, pI_MH, pJ_MH, t1_4, eI_MH (b := b) (m := m) (k := 4) (by decide) (by decide), qI_MH (b := b) (m := m) (k := 4) (by decide) (by decide)]); exact ⟨Or.inl (T65 t2_4), IAe t3_4 (by assumption)⟩)).trans ?_
  try simp only [gI_MH, gJ_MH, gR_MH, pI_MH, pJ_MH, t1_4, eI_MH (b := b) (m := m) (k := 4) (by decide) (by decide), qI_MH (b := b) (m := m) (k := 4) (by decide) (by decide)]
  try rfl
theorem c_X10_isDyadic_29 (cf : Nat → List PV → PH → Rs) (a0 : Nat) (a1 : Int) (h : PH) : FA cf 52779698 29 [vR a0, vI a1] [] h = FA cf 52779698 34 [vR a0, vI a1] [vI 1] h := (FA_ex cf 52779698 2 _ _ _ _).trans rfl
theorem k_X10_isDyadic_29 (cf : Nat → List PV → PH → Rs) (m : Nat) (a1 : Int) (b : PH) (s : MS) (B : MB b m) : FA cf 52779698 29 [vR m, vI a1] [] (MH b m s) = FA cf 52779698 34 [vR m, vI a1] [vI 1] (MH b m s) := by
  refine (c_X10_isDyadic_29 cf m a1 (MH b m s) ).trans ?_
  try simp only [gI_MH, gJ_MH, gR_MH, pI_MH, pJ_MH]
  try rfl
theorem c_X10_isDyadic_33 (cf : Nat → List PV → PH → Rs) (a0 : Nat) (a1 : Int) (h : PH) : FA cf 52779698 33 [vR a0, vI a1] [] h = FA cf 52779698 34 [vR a0, vI a1] [vI 0] h := (FA_ex cf 52779698 1 _ _ _ _).trans rfl
theorem k_X10_isDyadic_33 (cf : Nat → List PV → PH → Rs) (m : Nat) (a1 : Int) (b : PH) (s : MS) (B : MB b m) : FA cf 52779698 33 [vR m, vI a1] [] (MH b m s) = FA cf 52779698 34 [vR m, vI a1] [vI 0] (MH b m s) := by
  refine (c_X10_isDyadic_33 cf m a1 (MH b m s) ).trans ?_
  try simp only [gI_MH, gJ_MH, gR_MH, pI_MH, pJ_MH]
  try rfl
theorem c_X10_isDyadic_34 (cf : Nat → List PV → PH → Rs) (a0 : Nat) (a1 : Int) (s0 : Int) (h : PH) (g0 : (s0 : Int) = 0 ∨ (s0 : Int) = 1) : FA cf 52779698 34 [vR a0, vI a1] [vI s0] h = some (.inl (some (vI s0)), h) := ((FA_ex cf 52779698 1 _ _ _ _).trans rfl : FA cf 52779698 34 [vR a0, vI a1] [vI s0] h = gd ((s0 : Int) = 0 ∨ (s0 : Int) = 1) (some (.inl (some (vI s0)), h))).trans ((gd_t g0))
theorem k_X10_isDyadic_34 (cf : Nat → List PV → PH → Rs) (m : Nat) (a1 : Int) (s0 : Int) (b : PH) (s : MS) (B : MB b m) (b0 : (s0 : Int) = 0 ∨ (s0 : Int) = 1) : FA cf 52779698 34 [vR m, vI a1] [vI s0] (MH b m s) = some (.inl (some (vI s0)), (MH b m s)) := by
  refine (c_X10_isDyadic_34 cf m a1 s0 (MH b m s) (by first | assumption | (simp only [gI_MH, gJ_MH, gR_MH, pI_MH, pJ_MH]; assumption) | decide)).trans ?_
  try simp only [gI_MH, gJ_MH, gR_MH, pI_MH, pJ_MH]
  try rfl
theorem e_X10_isDeclarer (d : Nat) (a0 : Nat) (a1 : Int) (h : PH) : F (d + 1) 46226098 [vR a0, vI a1] h = FA (F d) 46226098 0 [vR a0, vI a1, vX] [] h := rfl
theorem c_X10_isDeclarer_0 (cf : Nat → List PV → PH → Rs) (a0 : Nat) (a1 : Int) (a2 : PV) (h : PH) (g0 : inT 43 43 (hc h a0)) (g1 : (inT 64 65 (hc h (gR h 1730893486 a0)) ∨ inT 64 65 (kc h (gR h 1730893486 a0))) ∧ inA a1 (hl h (gR h 1730893486 a0))) : FA cf 46226098 0 [vR a0, vI a1, a2] [] h = if (eI h (gR h 1730893486 a0) a1) = 5 then FA cf 46226098 10 [vR a0, vI a1, a2] [] h else FA cf 46226098 27 [vR a0, vI a1, a2] [] h := ((FA_ex cf 46226098 6 _ _ _ _).trans rfl : FA cf 46226098 0 [vR a0, vI a1, a2] [] h = gd (inT 43 43 (hc h a0)) (gd ((inT 64 65 (hc h (gR h 1730893486 a0)) ∨ inT 64 65 (kc h (gR h 1730893486 a0))) ∧ inA a1 (hl h (gR h 1730893486 a0))) (if (eI h (gR h 1730893486 a0) a1) = 5 then FA cf 46226098 10 [vR a0, vI a1, a2] [] h else FA cf 46226098 27 [vR a0, vI a1, a2] [] h))).trans ((gd_t g0).trans ((gd_t g1)))
theorem k_X10_isDeclarer_0 (cf : Nat → List PV → PH → Rs) (m : Nat) (a1 : Int) (a2 : PV) (b : PH) (s : MS) (B : MB b m) (b0 : inA a1 490) : FA cf 46226098 0 [vR m, vI a1, a2] [] (MH b m s) = if (aI s 2 a1) = 5 then FA cf 46226098 10 [vR m, vI a1, a2] [] (MH b m s) else FA cf 46226098 27 [vR m, vI a1, a2] [] (MH b m s) := by
  obtain ⟨t1_2, t2_2, t3_2⟩ := mb_tokKind B
  refine (c_X10_isDeclarer_0 cf m a1 a2 (MH b m s) (i11 B.1) (by (try simp only [gI_MH, gJ_MH, gR_MH, pI_MH, pJ_MH, t1_2, eI_MH (b := b) (m := m) (k := 2) (by decide) (by decide), qI_MH (b := b) (m := m) (k := 2) (by decide) (by decide)]); exact ⟨Or.inl (T65 t2_2), IAe t3_2 (by assumption)⟩)).trans ?_
  try simp only [gI_MH, gJ_MH, gR_MH, pI_MH, pJ_MH, t1_2, eI_MH (b := b) (m := m) (k := 2) (by decide) (by decide), qI_MH (b := b) (m := m) (k := 2) (by decide) (by decide)]
  try rfl
theorem c_X10_isDeclarer_10 (cf : Nat → List PV → PH → Rs) (a0 : Nat) (a1 : Int) (a2 : PV) (h : PH) (g0 : inT 43 43 (hc h a0)) (g1 : (inT 64 65 (hc h (gR h 1747670702 a0)) ∨ inT 64 65 (kc h (gR h 1747670702 a0))) ∧ inA a1 (hl h (gR h 1747670702 a0))) : FA cf 46226098 10 [vR a0, vI a1, a2] [] h = if (eI h (gR h 1747670702 a0) a1) = 91 then FA cf 46226098 21 [vR a0, vI a1, a2] [] h else FA cf 46226098 25 [vR a0, vI a1, a2] [] h := ((FA_ex cf 46226098 6 _ _ _ _).trans rfl : FA cf 46226098 10 [vR a0, vI a1, a2] [] h = gd (inT 43 43 (hc h a0)) (gd ((inT 64 65 (hc h (gR h 1747670702 a0)) ∨ inT 64 65 (kc h (gR h 1747670702 a0))) ∧ inA a1 (hl h (gR h 1747670702 a0))) (if (eI h (gR h 1747670702 a0) a1) = 91 then FA cf 46226098 21 [vR a0, vI a1, a2] [] h else FA cf 46226098 25 [vR a0, vI a1, a2] [] h))).trans ((gd_t g0).trans ((gd_t g1)))
theorem k_X10_isDeclarer_10 (cf : Nat → List PV → PH → Rs) (m : Nat) (a1 : Int) (a2 : PV) (b : PH) (s : MS) (B : MB b m) (b0 : inA a1 490) : FA cf 46226098 10 [vR m, vI a1, a2] [] (MH b m s) = if (aI s 4 a1) = 91 then FA cf 46226098 21 [vR m, vI a1, a2] [] (MH b m s) else FA cf 46226098 25 [vR m, vI a1, a2] [] (MH b m s) := by
  obtain ⟨t1_4, t2_4, t3_4⟩ := mb_tokIs B
  refine (c_X10_isDeclarer_10 cf m a1 a2 (MH b m s) (i11 B.1) (by (try simp only [gI_MH, gJ_MH, gR_MH, pI_MH, pJ_MH, t1_4, eI_MH (b := b) (m := m) (k := 4) (by decide) (by decide), qI_MH (b := b) (m := m) (k := 4) (by decide) (by decide)]); exact ⟨Or.inl (T65 t2_4), IAe t3_4 (by assumption)⟩)).trans ?_
  try simp only [gI_MH, gJ_MH, gR_MH, pI_MH, pJ_MH, t1_4, eI_MH (b := b) (m := m) (k := 4) (by decide) (by decide), qI_MH (b := b) (m := m) (k := 4) (by decide) (by decide)]
  try rfl
theorem c_X10_isDeclarer_21 (cf : Nat → List PV → PH → Rs) (a0 : Nat) (a1 : Int) (a2 : PV) (h : PH) : FA cf 46226098 21 [vR a0, vI a1, a2] [] h = FA cf 46226098 26 [vR a0, vI a1, a2] [vI 1] h := (FA_ex cf 46226098 2 _ _ _ _).trans rfl
theorem k_X10_isDeclarer_21 (cf : Nat → List PV → PH → Rs) (m : Nat) (a1 : Int) (a2 : PV) (b : PH) (s : MS) (B : MB b m) : FA cf 46226098 21 [vR m, vI a1, a2] [] (MH b m s) = FA cf 46226098 26 [vR m, vI a1, a2] [vI 1] (MH b m s) := by
  refine (c_X10_isDeclarer_21 cf m a1 a2 (MH b m s) ).trans ?_
  try simp only [gI_MH, gJ_MH, gR_MH, pI_MH, pJ_MH]
  try rfl
theorem c_X10_isDeclarer_25 (cf : Nat → List PV → PH → Rs) (a0 : Nat) (a1 : Int) (a2 : PV) (h : PH) : FA cf 46226098 25 [vR a0, vI a1, a2] [] h = FA cf 46226098 26 [vR a0, vI a1, a2] [vI 0] h := (FA_ex cf 46226098 1 _ _ _ _).trans rfl
theorem k_X10_isDeclarer_25 (cf : Nat → List PV → PH → Rs) (m : Nat) (a1 : Int) (a2 : PV) (b : PH) (s : MS) (B : MB b m) : FA cf 46226098 25 [vR m, vI a1, a2] [] (MH b m s) = FA cf 46226098 26 [vR m, vI a1, a2] [vI 0] (MH b m s) := by
  refine (c_X10_isDeclarer_25 cf m a1 a2 (MH b m s) ).trans ?_
  try simp only [gI_MH, gJ_MH, gR_MH, pI_MH, pJ_MH]
  try rfl
theorem c_X10_isDeclarer_26 (cf : Nat → List PV → PH → Rs) (a0 : Nat) (a1 : Int) (a2 : PV) (s0 : Int) (h : PH) (g0 : (s0 : Int) = 0 ∨ (s0 : Int) = 1) : FA cf 46226098 26 [vR a0, vI a1, a2] [vI s0] h = some (.inl (some (vI s0)), h) := ((FA_ex cf 46226098 1 _ _ _ _).trans rfl : FA cf 46226098 26 [vR a0, vI a1, a2] [vI s0] h = gd ((s0 : Int) = 0 ∨ (s0 : Int) = 1) (some (.inl (some (vI s0)), h))).trans ((gd_t g0))
theorem k_X10_isDeclarer_26 (cf : Nat → List PV → PH → Rs) (m : Nat) (a1 : Int) (a2 : PV) (s0 : Int) (b : PH) (s : MS) (B : MB b m) (b0 : (s0 : Int) = 0 ∨ (s0 : Int) = 1) : FA cf 46226098 26 [vR m, vI a1, a2] [vI s0] (MH b m s) = some (.inl (some (vI s0)), (MH b m s)) := by
  refine (c_X10_isDeclarer_26 cf m a1 a2 s0 (MH b m s) (by first | assumption | (simp only [gI_MH, gJ_MH, gR_MH, pI_MH, pJ_MH]; assumption) | decide)).trans ?_
  try simp only [gI_MH, gJ_MH, gR_MH, pI_MH, pJ_MH]
  try rfl
theorem c_X10_isDeclarer_27 (cf : Nat → List PV → PH → Rs) (a0 : Nat) (a1 : Int) (a2 : PV) (h : PH) (g0 : inT 43 43 (hc h a0)) (g1 : (inT 64 65 (hc h (gR h 1730893486 a0)) ∨ inT 64 65 (kc h (gR h 1730893486 a0))) ∧ inA a1 (hl h (gR h 1730893486 a0))) : FA cf 46226098 27 [vR a0, vI a1, a2] [] h = if (eI h (gR h 1730893486 a0) a1) = 2 then FA cf 46226098 37 [vR a0, vI a1, a2] [] h else FA cf 46226098 43 [vR a0, vI a1, a2] [] h := ((FA_ex cf 46226098 6 _ _ _ _).trans rfl : FA cf 46226098 27 [vR a0, vI a1, a2] [] h = gd (inT 43 43 (hc h a0)) (gd ((inT 64 65 (hc h (gR h 1730893486 a0)) ∨ inT 64 65 (kc h (gR h 1730893486 a0))) ∧ inA a1 (hl h (gR h 1730893486 a0))) (if (eI h (gR h 1730893486 a0) a1) = 2 then FA cf 46226098 37 [vR a0, vI a1, a2] [] h else FA cf 46226098 43 [vR a0, vI a1, a2] [] h))).trans ((gd_t g0).trans ((gd_t g1)))
theorem k_X10_isDeclarer_27 (cf : Nat → List PV → PH → Rs) (m : Nat) (a1 : Int) (a2 : PV) (b : PH) (s : MS) (B : MB b m) (b0 : inA a1 490) : FA cf 46226098 27 [vR m, vI a1, a2] [] (MH b m s) = if (aI s 2 a1) = 2 then FA cf 46226098 37 [vR m, vI a1, a2] [] (MH b m s) else FA cf 46226098 43 [vR m, vI a1, a2] [] (MH b m s) := by
  obtain ⟨t1_2, t2_2, t3_2⟩ := mb_tokKind B
  refine (c_X10_isDeclarer_27 cf m a1 a2 (MH b m s) (i11 B.1) (by (try simp only [gI_MH, gJ_MH, gR_MH, pI_MH, pJ_MH, t1_2, eI_MH (b := b) (m := m) (k := 2) (by decide) (by decide), qI_MH (b := b) (m := m) (k := 2) (by decide) (by decide)]); exact ⟨Or.inl (T65 t2_2), IAe t3_2 (by assumption)⟩)).trans ?_
  try simp only [gI_MH, gJ_MH, gR_MH, pI_MH, pJ_MH, t1_2, eI_MH (b := b) (m := m) (k := 2) (by decide) (by decide), qI_MH (b := b) (m := m) (k := 2) (by decide) (by decide)]
  try rfl
theorem c_X10_isDeclarer_37 (cf : Nat → List PV → PH → Rs) (a0 : Nat) (a1 : Int) (a2 : PV) (h : PH) (g0 : inT 43 43 (hc h a0)) : FA cf 46226098 37 [vR a0, vI a1, a2] [] h = bnd (cf 42818226 [vR a0, vI a1] h) (fun v h' => FA cf 46226098 42 [vR a0, vI a1, a2] (pu v []) h') := ((FA_ex cf 46226098 3 _ _ _ _).trans rfl : FA cf 46226098 37 [vR a0, vI a1, a2] [] h = gd (inT 43 43 (hc h a0)) (bnd (cf 42818226 [vR a0, vI a1] h) (fun v h' => FA cf 46226098 42 [vR a0, vI a1, a2] (pu v []) h'))).trans ((gd_t g0))
theorem k_X10_isDeclarer_37 (cf : Nat → List PV → PH → Rs) (m : Nat) (a1 : Int) (a2 : PV) (b : PH) (s : MS) (B : MB b m) : FA cf 46226098 37 [vR m, vI a1, a2] [] (MH b m s) = bnd (cf 42818226 [vR m, vI a1] (MH b m s)) (fun v h' => FA cf 46226098 42 [vR m, vI a1, a2] (pu v []) h') := by
  refine (c_X10_isDeclarer_37 cf m a1 a2 (MH b m s) (i11 B.1)).trans ?_
  try simp only [gI_MH, gJ_MH, gR_MH, pI_MH, pJ_MH]
  try rfl
theorem c_X10_isDeclarer_42 (cf : Nat → List PV → PH → Rs) (a0 : Nat) (a1 : Int) (a2 : PV) (s0 : Int) (h : PH) (g0 : (s0 : Int) = 0 ∨ (s0 : Int) = 1) : FA cf 46226098 42 [vR a0, vI a1, a2] [vI s0] h = some (.inl (some (vI s0)), h) := ((FA_ex cf 46226098 1 _ _ _ _).trans rfl : FA cf 46226098 42 [vR a0, vI a1, a2] [vI s0] h = gd ((s0 : Int) = 0 ∨ (s0 : Int) = 1) (some (.inl (some (vI s0)), h))).trans ((gd_t g0))
theorem k_X10_isDeclarer_42 (cf : Nat → List PV → PH → Rs) (m : Nat) (a1 : Int) (a2 : PV) (s0 : Int) (b : PH) (s : MS) (B : MB b m) (b0 : (s0 : Int) = 0 ∨ (s0 : Int) = 1) : FA cf 46226098 42 [vR m, vI a1, a2] [vI s0] (MH b m s) = some (.inl (some (vI s0)), (MH b m s)) := by
  refine (c_X10_isDeclarer_42 cf m a1 a2 s0 (MH b m s) (by first | assumption | (simp only [gI_MH, gJ_MH, gR_MH, pI_MH, pJ_MH]; assumption) | decide)).trans ?_
  try simp only [gI_MH, gJ_MH, gR_MH, pI_MH, pJ_MH]
  try rfl
theorem c_X10_isDeclarer_43 (cf : Nat → List PV → PH → Rs) (a0 : Nat) (a1 : Int) (a2 : PV) (h : PH) (g0 : inT 43 43 (hc h a0)) (g1 : (inT 64 65 (hc h (gR h 1730893486 a0)) ∨ inT 64 65 (kc h (gR h 1730893486 a0))) ∧ inA a1 (hl h (gR h 1730893486 a0))) : FA cf 46226098 43 [vR a0, vI a1, a2] [] h = if (eI h (gR h 1730893486 a0) a1) = 1 then FA cf 46226098 55 [vR a0, vI a1, a2] [] h else FA cf 46226098 53 [vR a0, vI a1, a2] [] h := ((FA_ex cf 46226098 6 _ _ _ _).trans rfl : FA cf 46226098 43 [vR a0, vI a1, a2] [] h = gd (inT 43 43 (hc h a0)) (gd ((inT 64 65 (hc h (gR h 1730893486 a0)) ∨ inT 64 65 (kc h (gR h 1730893486 a0))) ∧ inA a1 (hl h (gR h 1730893486 a0))) (if (eI h (gR h 1730893486 a0) a1) = 1 then FA cf 46226098 55 [vR a0, vI a1, a2] [] h else FA cf 46226098 53 [vR a0, vI a1, a2] [] h))).trans ((gd_t g0).trans ((gd_t g1)))
theorem k_X10_isDeclarer_43 (cf : Nat → List PV → PH → Rs) (m : Nat) (a1 : Int) (a2 : PV) (b : PH) (s : MS) (B : MB b m) (b0 : inA a1 490) : FA cf 46226098 43 [vR m, vI a1, a2] [] (MH b m s) = if (aI s 2 a1) = 1 then FA cf 46226098 55 [vR m, vI a1, a2] [] (MH b m s) else FA cf 46226098 53 [vR m, vI a1, a2] [] (MH b m s) := by
  obtain ⟨t1_2, t2_2, t3_2⟩ := mb_tokKind B
  refine (c_X10_isDeclarer_43 cf m a1 a2 (MH b m s) (i11 B.1) (by (try simp only [gI_MH, gJ_MH, gR_MH, pI_MH, pJ_MH, t1_2, eI_MH (b := b) (m := m) (k := 2) (by decide) (by decide), qI_MH (b := b) (m := m) (k := 2) (by decide) (by decide)]); exact ⟨Or.inl (T65 t2_2), IAe t3_2 (by assumption)⟩)).trans ?_
  try simp only [gI_MH, gJ_MH, gR_MH, pI_MH, pJ_MH, t1_2, eI_MH (b := b) (m := m) (k := 2) (by decide) (by decide), qI_MH (b := b) (m := m) (k := 2) (by decide) (by decide)]
  try rfl
theorem c_X10_isDeclarer_53 (cf : Nat → List PV → PH → Rs) (a0 : Nat) (a1 : Int) (a2 : PV) (h : PH) : FA cf 46226098 53 [vR a0, vI a1, a2] [] h = some (.inl (some (vI 0)), h) := ((FA_ex cf 46226098 2 _ _ _ _).trans rfl : FA cf 46226098 53 [vR a0, vI a1, a2] [] h = gd ((0 : Int) = 0 ∨ (0 : Int) = 1) (some (.inl (some (vI 0)), h))).trans ((gd_t (by decide)))
theorem k_X10_isDeclarer_53 (cf : Nat → List PV → PH → Rs) (m : Nat) (a1 : Int) (a2 : PV) (b : PH) (s : MS) (B : MB b m) : FA cf 46226098 53 [vR m, vI a1, a2] [] (MH b m s) = some (.inl (some (vI 0)), (MH b m s)) := by
  refine (c_X10_isDeclarer_53 cf m a1 a2 (MH b m s) ).trans ?_
  try simp only [gI_MH, gJ_MH, gR_MH, pI_MH, pJ_MH]
  try rfl
theorem c_X10_isDeclarer_55 (cf : Nat → List PV → PH → Rs) (a0 : Nat) (a1 : Int) (a2 : PV) (h : PH) (g0 : inT 43 43 (hc h a0)) (g1 : (inT 64 65 (hc h (gR h 1747670702 a0)) ∨ inT 64 65 (kc h (gR h 1747670702 a0))) ∧ inA a1 (hl h (gR h 1747670702 a0))) : FA cf 46226098 55 [vR a0, vI a1, a2] [] h = if (eI h (gR h 1747670702 a0) a1) = 34 then FA cf 46226098 122 [vR a0, vI a1, vI (eI h (gR h 1747670702 a0) a1)] [] h else FA cf 46226098 68 [vR a0, vI a1, vI (eI h (gR h 1747670702 a0) a1)] [] h := ((FA_ex cf 46226098 8 _ _ _ _).trans rfl : FA cf 46226098 55 [vR a0, vI a1, a2] [] h = gd (inT 43 43 (hc h a0)) (gd ((inT 64 65 (hc h (gR h 1747670702 a0)) ∨ inT 64 65 (kc h (gR h 1747670702 a0))) ∧ inA a1 (hl h (gR h 1747670702 a0))) (if (eI h (gR h 1747670702 a0) a1) = 34 then FA cf 46226098 122 [vR a0, vI a1, vI (eI h (gR h 1747670702 a0) a1)] [] h else FA cf 46226098 68 [vR a0, vI a1, vI (eI h (gR h 1747670702 a0) a1)] [] h))).trans ((gd_t g0).trans ((gd_t g1)))
theorem k_X10_isDeclarer_55 (cf : Nat → List PV → PH → Rs) (m : Nat) (a1 : Int) (a2 : PV) (b : PH) (s : MS) (B : MB b m) (b0 : inA a1 490) : FA cf 46226098 55 [vR m, vI a1, a2] [] (MH b m s) = if (aI s 4 a1) = 34 then FA cf 46226098 122 [vR m, vI a1, vI (aI s 4 a1)] [] (MH b m s) else FA cf 46226098 68 [vR m, vI a1, vI (aI s 4 a1)] [] (MH b m s) := by
  obtain ⟨t1_4, t2_4, t3_4⟩ := mb_tokIs B
  refine (c_X10_isDeclarer_55 cf m a1 a2 (MH b m s) (i11 B.1) (by (try simp only [gI_MH, gJ_MH, gR_MH, pI_MH, pJ_MH, t1_4, eI_MH (b := b) (m := m) (k := 4) (by decide) (by decide), qI_MH (b := b) (m := m) (k := 4) (by decide) (by decide)]); exact ⟨Or.inl (T65 t2_4), IAe t3_4 (by assumption)⟩)).trans ?_
  try simp only [gI_MH, gJ_MH, gR_MH, pI_MH, pJ_MH, t1_4, eI_MH (b := b) (m := m) (k := 4) (by decide) (by decide), qI_MH (b := b) (m := m) (k := 4) (by decide) (by decide)]
  try rfl
theorem c_X10_isDeclarer_68 (cf : Nat → List PV → PH → Rs) (a0 : Nat) (a1 : Int) (a2 : Int) (h : PH) : FA cf 46226098 68 [vR a0, vI a1, vI a2] [] h = if a2 = 35 then FA cf 46226098 122 [vR a0, vI a1, vI a2] [] h else FA cf 46226098 74 [vR a0, vI a1, vI a2] [] h := (FA_ex cf 46226098 3 _ _ _ _).trans rfl
theorem k_X10_isDeclarer_68 (cf : Nat → List PV → PH → Rs) (m : Nat) (a1 : Int) (a2 : Int) (b : PH) (s : MS) (B : MB b m) : FA cf 46226098 68 [vR m, vI a1, vI a2] [] (MH b m s) = if a2 = 35 then FA cf 46226098 122 [vR m, vI a1, vI a2] [] (MH b m s) else FA cf 46226098 74 [vR m, vI a1, vI a2] [] (MH b m s) := by
  refine (c_X10_isDeclarer_68 cf m a1 a2 (MH b m s) ).trans ?_
  try simp only [gI_MH, gJ_MH, gR_MH, pI_MH, pJ_MH]
  try rfl
theorem c_X10_isDeclarer_74 (cf : Nat → List PV → PH → Rs) (a0 : Nat) (a1 : Int) (a2 : Int) (h : PH) : FA cf 46226098 74 [vR a0, vI a1, vI a2] [] h = if a2 = 36 then FA cf 46226098 122 [vR a0, vI a1, vI a2] [] h else FA cf 46226098 80 [vR a0, vI a1, vI a2] [] h := (FA_ex cf 46226098 3 _ _ _ _).trans rfl
theorem k_X10_isDeclarer_74 (cf : Nat → List PV → PH → Rs) (m : Nat) (a1 : Int) (a2 : Int) (b : PH) (s : MS) (B : MB b m) : FA cf 46226098 74 [vR m, vI a1, vI a2] [] (MH b m s) = if a2 = 36 then FA cf 46226098 122 [vR m, vI a1, vI a2] [] (MH b m s) else FA cf 46226098 80 [vR m, vI a1, vI a2] [] (MH b m s) := by
  refine (c_X10_isDeclarer_74 cf m a1 a2 (MH b m s) ).trans ?_
  try simp only [gI_MH, gJ_MH, gR_MH, pI_MH, pJ_MH]
  try rfl
theorem c_X10_isDeclarer_80 (cf : Nat → List PV → PH → Rs) (a0 : Nat) (a1 : Int) (a2 : Int) (h : PH) : FA cf 46226098 80 [vR a0, vI a1, vI a2] [] h = if a2 = 37 then FA cf 46226098 122 [vR a0, vI a1, vI a2] [] h else FA cf 46226098 86 [vR a0, vI a1, vI a2] [] h := (FA_ex cf 46226098 3 _ _ _ _).trans rfl
theorem k_X10_isDeclarer_80 (cf : Nat → List PV → PH → Rs) (m : Nat) (a1 : Int) (a2 : Int) (b : PH) (s : MS) (B : MB b m) : FA cf 46226098 80 [vR m, vI a1, vI a2] [] (MH b m s) = if a2 = 37 then FA cf 46226098 122 [vR m, vI a1, vI a2] [] (MH b m s) else FA cf 46226098 86 [vR m, vI a1, vI a2] [] (MH b m s) := by
  refine (c_X10_isDeclarer_80 cf m a1 a2 (MH b m s) ).trans ?_
  try simp only [gI_MH, gJ_MH, gR_MH, pI_MH, pJ_MH]
  try rfl
theorem c_X10_isDeclarer_86 (cf : Nat → List PV → PH → Rs) (a0 : Nat) (a1 : Int) (a2 : Int) (h : PH) : FA cf 46226098 86 [vR a0, vI a1, vI a2] [] h = if a2 = 38 then FA cf 46226098 122 [vR a0, vI a1, vI a2] [] h else FA cf 46226098 92 [vR a0, vI a1, vI a2] [] h := (FA_ex cf 46226098 3 _ _ _ _).trans rfl
theorem k_X10_isDeclarer_86 (cf : Nat → List PV → PH → Rs) (m : Nat) (a1 : Int) (a2 : Int) (b : PH) (s : MS) (B : MB b m) : FA cf 46226098 86 [vR m, vI a1, vI a2] [] (MH b m s) = if a2 = 38 then FA cf 46226098 122 [vR m, vI a1, vI a2] [] (MH b m s) else FA cf 46226098 92 [vR m, vI a1, vI a2] [] (MH b m s) := by
  refine (c_X10_isDeclarer_86 cf m a1 a2 (MH b m s) ).trans ?_
  try simp only [gI_MH, gJ_MH, gR_MH, pI_MH, pJ_MH]
  try rfl
theorem c_X10_isDeclarer_92 (cf : Nat → List PV → PH → Rs) (a0 : Nat) (a1 : Int) (a2 : Int) (h : PH) : FA cf 46226098 92 [vR a0, vI a1, vI a2] [] h = if a2 = 39 then FA cf 46226098 122 [vR a0, vI a1, vI a2] [] h else FA cf 46226098 98 [vR a0, vI a1, vI a2] [] h := (FA_ex cf 46226098 3 _ _ _ _).trans rfl
theorem k_X10_isDeclarer_92 (cf : Nat → List PV → PH → Rs) (m : Nat) (a1 : Int) (a2 : Int) (b : PH) (s : MS) (B : MB b m) : FA cf 46226098 92 [vR m, vI a1, vI a2] [] (MH b m s) = if a2 = 39 then FA cf 46226098 122 [vR m, vI a1, vI a2] [] (MH b m s) else FA cf 46226098 98 [vR m, vI a1, vI a2] [] (MH b m s) := by
  refine (c_X10_isDeclarer_92 cf m a1 a2 (MH b m s) ).trans ?_
  try simp only [gI_MH, gJ_MH, gR_MH, pI_MH, pJ_MH]
  try rfl
theorem c_X10_isDeclarer_98 (cf : Nat → List PV → PH → Rs) (a0 : Nat) (a1 : Int) (a2 : Int) (h : PH) : FA cf 46226098 98 [vR a0, vI a1, vI a2] [] h = if a2 = 40 then FA cf 46226098 122 [vR a0, vI a1, vI a2] [] h else FA cf 46226098 104 [vR a0, vI a1, vI a2] [] h := (FA_ex cf 46226098 3 _ _ _ _).trans rfl
theorem k_X10_isDeclarer_98 (cf : Nat → List PV → PH → Rs) (m : Nat) (a1 : Int) (a2 : Int) (b : PH) (s : MS) (B : MB b m) : FA cf 46226098 98 [vR m, vI a1, vI a2] [] (MH b m s) = if a2 = 40 then FA cf 46226098 122 [vR m, vI a1, vI a2] [] (MH b m s) else FA cf 46226098 104 [vR m, vI a1, vI a2] [] (MH b m s) := by
  refine (c_X10_isDeclarer_98 cf m a1 a2 (MH b m s) ).trans ?_
  try simp only [gI_MH, gJ_MH, gR_MH, pI_MH, pJ_MH]
  try rfl
theorem c_X10_isDeclarer_104 (cf : Nat → List PV → PH → Rs) (a0 : Nat) (a1 : Int) (a2 : Int) (h : PH) : FA cf 46226098 104 [vR a0, vI a1, vI a2] [] h = if a2 = 12 then FA cf 46226098 110 [vR a0, vI a1, vI a2] [] h else FA cf 46226098 126 [vR a0, vI a1, vI a2] [] h := (FA_ex cf 46226098 3 _ _ _ _).trans rfl
theorem k_X10_isDeclarer_104 (cf : Nat → List PV → PH → Rs) (m : Nat) (a1 : Int) (a2 : Int) (b : PH) (s : MS) (B : MB b m) : FA cf 46226098 104 [vR m, vI a1, vI a2] [] (MH b m s) = if a2 = 12 then FA cf 46226098 110 [vR m, vI a1, vI a2] [] (MH b m s) else FA cf 46226098 126 [vR m, vI a1, vI a2] [] (MH b m s) := by
  refine (c_X10_isDeclarer_104 cf m a1 a2 (MH b m s) ).trans ?_
  try simp only [gI_MH, gJ_MH, gR_MH, pI_MH, pJ_MH]
  try rfl
theorem c_X10_isDeclarer_110 (cf : Nat → List PV → PH → Rs) (a0 : Nat) (a1 : Int) (a2 : Int) (h : PH) (g0 : inT 43 43 (hc h a0)) (g1 : (inT 64 65 (hc h (gR h 1730893486 a0)) ∨ inT 64 65 (kc h (gR h 1730893486 a0))) ∧ inA (w32 (a1 + 1)) (hl h (gR h 1730893486 a0))) : FA cf 46226098 110 [vR a0, vI a1, vI a2] [] h = if (eI h (gR h 1730893486 a0) (w32 (a1 + 1))) = 4 then FA cf 46226098 126 [vR a0, vI a1, vI a2] [] h else FA cf 46226098 122 [vR a0, vI a1, vI a2] [] h := ((FA_ex cf 46226098 8 _ _ _ _).trans rfl : FA cf 46226098 110 [vR a0, vI a1, vI a2] [] h = gd (inT 43 43 (hc h a0)) (gd ((inT 64 65 (hc h (gR h 1730893486 a0)) ∨ inT 64 65 (kc h (gR h 1730893486 a0))) ∧ inA (w32 (a1 + 1)) (hl h (gR h 1730893486 a0))) (if (eI h (gR h 1730893486 a0) (w32 (a1 + 1))) = 4 then FA cf 46226098 126 [vR a0, vI a1, vI a2] [] h else FA cf 46226098 122 [vR a0, vI a1, vI a2] [] h))).trans ((gd_t g0).trans ((gd_t g1)))
theorem k_X10_isDeclarer_110 (cf : Nat → List PV → PH → Rs) (m : Nat) (a1 : Int) (a2 : Int) (b : PH) (s : MS) (B : MB b m) (b0 : inA (w32 (a1 + 1)) 490) : FA cf 46226098 110 [vR m, vI a1, vI a2] [] (MH b m s) = if (aI s 2 (w32 (a1 + 1))) = 4 then FA cf 46226098 126 [vR m, vI a1, vI a2] [] (MH b m s) else FA cf 46226098 122 [vR m, vI a1, vI a2] [] (MH b m s) := by
  obtain ⟨t1_2, t2_2, t3_2⟩ := mb_tokKind B
  refine (c_X10_isDeclarer_110 cf m a1 a2 (MH b m s) (i11 B.1) (by (try simp only [gI_MH, gJ_MH, gR_MH, pI_MH, pJ_MH, t1_2, eI_MH (b := b) (m := m) (k := 2) (by decide) (by decide), qI_MH (b := b) (m := m) (k := 2) (by decide) (by decide)]); exact ⟨Or.inl (T65 t2_2), IAe t3_2 (by assumption)⟩)).trans ?_
  try simp only [gI_MH, gJ_MH, gR_MH, pI_MH, pJ_MH, t1_2, eI_MH (b := b) (m := m) (k := 2) (by decide) (by decide), qI_MH (b := b) (m := m) (k := 2) (by decide) (by decide)]
  try rfl
theorem c_X10_isDeclarer_122 (cf : Nat → List PV → PH → Rs) (a0 : Nat) (a1 : Int) (a2 : Int) (h : PH) : FA cf 46226098 122 [vR a0, vI a1, vI a2] [] h = FA cf 46226098 127 [vR a0, vI a1, vI a2] [vI 1] h := (FA_ex cf 46226098 2 _ _ _ _).trans rfl
theorem k_X10_isDeclarer_122 (cf : Nat → List PV → PH → Rs) (m : Nat) (a1 : Int) (a2 : Int) (b : PH) (s : MS) (B : MB b m) : FA cf 46226098 122 [vR m, vI a1, vI a2] [] (MH b m s) = FA cf 46226098 127 [vR m, vI a1, vI a2] [vI 1] (MH b m s) := by
  refine (c_X10_isDeclarer_122 cf m a1 a2 (MH b m s) ).trans ?_
  try simp only [gI_MH, gJ_MH, gR_MH, pI_MH, pJ_MH]
  try rfl
theorem c_X10_isDeclarer_126 (cf : Nat → List PV → PH → Rs) (a0 : Nat) (a1 : Int) (a2 : Int) (h : PH) : FA cf 46226098 126 [vR a0, vI a1, vI a2] [] h = FA cf 46226098 127 [vR a0, vI a1, vI a2] [vI 0] h := (FA_ex cf 46226098 1 _ _ _ _).trans rfl
theorem k_X10_isDeclarer_126 (cf : Nat → List PV → PH → Rs) (m : Nat) (a1 : Int) (a2 : Int) (b : PH) (s : MS) (B : MB b m) : FA cf 46226098 126 [vR m, vI a1, vI a2] [] (MH b m s) = FA cf 46226098 127 [vR m, vI a1, vI a2] [vI 0] (MH b m s) := by
  refine (c_X10_isDeclarer_126 cf m a1 a2 (MH b m s) ).trans ?_
  try simp only [gI_MH, gJ_MH, gR_MH, pI_MH, pJ_MH]
  try rfl
theorem c_X10_isDeclarer_127 (cf : Nat → List PV → PH → Rs) (a0 : Nat) (a1 : Int) (a2 : Int) (s0 : Int) (h : PH) (g0 : (s0 : Int) = 0 ∨ (s0 : Int) = 1) : FA cf 46226098 127 [vR a0, vI a1, vI a2] [vI s0] h = some (.inl (some (vI s0)), h) := ((FA_ex cf 46226098 1 _ _ _ _).trans rfl : FA cf 46226098 127 [vR a0, vI a1, vI a2] [vI s0] h = gd ((s0 : Int) = 0 ∨ (s0 : Int) = 1) (some (.inl (some (vI s0)), h))).trans ((gd_t g0))
theorem k_X10_isDeclarer_127 (cf : Nat → List PV → PH → Rs) (m : Nat) (a1 : Int) (a2 : Int) (s0 : Int) (b : PH) (s : MS) (B : MB b m) (b0 : (s0 : Int) = 0 ∨ (s0 : Int) = 1) : FA cf 46226098 127 [vR m, vI a1, vI a2] [vI s0] (MH b m s) = some (.inl (some (vI s0)), (MH b m s)) := by
  refine (c_X10_isDeclarer_127 cf m a1 a2 s0 (MH b m s) (by first | assumption | (simp only [gI_MH, gJ_MH, gR_MH, pI_MH, pJ_MH]; assumption) | decide)).trans ?_
  try simp only [gI_MH, gJ_MH, gR_MH, pI_MH, pJ_MH]
  try rfl
theorem e_X10_isOpSign (d : Nat) (a0 : Int) (h : PH) : F (d + 1) 45613057 [vI a0] h = FA (F d) 45613057 0 [vI a0] [] h := rfl
theorem c_X10_isOpSign_0 (cf : Nat → List PV → PH → Rs) (a0 : Int) (h : PH) : FA cf 45613057 0 [vI a0] [] h = if a0 = 43 then FA cf 45613057 87 [vI a0] [] h else FA cf 45613057 6 [vI a0] [] h := (FA_ex cf 45613057 3 _ _ _ _).trans rfl
theorem c_X10_isOpSign_6 (cf : Nat → List PV → PH → Rs) (a0 : Int) (h : PH) : FA cf 45613057 6 [vI a0] [] h = if a0 = 45 then FA cf 45613057 87 [vI a0] [] h else FA cf 45613057 12 [vI a0] [] h := (FA_ex cf 45613057 3 _ _ _ _).trans rfl
theorem c_X10_isOpSign_12 (cf : Nat → List PV → PH → Rs) (a0 : Int) (h : PH) : FA cf 45613057 12 [vI a0] [] h = if a0 = 42 then FA cf 45613057 87 [vI a0] [] h else FA cf 45613057 18 [vI a0] [] h := (FA_ex cf 45613057 3 _ _ _ _).trans rfl
theorem c_X10_isOpSign_18 (cf : Nat → List PV → PH → Rs) (a0 : Int) (h : PH) : FA cf 45613057 18 [vI a0] [] h = if a0 = 47 then FA cf 45613057 87 [vI a0] [] h else FA cf 45613057 24 [vI a0] [] h := (FA_ex cf 45613057 3 _ _ _ _).trans rfl
theorem c_X10_isOpSign_24 (cf : Nat → List PV → PH → Rs) (a0 : Int) (h : PH) : FA cf 45613057 24 [vI a0] [] h = if a0 = 37 then FA cf 45613057 87 [vI a0] [] h else FA cf 45613057 30 [vI a0] [] h := (FA_ex cf 45613057 3 _ _ _ _).trans rfl
theorem c_X10_isOpSign_30 (cf : Nat → List PV → PH → Rs) (a0 : Int) (h : PH) : FA cf 45613057 30 [vI a0] [] h = if a0 = 38 then FA cf 45613057 87 [vI a0] [] h else FA cf 45613057 36 [vI a0] [] h := (FA_ex cf 45613057 3 _ _ _ _).trans rfl
theorem c_X10_isOpSign_36 (cf : Nat → List PV → PH → Rs) (a0 : Int) (h : PH) : FA cf 45613057 36 [vI a0] [] h = if a0 = 33 then FA cf 45613057 87 [vI a0] [] h else FA cf 45613057 42 [vI a0] [] h := (FA_ex cf 45613057 3 _ _ _ _).trans rfl
theorem c_X10_isOpSign_42 (cf : Nat → List PV → PH → Rs) (a0 : Int) (h : PH) : FA cf 45613057 42 [vI a0] [] h = if a0 = 126 then FA cf 45613057 87 [vI a0] [] h else FA cf 45613057 48 [vI a0] [] h := (FA_ex cf 45613057 3 _ _ _ _).trans rfl
theorem c_X10_isOpSign_48 (cf : Nat → List PV → PH → Rs) (a0 : Int) (h : PH) : FA cf 45613057 48 [vI a0] [] h = if a0 = 61 then FA cf 45613057 87 [vI a0] [] h else FA cf 45613057 54 [vI a0] [] h := (FA_ex cf 45613057 3 _ _ _ _).trans rfl
theorem c_X10_isOpSign_54 (cf : Nat → List PV → PH → Rs) (a0 : Int) (h : PH) : FA cf 45613057 54 [vI a0] [] h = if a0 = 301 then FA cf 45613057 87 [vI a0] [] h else FA cf 45613057 61 [vI a0] [] h := (FA_ex cf 45613057 3 _ _ _ _).trans rfl
theorem c_X10_isOpSign_61 (cf : Nat → List PV → PH → Rs) (a0 : Int) (h : PH) : FA cf 45613057 61 [vI a0] [] h = if a0 = 60 then FA cf 45613057 87 [vI a0] [] h else FA cf 45613057 67 [vI a0] [] h := (FA_ex cf 45613057 3 _ _ _ _).trans rfl
theorem c_X10_isOpSign_67 (cf : Nat → List PV → PH → Rs) (a0 : Int) (h : PH) : FA cf 45613057 67 [vI a0] [] h = if a0 = 302 then FA cf 45613057 87 [vI a0] [] h else FA cf 45613057 74 [vI a0] [] h := (FA_ex cf 45613057 3 _ _ _ _).trans rfl
theorem c_X10_isOpSign_74 (cf : Nat → List PV → PH → Rs) (a0 : Int) (h : PH) : FA cf 45613057 74 [vI a0] [] h = if a0 = 62 then FA cf 45613057 87 [vI a0] [] h else FA cf 45613057 80 [vI a0] [] h := (FA_ex cf 45613057 3 _ _ _ _).trans rfl
theorem c_X10_isOpSign_80 (cf : Nat → List PV → PH → Rs) (a0 : Int) (h : PH) : FA cf 45613057 80 [vI a0] [] h = if a0 = 303 then FA cf 45613057 87 [vI a0] [] h else FA cf 45613057 91 [vI a0] [] h := (FA_ex cf 45613057 3 _ _ _ _).trans rfl
theorem c_X10_isOpSign_87 (cf : Nat → List PV → PH → Rs) (a0 : Int) (h : PH) : FA cf 45613057 87 [vI a0] [] h = FA cf 45613057 92 [vI a0] [vI 1] h := (FA_ex cf 45613057 2 _ _ _ _).trans rfl
theorem c_X10_isOpSign_91 (cf : Nat → List PV → PH → Rs) (a0 : Int) (h : PH) : FA cf 45613057 91 [vI a0] [] h = FA cf 45613057 92 [vI a0] [vI 0] h := (FA_ex cf 45613057 1 _ _ _ _).trans rfl
theorem c_X10_isOpSign_92 (cf : Nat → List PV → PH → Rs) (a0 : Int) (s0 : Int) (h : PH) (g0 : (s0 : Int) = 0 ∨ (s0 : Int) = 1) : FA cf 45613057 92 [vI a0] [vI s0] h = some (.inl (some (vI s0)), h) := ((FA_ex cf 45613057 1 _ _ _ _).trans rfl : FA cf 45613057 92 [vI a0] [vI s0] h = gd ((s0 : Int) = 0 ∨ (s0 : Int) = 1) (some (.inl (some (vI s0)), h))).trans ((gd_t g0))
theorem z_X10_isOpSign_0 (cf : Nat → List PV → PH → Rs) (a0 : Int) (h : PH) : FA cf 45613057 0 [vI a0] [] h = FA cf 45613057 92 [vI a0] [vI (b01 ((a0 = 43) ∨ ((a0 = 45) ∨ ((a0 = 42) ∨ ((a0 = 47) ∨ ((a0 = 37) ∨ ((a0 = 38) ∨ ((a0 = 33) ∨ ((a0 = 126) ∨ ((a0 = 61) ∨ ((a0 = 301) ∨ ((a0 = 60) ∨ ((a0 = 302) ∨ ((a0 = 62) ∨ (a0 = 303)))))))))))))))] h := by
  rw [c_X10_isOpSign_0]
  by_cases c0 : a0 = 43
  · rw [if_pos c0]
    rw [c_X10_isOpSign_87, b01_p (Or.inl c0)]
  · rw [if_neg c0]
    rw [c_X10_isOpSign_6]
    by_cases c6 : a0 = 45
    · rw [if_pos c6]
      rw [c_X10_isOpSign_87, b01_p (Or.inr (Or.inl c6))]
    · rw [if_neg c6]
      rw [c_X10_isOpSign_12]
      by_cases c12 : a0 = 42
      · rw [if_pos c12]
        rw [c_X10_isOpSign_87, b01_p (Or.inr (Or.inr (Or.inl c12)))]
      · rw [if_neg c12]
        rw [c_X10_isOpSign_18]
        by_cases c18 : a0 = 47
        · rw [if_pos c18]
          rw [c_X10_isOpSign_87, b01_p (Or.inr (Or.inr (Or.inr (Or.inl c18))))]
        · rw [if_neg c18]
          rw [c_X10_isOpSign_24]
          by_cases c24 : a0 = 37
          · rw [if_pos c24]
            rw [c_X10_isOpSign_87, b01_p (Or.inr (Or.inr (Or.inr (Or.inr (Or.inl c24)))))]
          · rw [if_neg c24]
            rw [c_X10_isOpSign_30]
            by_cases c30 : a0 = 38
            · rw [if_pos c30]
              rw [c_X10_isOpSign_87, b01_p (Or.inr (Or.inr (Or.inr (Or.inr (Or.inr (Or.inl c30))))))]
            · rw [if_neg c30]
              rw [c_X10_isOpSign_36]
              by_cases c36 : a0 = 33
              · rw [if_pos c36]
                rw [c_X10_isOpSign_87, b01_p (Or.inr (Or.inr (Or.inr (Or.inr (Or.inr (Or.inr (Or.inl c36)))))))]
              · rw [if_neg c36]
                rw [c_X10_isOpSign_42]
                by_cases c42 : a0 = 126
                · rw [if_pos c42]
                  rw [c_X10_isOpSign_87, b01_p (Or.inr (Or.inr (Or.inr (Or.inr (Or.inr (Or.inr (Or.inr (Or.inl c42))))))))]
                · rw [if_neg c42]
                  rw [c_X10_isOpSign_48]
                  by_cases c48 : a0 = 61
                  · rw [if_pos c48]
                    rw [c_X10_isOpSign_87, b01_p (Or.inr (Or.inr (Or.inr (Or.inr (Or.inr (Or.inr (Or.inr (Or.inr (Or.inl c48)))))))))]
                  · rw [if_neg c48]
                    rw [c_X10_isOpSign_54]
                    by_cases c54 : a0 = 301
                    · rw [if_pos c54]
                      rw [c_X10_isOpSign_87, b01_p (Or.inr (Or.inr (Or.inr (Or.inr (Or.inr (Or.inr (Or.inr (Or.inr (Or.inr (Or.inl c54))))))))))]
                    · rw [if_neg c54]
                      rw [c_X10_isOpSign_61]
                      by_cases c61 : a0 = 60
                      · rw [if_pos c61]
                        rw [c_X10_isOpSign_87, b01_p (Or.inr (Or.inr (Or.inr (Or.inr (Or.inr (Or.inr (Or.inr (Or.inr (Or.inr (Or.inr (Or.inl c61)))))))))))]
                      · rw [if_neg c61]
                        rw [c_X10_isOpSign_67]
                        by_cases c67 : a0 = 302
                        · rw [if_pos c67]
                          rw [c_X10_isOpSign_87, b01_p (Or.inr (Or.inr (Or.inr (Or.inr (Or.inr (Or.inr (Or.inr (Or.inr (Or.inr (Or.inr (Or.inr (Or.inl c67))))))))))))]
                        · rw [if_neg c67]
                          rw [c_X10_isOpSign_74]
                          by_cases c74 : a0 = 62
                          · rw [if_pos c74]
                            rw [c_X10_isOpSign_87, b01_p (Or.inr (Or.inr (Or.inr (Or.inr (Or.inr (Or.inr (Or.inr (Or.inr (Or.inr (Or.inr (Or.inr (Or.inr (Or.inl c74)))))))))))))]
                          · rw [if_neg c74]
                            rw [c_X10_isOpSign_80]
                            by_cases c80 : a0 = 303
                            · rw [if_pos c80]
                              rw [c_X10_isOpSign_87, b01_p (Or.inr (Or.inr (Or.inr (Or.inr (Or.inr (Or.inr (Or.inr (Or.inr (Or.inr (Or.inr (Or.inr (Or.inr (Or.inr c80)))))))))))))]
                            · rw [if_neg c80]
                              rw [c_X10_isOpSign_91, b01_n (fun z => z.elim c0 (fun z => z.elim c6 (fun z => z.elim c12 (fun z => z.elim c18 (fun z => z.elim c24 (fun z => z.elim c30 (fun z => z.elim c36 (fun z => z.elim c42 (fun z => z.elim c48 (fun z => z.elim c54 (fun z => z.elim c61 (fun z => z.elim c67 (fun z => z.elim c74 c80)))))))))))))]
/-- the model's rows hold these tokens -/
def TM (s : MS) (l : List TokE) : Prop := fI s 1722504876 = l.length ∧ l.length ≤ 482 ∧ TLs l 0 ∧ TokA s 0 l
section MeQ
variable {b : PH} {m : Nat} {s : MS} {l : List TokE} {t k : Nat}
theorem TM.x (T : TM s l) : xc l ≤ l.length := T.2.2.1.1.2
theorem TM.at' (T : TM s l) (hk : k < l.length) : aI s 2 k = kd l k ∧ aI s 3 k = pl l k ∧ aI s 4 k = sI l k ∧ aJ s 5 k = wd l k := by
  have := T.2.2.2 k hk
  rw [show (0 : Int) + (k : Int) = k by omega] at this
  exact this
theorem TM.in' (T : TM s l) (hk : k < l.length) : inA (k : Int) 490 := by
  have := T.2.1
  constructor <;> omega
/-- where the model stands -/
def MA (s : MS) (l : List TokE) (t : Nat) : Prop := TM s l ∧ fI s 1764447916 = t ∧ t < xc l
theorem MA.a (A : MA s l t) : t < l.length := Nat.lt_of_lt_of_le A.2.2 A.1.x
theorem mf_isSign (d : Nat) (B : MB b m) (A : MA s l t) (c : Int) : F (d + 1) 43604658 [vR m, vI c] (MH b m s) = some (.inl (some (vI (b01 (kd l t = 5 ∧ sI l t = c)))), MH b m s) := by
  obtain ⟨e1, e2, e3, e4⟩ := A.1.at' A.a
  have hb := A.1.in' A.a
  rw [e_X10_isSign, k_X10_isSign_0 _ _ _ _ _ B (by rw [A.2.1]; exact hb), A.2.1, e1]
  by_cases q : kd l t = 5
  · rw [if_pos q, k_X10_isSign_13 _ _ _ _ _ B (by rw [A.2.1]; exact hb), A.2.1, e3]
    by_cases r : sI l t = c
    · rw [if_pos r, k_X10_isSign_26 _ _ _ _ _ B, k_X10_isSign_31 _ _ _ _ _ _ B (Or.inr rfl), b01_p ⟨q, r⟩]
    · rw [if_neg r, k_X10_isSign_30 _ _ _ _ _ B, k_X10_isSign_31 _ _ _ _ _ _ B (Or.inl rfl), b01_n (fun z => r z.2)]
  · rw [if_neg q, k_X10_isSign_30 _ _ _ _ _ B, k_X10_isSign_31 _ _ _ _ _ _ B (Or.inl rfl), b01_n (fun z => q z.1)]
theorem mf_isKept (d : Nat) (B : MB b m) (A : MA s l t) (c : Int) : F (d + 1) 42556082 [vR m, vI c] (MH b m s) = some (.inl (some (vI (b01 (kd l t = 1 ∧ sI l t = c)))), MH b m s) := by
  obtain ⟨e1, e2, e3, e4⟩ := A.1.at' A.a
  have hb := A.1.in' A.a
  rw [e_X10_isKept, k_X10_isKept_0 _ _ _ _ _ B (by rw [A.2.1]; exact hb), A.2.1, e1]
  by_cases q : kd l t = 1
  · rw [if_pos q, k_X10_isKept_13 _ _ _ _ _ B (by rw [A.2.1]; exact hb), A.2.1, e3]
    by_cases r : sI l t = c
    · rw [if_pos r, k_X10_isKept_26 _ _ _ _ _ B, k_X10_isKept_31 _ _ _ _ _ _ B (Or.inr rfl), b01_p ⟨q, r⟩]
    · rw [if_neg r, k_X10_isKept_30 _ _ _ _ _ B, k_X10_isKept_31 _ _ _ _ _ _ B (Or.inl rfl), b01_n (fun z => r z.2)]
  · rw [if_neg q, k_X10_isKept_30 _ _ _ _ _ B, k_X10_isKept_31 _ _ _ _ _ _ B (Or.inl rfl), b01_n (fun z => q z.1)]
/-- it fails here, if it hasn't yet -/
theorem mf_fails (d : Nat) (B : MB b m) (A : MA s l t) (hb : fI s 1772836524 < 0) : F (d + 1) 42293937 [vR m] (MH b m s) = some (.inl (some (vI 0)), MH b m (uI s 1772836524 (pl l t))) := by
  obtain ⟨e1, e2, e3, e4⟩ := A.1.at' A.a
  rw [e_X10_fails, k_X10_fails_0 _ _ _ _ B, if_pos hb, k_X10_fails_8 _ _ _ _ B (by rw [A.2.1]; exact A.1.in' A.a), A.2.1, e2, k_X10_fails_24 _ _ _ _ _ B]
theorem mf_fails2 (d : Nat) (B : MB b m) (hb : 0 ≤ fI s 1772836524) : F (d + 1) 42293937 [vR m] (MH b m s) = some (.inl (some (vI 0)), MH b m (uI s 1772836524 (fI s 1772836524))) := by
  rw [e_X10_fails, k_X10_fails_0 _ _ _ _ B, if_neg (by omega), k_X10_fails_20 _ _ _ _ B, k_X10_fails_24 _ _ _ _ _ B]
theorem mf_takeSignY (d : Nat) (B : MB b m) (A : MA s l t) {c : Int} (q : kd l t = 5 ∧ sI l t = c) : F (d + 2) 45177522 [vR m, vI c] (MH b m s) = some (.inl (some (vI 1)), MH b m (uI s 1764447916 ((t + 1 : Nat) : Int))) := by
  have := A.a
  have := A.1.2.1
  rw [e_X10_takeSign, k_X10_takeSign_0 _ _ _ _ _ B, mf_isSign d B A c, bnd_v, pu_s, b01_p q, k_X10_takeSign_5 _ _ _ _ _ _ B, if_neg (by decide), k_X10_takeSign_13 _ _ _ _ _ B, A.2.1, w32_1 (by omega)]
theorem mf_takeSignN (d : Nat) (B : MB b m) (A : MA s l t) (hb : fI s 1772836524 < 0) {c : Int} (q : ¬ (kd l t = 5 ∧ sI l t = c)) : F (d + 2) 45177522 [vR m, vI c] (MH b m s) = some (.inl (some (vI 0)), MH b m (uI s 1772836524 (pl l t))) := by
  rw [e_X10_takeSign, k_X10_takeSign_0 _ _ _ _ _ B, mf_isSign d B A c, bnd_v, pu_s, b01_n q, k_X10_takeSign_5 _ _ _ _ _ _ B, if_pos rfl, k_X10_takeSign_8 _ _ _ _ _ B, mf_fails d B A hb, bnd_v, pu_s, k_X10_takeSign_12 _ _ _ _ _ _ B (Or.inl rfl)]
theorem mf_takeKeptY (d : Nat) (B : MB b m) (A : MA s l t) {c : Int} (q : kd l t = 1 ∧ sI l t = c) : F (d + 2) 57498290 [vR m, vI c] (MH b m s) = some (.inl (some (vI 1)), MH b m (uI s 1764447916 ((t + 1 : Nat) : Int))) := by
  have := A.a
  have := A.1.2.1
  rw [e_X10_takeKept, k_X10_takeKept_0 _ _ _ _ _ B, mf_isKept d B A c, bnd_v, pu_s, b01_p q, k_X10_takeKept_5 _ _ _ _ _ _ B, if_neg (by decide), k_X10_takeKept_13 _ _ _ _ _ B, A.2.1, w32_1 (by omega)]
theorem mf_takeKeptN (d : Nat) (B : MB b m) (A : MA s l t) (hb : fI s 1772836524 < 0) {c : Int} (q : ¬ (kd l t = 1 ∧ sI l t = c)) : F (d + 2) 57498290 [vR m, vI c] (MH b m s) = some (.inl (some (vI 0)), MH b m (uI s 1772836524 (pl l t))) := by
  rw [e_X10_takeKept, k_X10_takeKept_0 _ _ _ _ _ B, mf_isKept d B A c, bnd_v, pu_s, b01_n q, k_X10_takeKept_5 _ _ _ _ _ _ B, if_pos rfl, k_X10_takeKept_8 _ _ _ _ _ B, mf_fails d B A hb, bnd_v, pu_s, k_X10_takeKept_12 _ _ _ _ _ _ B (Or.inl rfl)]
theorem mf_opensY (d : Nat) (B : MB b m) {o : Nat} (ho : fI s 1781225132 = o) (q : o < 24) : F (d + 1) 43866801 [vR m] (MH b m s) = some (.inl (some (vI 1)), MH b m (uI s 1781225132 ((o + 1 : Nat) : Int))) := by
  rw [e_X10_opens, k_X10_opens_0 _ _ _ _ B, ho, if_neg (by omega), k_X10_opens_14 _ _ _ _ B, ho, w32_1 (by omega)]
theorem mf_opensN (d : Nat) (B : MB b m) (A : MA s l t) (hb : fI s 1772836524 < 0) (ho : fI s 1781225132 = 24) : F (d + 2) 43866801 [vR m] (MH b m s) = some (.inl (some (vI 0)), MH b m (uI s 1772836524 (pl l t))) := by
  rw [e_X10_opens, k_X10_opens_0 _ _ _ _ B, ho, if_pos rfl, k_X10_opens_9 _ _ _ _ B, mf_fails d B A hb, bnd_v, pu_s, k_X10_opens_13 _ _ _ _ _ B (Or.inl rfl)]
theorem mf_opensSignY (d : Nat) (B : MB b m) (A : MA s l t) {c : Int} {o : Nat} (q : kd l t = 5 ∧ sI l t = c) (ho : fI s 1781225132 = o) (qo : o < 24) : F (d + 2) 43342514 [vR m, vI c] (MH b m s) = some (.inl (some (vI 1)), MH b m (uI (uI s 1781225132 ((o + 1 : Nat) : Int)) 1764447916 ((t + 1 : Nat) : Int))) := by
  have := A.a
  have := A.1.2.1
  have ea : fI (uI s 1781225132 ((o + 1 : Nat) : Int)) 1764447916 = t := by rw [fI_uI, if_neg (by decide)]; exact A.2.1
  rw [e_X10_opensSign, k_X10_opensSign_0 _ _ _ _ _ B, mf_isSign d B A c, bnd_v, pu_s, b01_p q, k_X10_opensSign_5 _ _ _ _ _ _ B, if_neg (by decide), k_X10_opensSign_8 _ _ _ _ _ B, mf_opensY d B ho qo, bnd_v, pu_s, k_X10_opensSign_12 _ _ _ _ _ _ B, if_neg (by decide), k_X10_opensSign_20 _ _ _ _ _ B, ea, w32_1 (by omega)]
theorem uI_uI {f : Nat} {v w : Int} : uI (uI s f v) f w = uI s f w := by
  unfold uI
  have : (fun g => if g = f then w else fI (fun g => if g = f then v else fI s g, fJ s, aI s, aJ s) g) = fun g => if g = f then w else fI s g := by
    funext g
    by_cases z : g = f
    · rw [if_pos z, if_pos z]
    · rw [if_neg z, if_neg z]
      show (if g = f then v else fI s g) = fI s g
      rw [if_neg z]
  rw [this]
  rfl
theorem uI_id {f : Nat} : uI s f (fI s f) = s := by
  unfold uI
  have : (fun g => if g = f then fI s f else fI s g) = fI s := by
    funext g
    by_cases z : g = f
    · rw [if_pos z, z]
    · rw [if_neg z]
  rw [this]
  rfl
theorem mf_opensSignN (d : Nat) (B : MB b m) (A : MA s l t) (hb : fI s 1772836524 < 0) {c : Int} {o : Nat} (ho : fI s 1781225132 = o) (ho24 : o ≤ 24) (q : ¬ ((kd l t = 5 ∧ sI l t = c) ∧ o < 24)) (hpl : 0 ≤ pl l t) : F (d + 3) 43342514 [vR m, vI c] (MH b m s) = some (.inl (some (vI 0)), MH b m (uI s 1772836524 (pl l t))) := by
  rw [e_X10_opensSign, k_X10_opensSign_0 _ _ _ _ _ B, mf_isSign (d + 1) B A c, bnd_v, pu_s, k_X10_opensSign_5 _ _ _ _ _ _ B]
  by_cases r : kd l t = 5 ∧ sI l t = c
  · have h24 : o = 24 := by
      rcases Nat.lt_or_ge o 24 with z | z
      · exact absurd ⟨r, z⟩ q
      · omega
    have eb : fI (uI s 1772836524 (pl l t)) 1772836524 = pl l t := by rw [fI_uI, if_pos rfl]
    rw [b01_p r, if_neg (by decide), k_X10_opensSign_8 _ _ _ _ _ B, mf_opensN d B A hb (by rw [ho, h24]; rfl), bnd_v, pu_s, k_X10_opensSign_12 _ _ _ _ _ _ B, if_pos rfl, k_X10_opensSign_15 _ _ _ _ _ B, mf_fails2 (d + 1) B (by rw [eb]; exact hpl), bnd_v, pu_s, k_X10_opensSign_19 _ _ _ _ _ _ B (Or.inl rfl), uI_id]
  · rw [b01_n r, if_pos rfl, k_X10_opensSign_15 _ _ _ _ _ B, mf_fails (d + 1) B A hb, bnd_v, pu_s, k_X10_opensSign_19 _ _ _ _ _ _ B (Or.inl rfl)]
theorem mf_closesSignY (d : Nat) (B : MB b m) (A : MA s l t) {c : Int} {o : Nat} (q : kd l t = 5 ∧ sI l t = c) (ho : fI s 1781225132 = ((o + 1 : Nat) : Int)) (ho24 : o ≤ 24) : F (d + 3) 51993266 [vR m, vI c] (MH b m s) = some (.inl (some (vI 1)), MH b m (uI (uI s 1764447916 ((t + 1 : Nat) : Int)) 1781225132 o)) := by
  have ea : fI (uI s 1764447916 ((t + 1 : Nat) : Int)) 1781225132 = ((o + 1 : Nat) : Int) := by rw [fI_uI, if_neg (by decide)]; exact ho
  rw [e_X10_closesSign, k_X10_closesSign_0 _ _ _ _ _ B, mf_takeSignY d B A q, bnd_v, pu_s, k_X10_closesSign_5 _ _ _ _ _ _ B, if_neg (by decide), k_X10_closesSign_10 _ _ _ _ _ B, ea, w32_id (by omega) (by omega), show ((o + 1 : Nat) : Int) - 1 = o by omega]
theorem mf_closesSignN (d : Nat) (B : MB b m) (A : MA s l t) (hb : fI s 1772836524 < 0) {c : Int} (q : ¬ (kd l t = 5 ∧ sI l t = c)) : F (d + 3) 51993266 [vR m, vI c] (MH b m s) = some (.inl (some (vI 0)), MH b m (uI s 1772836524 (pl l t))) := by
  rw [e_X10_closesSign, k_X10_closesSign_0 _ _ _ _ _ B, mf_takeSignN d B A hb q, bnd_v, pu_s, k_X10_closesSign_5 _ _ _ _ _ _ B, if_pos rfl, k_X10_closesSign_8 _ _ _ _ _ B]
theorem mw_iff (T : TM s l) {w : Int} : (∃ i : Nat, i < l.length - 1 ∧ (kd l i = 1 ∧ sI l i = 0) ∧ kd l (i + 1) = 2 ∧ wd l (i + 1) = w) ↔ isMW l w := by
  obtain ⟨a, e, f, g⟩ := T.2.2.1
  constructor
  · rintro ⟨i, h1, h2, h3, h4⟩
    rcases Nat.lt_or_ge i (xc l - 1) with z | z
    · exact ⟨i, z, h2, h3, h4⟩
    · exfalso
      rcases g with ⟨g1, g2⟩ | ⟨g1, g2, g3⟩
      · omega
      · have : i + 1 = xc l := by omega
        rw [this] at h3
        have h3 : (tE l (xc l)).1 = 2 := h3
        omega
  · rintro ⟨i, h1, h2⟩
    exact ⟨i, by omega, h2⟩
theorem mf_isModeWord (d : Nat) (B : MB b m) (T : TM s l) (w : Int) : F (d + 1) 43080370 [vR m, vJ w] (MH b m s) = some (.inl (some (vI (b01 (isMW l w)))), MH b m s) := by
  have hl := T.2.1
  have ht := T.1
  have hx := T.2.2.1.1
  have loop : ∀ n i : Nat, i + n + 1 = l.length → ∀ P : Prop, ∀ _ : Decidable P, (P ↔ ∃ j : Nat, j < i ∧ (kd l j = 1 ∧ sI l j = 0) ∧ kd l (j + 1) = 2 ∧ wd l (j + 1) = w) → FA (F d) 43080370 5 [vR m, vJ w, vX, vI (b01 P), vI i] [] (MH b m s) = some (.inl (some (vI (b01 (isMW l w)))), MH b m s) := by
    intro n
    induction n with
    | zero =>
      intro i e P _ hP
      rw [k_X10_isModeWord_5 _ _ _ _ _ _ _ B, ht, w32_1 (by omega), if_neg (by omega), k_X10_isModeWord_80 _ _ _ _ _ _ _ B b01_b]
      have : b01 P = b01 (isMW l w) := b01_c (by
        rw [hP, ← mw_iff T, show l.length - 1 = i by omega])
      rw [this]
    | succ n ih =>
      intro i e P _ hP
      have hi := T.in' (k := i) (by omega)
      have hi1 := T.in' (k := i + 1) (by omega)
      obtain ⟨e1, e2, e3, e4⟩ := T.at' (k := i) (by omega)
      obtain ⟨f1, f2, f3, f4⟩ := T.at' (k := i + 1) (by omega)
      have hi6 : i < 1000000 := by omega
      have nx : ∀ Q : Prop, ∀ _ : Decidable Q, (Q ↔ P ∨ ((kd l i = 1 ∧ sI l i = 0) ∧ kd l (i + 1) = 2 ∧ wd l (i + 1) = w)) → FA (F d) 43080370 73 [vR m, vJ w, vX, vI (b01 P), vI i] [vI (b01 Q)] (MH b m s) = some (.inl (some (vI (b01 (isMW l w)))), MH b m s) := by
        intro Q _ hQ
        rw [k_X10_isModeWord_73 _ _ _ _ _ _ _ _ B, w32_1 hi6]
        refine ih (i + 1) (by omega) Q _ ?_
        rw [hQ, hP]
        constructor
        · rintro (⟨j, j1, j2⟩ | y)
          · exact ⟨j, by omega, j2⟩
          · exact ⟨i, by omega, y⟩
        · rintro ⟨j, j1, j2⟩
          rcases Nat.lt_or_ge j i with y | y
          · exact Or.inl ⟨j, y, j2⟩
          · have : j = i := by omega
            subst this
            exact Or.inr j2
      have yes : P ∨ ((kd l i = 1 ∧ sI l i = 0) ∧ kd l (i + 1) = 2 ∧ wd l (i + 1) = w) → FA (F d) 43080370 68 [vR m, vJ w, vX, vI (b01 P), vI i] [] (MH b m s) = some (.inl (some (vI (b01 (isMW l w)))), MH b m s) := by
        intro y
        rw [k_X10_isModeWord_68 _ _ _ _ _ _ _ B]
        have := nx True inferInstance ⟨fun _ => y, fun _ => trivial⟩
        rw [b01_p trivial] at this
        exact this
      have no : ¬ (P ∨ ((kd l i = 1 ∧ sI l i = 0) ∧ kd l (i + 1) = 2 ∧ wd l (i + 1) = w)) → FA (F d) 43080370 72 [vR m, vJ w, vX, vI (b01 P), vI i] [] (MH b m s) = some (.inl (some (vI (b01 (isMW l w)))), MH b m s) := by
        intro y
        rw [k_X10_isModeWord_72 _ _ _ _ _ _ _ B]
        have := nx False inferInstance ⟨fun z => z.elim, fun z => y z⟩
        rw [b01_n (fun z => z)] at this
        exact this
      rw [k_X10_isModeWord_5 _ _ _ _ _ _ _ B, ht, w32_1 hi6, if_pos (by omega), k_X10_isModeWord_16 _ _ _ _ _ _ _ B]
      by_cases z : P
      · rw [if_neg (fun y => b01_0.mp y z), yes (Or.inl z)]
      rw [if_pos (b01_0.mpr z), k_X10_isModeWord_20 _ _ _ _ _ _ _ B hi, e1]
      by_cases y1 : kd l i = 1
      · rw [if_pos y1, k_X10_isModeWord_31 _ _ _ _ _ _ _ B hi, e3]
        by_cases y2 : sI l i = 0
        · rw [if_pos y2, k_X10_isModeWord_41 _ _ _ _ _ _ _ B (by rw [w32_1 hi6]; exact hi1), w32_1 hi6, f1]
          by_cases y3 : kd l (i + 1) = 2
          · rw [if_pos y3, k_X10_isModeWord_54 _ _ _ _ _ _ _ B (by rw [w32_1 hi6]; exact hi1), w32_1 hi6, f4]
            by_cases y4 : wd l (i + 1) = w
            · rw [if_pos ((lcm_eq _ _).mpr y4), yes (Or.inr ⟨⟨y1, y2⟩, y3, y4⟩)]
            · rw [if_neg (fun y => y4 ((lcm_eq _ _).mp y)), no (fun y => y.elim z (fun y => y4 y.2.2))]
          · rw [if_neg y3, no (fun y => y.elim z (fun y => y3 y.2.1))]
        · rw [if_neg y2, no (fun y => y.elim z (fun y => y2 y.1.2))]
      · rw [if_neg y1, no (fun y => y.elim z (fun y => y1 y.1.1))]
  rw [e_X10_isModeWord, k_X10_isModeWord_0 _ _ _ _ _ _ _ B]
  have := loop (l.length - 1) 0 (by omega) False inferInstance ⟨fun z => z.elim, fun ⟨j, j1, _⟩ => by omega⟩
  rw [b01_n (fun z => z)] at this
  exact this
theorem mf_isModeIndicant (d : Nat) (B : MB b m) (T : TM s l) (hk : k < l.length) : F (d + 2) 42818226 [vR m, vI k] (MH b m s) = some (.inl (some (vI (b01 (isMI l k)))), MH b m s) := by
  have hb := T.in' hk
  obtain ⟨e1, e2, e3, e4⟩ := T.at' hk
  rw [e_X10_isModeIndicant, k_X10_isModeIndicant_0 _ _ _ _ _ B hb, e1]
  by_cases q : kd l k = 2
  · rw [if_pos q, k_X10_isModeIndicant_10 _ _ _ _ _ B hb, e4, mf_isModeWord d B T, bnd_v, pu_s, k_X10_isModeIndicant_20 _ _ _ _ _ _ B]
    by_cases r : isMW l (wd l k)
    · rw [if_neg (fun z => b01_0.mp z r), k_X10_isModeIndicant_23 _ _ _ _ _ B, k_X10_isModeIndicant_28 _ _ _ _ _ _ B (Or.inr rfl), b01_p ⟨q, r⟩]
    · rw [if_pos (b01_0.mpr r), k_X10_isModeIndicant_27 _ _ _ _ _ B, k_X10_isModeIndicant_28 _ _ _ _ _ _ B (Or.inl rfl), b01_n (fun z => r z.2)]
  · rw [if_neg q, k_X10_isModeIndicant_27 _ _ _ _ _ B, k_X10_isModeIndicant_28 _ _ _ _ _ _ B (Or.inl rfl), b01_n (fun z => q z.1)]
theorem mf_isOpIndicant (d : Nat) (B : MB b m) (T : TM s l) (hk : k < l.length) : F (d + 2) 44391090 [vR m, vI k] (MH b m s) = some (.inl (some (vI (b01 (kd l k = 2 ∧ ¬ isMI l k)))), MH b m s) := by
  have hb := T.in' hk
  obtain ⟨e1, e2, e3, e4⟩ := T.at' hk
  rw [e_X10_isOpIndicant, k_X10_isOpIndicant_0 _ _ _ _ _ B hb, e1]
  by_cases q : kd l k = 2
  · rw [if_pos q, k_X10_isOpIndicant_10 _ _ _ _ _ B hb, e4, mf_isModeWord d B T, bnd_v, pu_s, k_X10_isOpIndicant_20 _ _ _ _ _ _ B]
    by_cases r : isMW l (wd l k)
    · rw [if_neg (fun z => b01_0.mp z r), k_X10_isOpIndicant_27 _ _ _ _ _ B, k_X10_isOpIndicant_28 _ _ _ _ _ _ B (Or.inl rfl), b01_n (fun z => z.2 ⟨q, r⟩)]
    · rw [if_pos (b01_0.mpr r), k_X10_isOpIndicant_23 _ _ _ _ _ B, k_X10_isOpIndicant_28 _ _ _ _ _ _ B (Or.inr rfl), b01_p ⟨q, fun z => r z.2⟩]
  · rw [if_neg q, k_X10_isOpIndicant_27 _ _ _ _ _ B, k_X10_isOpIndicant_28 _ _ _ _ _ _ B (Or.inl rfl), b01_n (fun z => q z.1)]
end MeQ
