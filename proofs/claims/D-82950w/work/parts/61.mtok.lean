/-! THE MODEL's TOKENS -/
set_option maxRecDepth 100000
theorem e_X10_byteAt (d : Nat) (a0 : Nat) (a1 : Int) (h : PH) : F (d + 1) 38623922 [vR a0, vI a1] h = FA (F d) 38623922 0 [vR a0, vI a1] [] h := rfl
theorem c_X10_byteAt_0 (cf : Nat → List PV → PH → Rs) (a0 : Nat) (a1 : Int) (h : PH) (g0 : inT 43 43 (hc h a0)) : FA cf 38623922 0 [vR a0, vI a1] [] h = if a1 < (gI h 1688950444 a0) then FA cf 38623922 8 [vR a0, vI a1] [] h else FA cf 38623922 17 [vR a0, vI a1] [] h := ((FA_ex cf 38623922 4 _ _ _ _).trans rfl : FA cf 38623922 0 [vR a0, vI a1] [] h = gd (inT 43 43 (hc h a0)) (if a1 < (gI h 1688950444 a0) then FA cf 38623922 8 [vR a0, vI a1] [] h else FA cf 38623922 17 [vR a0, vI a1] [] h)).trans ((gd_t g0))
theorem k_X10_byteAt_0 (cf : Nat → List PV → PH → Rs) (m : Nat) (a1 : Int) (b : PH) (s : MS) (B : MB b m) : FA cf 38623922 0 [vR m, vI a1] [] (MH b m s) = if a1 < (fI s 1688950444) then FA cf 38623922 8 [vR m, vI a1] [] (MH b m s) else FA cf 38623922 17 [vR m, vI a1] [] (MH b m s) := by
  refine (c_X10_byteAt_0 cf m a1 (MH b m s) (i11 B.1)).trans ?_
  try simp only [gI_MH, gJ_MH, gR_MH, pI_MH, pJ_MH]
  try rfl
theorem c_X10_byteAt_8 (cf : Nat → List PV → PH → Rs) (a0 : Nat) (a1 : Int) (h : PH) (g0 : inT 43 43 (hc h a0)) (g1 : (inT 64 65 (hc h (gR h 1680561838 a0)) ∨ inT 64 65 (kc h (gR h 1680561838 a0))) ∧ inA a1 (hl h (gR h 1680561838 a0))) : FA cf 38623922 8 [vR a0, vI a1] [] h = FA cf 38623922 18 [vR a0, vI a1] [vI (eI h (gR h 1680561838 a0) a1)] h := ((FA_ex cf 38623922 5 _ _ _ _).trans rfl : FA cf 38623922 8 [vR a0, vI a1] [] h = gd (inT 43 43 (hc h a0)) (gd ((inT 64 65 (hc h (gR h 1680561838 a0)) ∨ inT 64 65 (kc h (gR h 1680561838 a0))) ∧ inA a1 (hl h (gR h 1680561838 a0))) (FA cf 38623922 18 [vR a0, vI a1] [vI (eI h (gR h 1680561838 a0) a1)] h))).trans ((gd_t g0).trans ((gd_t g1)))
theorem k_X10_byteAt_8 (cf : Nat → List PV → PH → Rs) (m : Nat) (a1 : Int) (b : PH) (s : MS) (B : MB b m) (b0 : inA a1 480) : FA cf 38623922 8 [vR m, vI a1] [] (MH b m s) = FA cf 38623922 18 [vR m, vI a1] [vI (aI s 1 a1)] (MH b m s) := by
  obtain ⟨t1_1, t2_1, t3_1⟩ := mb_text B
  refine (c_X10_byteAt_8 cf m a1 (MH b m s) (i11 B.1) (by (try simp only [gI_MH, gJ_MH, gR_MH, pI_MH, pJ_MH, t1_1, eI_MH (b := b) (m := m) (k := 1) (by decide) (by decide), qI_MH (b := b) (m := m) (k := 1) (by decide) (by decide)]); exact ⟨Or.inl (T65 t2_1), IAe t3_1 (by assumption)⟩)).trans ?_
  try simp only [gI_MH, gJ_MH, gR_MH, pI_MH, pJ_MH, t1_1, eI_MH (b := b) (m := m) (k := 1) (by decide) (by decide), qI_MH (b := b) (m := m) (k := 1) (by decide) (by decide)]
  try rfl
theorem c_X10_byteAt_17 (cf : Nat → List PV → PH → Rs) (a0 : Nat) (a1 : Int) (h : PH) : FA cf 38623922 17 [vR a0, vI a1] [] h = FA cf 38623922 18 [vR a0, vI a1] [vI (-1)] h := (FA_ex cf 38623922 1 _ _ _ _).trans rfl
theorem k_X10_byteAt_17 (cf : Nat → List PV → PH → Rs) (m : Nat) (a1 : Int) (b : PH) (s : MS) (B : MB b m) : FA cf 38623922 17 [vR m, vI a1] [] (MH b m s) = FA cf 38623922 18 [vR m, vI a1] [vI (-1)] (MH b m s) := by
  refine (c_X10_byteAt_17 cf m a1 (MH b m s) ).trans ?_
  try simp only [gI_MH, gJ_MH, gR_MH, pI_MH, pJ_MH]
  try rfl
theorem c_X10_byteAt_18 (cf : Nat → List PV → PH → Rs) (a0 : Nat) (a1 : Int) (s0 : Int) (h : PH) : FA cf 38623922 18 [vR a0, vI a1] [vI s0] h = some (.inl (some (vI s0)), h) := (FA_ex cf 38623922 1 _ _ _ _).trans rfl
theorem k_X10_byteAt_18 (cf : Nat → List PV → PH → Rs) (m : Nat) (a1 : Int) (s0 : Int) (b : PH) (s : MS) (B : MB b m) : FA cf 38623922 18 [vR m, vI a1] [vI s0] (MH b m s) = some (.inl (some (vI s0)), (MH b m s)) := by
  refine (c_X10_byteAt_18 cf m a1 s0 (MH b m s) ).trans ?_
  try simp only [gI_MH, gJ_MH, gR_MH, pI_MH, pJ_MH]
  try rfl
theorem e_X10_isSmall (d : Nat) (a0 : Int) (h : PH) : F (d + 1) 39583745 [vI a0] h = FA (F d) 39583745 0 [vI a0] [] h := rfl
theorem c_X10_isSmall_0 (cf : Nat → List PV → PH → Rs) (a0 : Int) (h : PH) : FA cf 39583745 0 [vI a0] [] h = if a0 < 97 then FA cf 39583745 16 [vI a0] [] h else FA cf 39583745 6 [vI a0] [] h := (FA_ex cf 39583745 3 _ _ _ _).trans rfl
theorem c_X10_isSmall_6 (cf : Nat → List PV → PH → Rs) (a0 : Int) (h : PH) : FA cf 39583745 6 [vI a0] [] h = if 122 < a0 then FA cf 39583745 16 [vI a0] [] h else FA cf 39583745 12 [vI a0] [] h := (FA_ex cf 39583745 3 _ _ _ _).trans rfl
theorem c_X10_isSmall_12 (cf : Nat → List PV → PH → Rs) (a0 : Int) (h : PH) : FA cf 39583745 12 [vI a0] [] h = FA cf 39583745 17 [vI a0] [vI 1] h := (FA_ex cf 39583745 2 _ _ _ _).trans rfl
theorem c_X10_isSmall_16 (cf : Nat → List PV → PH → Rs) (a0 : Int) (h : PH) : FA cf 39583745 16 [vI a0] [] h = FA cf 39583745 17 [vI a0] [vI 0] h := (FA_ex cf 39583745 1 _ _ _ _).trans rfl
theorem c_X10_isSmall_17 (cf : Nat → List PV → PH → Rs) (a0 : Int) (s0 : Int) (h : PH) (g0 : (s0 : Int) = 0 ∨ (s0 : Int) = 1) : FA cf 39583745 17 [vI a0] [vI s0] h = some (.inl (some (vI s0)), h) := ((FA_ex cf 39583745 1 _ _ _ _).trans rfl : FA cf 39583745 17 [vI a0] [vI s0] h = gd ((s0 : Int) = 0 ∨ (s0 : Int) = 1) (some (.inl (some (vI s0)), h))).trans ((gd_t g0))
theorem e_X10_isGreat (d : Nat) (a0 : Int) (h : PH) : F (d + 1) 38273025 [vI a0] h = FA (F d) 38273025 0 [vI a0] [] h := rfl
theorem c_X10_isGreat_0 (cf : Nat → List PV → PH → Rs) (a0 : Int) (h : PH) : FA cf 38273025 0 [vI a0] [] h = if a0 < 65 then FA cf 38273025 16 [vI a0] [] h else FA cf 38273025 6 [vI a0] [] h := (FA_ex cf 38273025 3 _ _ _ _).trans rfl
theorem c_X10_isGreat_6 (cf : Nat → List PV → PH → Rs) (a0 : Int) (h : PH) : FA cf 38273025 6 [vI a0] [] h = if 90 < a0 then FA cf 38273025 16 [vI a0] [] h else FA cf 38273025 12 [vI a0] [] h := (FA_ex cf 38273025 3 _ _ _ _).trans rfl
theorem c_X10_isGreat_12 (cf : Nat → List PV → PH → Rs) (a0 : Int) (h : PH) : FA cf 38273025 12 [vI a0] [] h = FA cf 38273025 17 [vI a0] [vI 1] h := (FA_ex cf 38273025 2 _ _ _ _).trans rfl
theorem c_X10_isGreat_16 (cf : Nat → List PV → PH → Rs) (a0 : Int) (h : PH) : FA cf 38273025 16 [vI a0] [] h = FA cf 38273025 17 [vI a0] [vI 0] h := (FA_ex cf 38273025 1 _ _ _ _).trans rfl
theorem c_X10_isGreat_17 (cf : Nat → List PV → PH → Rs) (a0 : Int) (s0 : Int) (h : PH) (g0 : (s0 : Int) = 0 ∨ (s0 : Int) = 1) : FA cf 38273025 17 [vI a0] [vI s0] h = some (.inl (some (vI s0)), h) := ((FA_ex cf 38273025 1 _ _ _ _).trans rfl : FA cf 38273025 17 [vI a0] [vI s0] h = gd ((s0 : Int) = 0 ∨ (s0 : Int) = 1) (some (.inl (some (vI s0)), h))).trans ((gd_t g0))
theorem e_X10_isDigit (d : Nat) (a0 : Int) (h : PH) : F (d + 1) 39845889 [vI a0] h = FA (F d) 39845889 0 [vI a0] [] h := rfl
theorem c_X10_isDigit_0 (cf : Nat → List PV → PH → Rs) (a0 : Int) (h : PH) : FA cf 39845889 0 [vI a0] [] h = if a0 < 48 then FA cf 39845889 16 [vI a0] [] h else FA cf 39845889 6 [vI a0] [] h := (FA_ex cf 39845889 3 _ _ _ _).trans rfl
theorem c_X10_isDigit_6 (cf : Nat → List PV → PH → Rs) (a0 : Int) (h : PH) : FA cf 39845889 6 [vI a0] [] h = if 57 < a0 then FA cf 39845889 16 [vI a0] [] h else FA cf 39845889 12 [vI a0] [] h := (FA_ex cf 39845889 3 _ _ _ _).trans rfl
theorem c_X10_isDigit_12 (cf : Nat → List PV → PH → Rs) (a0 : Int) (h : PH) : FA cf 39845889 12 [vI a0] [] h = FA cf 39845889 17 [vI a0] [vI 1] h := (FA_ex cf 39845889 2 _ _ _ _).trans rfl
theorem c_X10_isDigit_16 (cf : Nat → List PV → PH → Rs) (a0 : Int) (h : PH) : FA cf 39845889 16 [vI a0] [] h = FA cf 39845889 17 [vI a0] [vI 0] h := (FA_ex cf 39845889 1 _ _ _ _).trans rfl
theorem c_X10_isDigit_17 (cf : Nat → List PV → PH → Rs) (a0 : Int) (s0 : Int) (h : PH) (g0 : (s0 : Int) = 0 ∨ (s0 : Int) = 1) : FA cf 39845889 17 [vI a0] [vI s0] h = some (.inl (some (vI s0)), h) := ((FA_ex cf 39845889 1 _ _ _ _).trans rfl : FA cf 39845889 17 [vI a0] [vI s0] h = gd ((s0 : Int) = 0 ∨ (s0 : Int) = 1) (some (.inl (some (vI s0)), h))).trans ((gd_t g0))
theorem e_X10_token (d : Nat) (a0 : Nat) (a1 : Int) (a2 : Int) (a3 : Int) (a4 : Int) (h : PH) : F (d + 1) 39148213 [vR a0, vI a1, vI a2, vI a3, vJ a4] h = FA (F d) 39148213 0 [vR a0, vI a1, vI a2, vI a3, vJ a4, vX] [] h := rfl
theorem c_X10_token_0 (cf : Nat → List PV → PH → Rs) (a0 : Nat) (a1 : Int) (a2 : Int) (a3 : Int) (a4 : Int) (h : PH) (g0 : inT 43 43 (hc h a0)) (g1 : (hc h (gR h 1730893486 a0)) = 65 ∧ inA (gI h 1722504876 a0) (hl h (gR h 1730893486 a0))) (g2 : (hc h (gR h 1739282094 a0)) = 65 ∧ inA (gI h 1722504876 a0) (hl h (gR h 1739282094 a0))) (g3 : (hc h (gR h 1747670702 a0)) = 65 ∧ inA (gI h 1722504876 a0) (hl h (gR h 1747670702 a0))) (g4 : (hc h (gR h 1756059310 a0)) = 66 ∧ inA (gI h 1722504876 a0) (hl h (gR h 1756059310 a0))) : FA cf 39148213 0 [vR a0, vI a1, vI a2, vI a3, vJ a4, vX] [] h = some (.inl none, (pI (qJ (qI (qI (qI h (gR h 1730893486 a0) (gI h 1722504876 a0) a1) (gR h 1739282094 a0) (gI h 1722504876 a0) a2) (gR h 1747670702 a0) (gI h 1722504876 a0) a3) (gR h 1756059310 a0) (gI h 1722504876 a0) a4) 1722504876 a0 (w32 ((gI h 1722504876 a0) + 1)))) := ((FA_ex cf 39148213 31 _ _ _ _).trans rfl : FA cf 39148213 0 [vR a0, vI a1, vI a2, vI a3, vJ a4, vX] [] h = gd (inT 43 43 (hc h a0)) (gd (inT 43 43 (hc h a0)) (gd ((hc h (gR h 1730893486 a0)) = 65 ∧ inA (gI h 1722504876 a0) (hl h (gR h 1730893486 a0))) (gd (inT 43 43 (hc h a0)) (gd (inT 43 43 (hc h a0)) (gd ((hc h (gR h 1739282094 a0)) = 65 ∧ inA (gI h 1722504876 a0) (hl h (gR h 1739282094 a0))) (gd (inT 43 43 (hc h a0)) (gd (inT 43 43 (hc h a0)) (gd ((hc h (gR h 1747670702 a0)) = 65 ∧ inA (gI h 1722504876 a0) (hl h (gR h 1747670702 a0))) (gd (inT 43 43 (hc h a0)) (gd (inT 43 43 (hc h a0)) (gd ((hc h (gR h 1756059310 a0)) = 66 ∧ inA (gI h 1722504876 a0) (hl h (gR h 1756059310 a0))) (gd (inT 43 43 (hc h a0)) (gd (inT 43 43 (hc h a0)) (some (.inl none, (pI (qJ (qI (qI (qI h (gR h 1730893486 a0) (gI h 1722504876 a0) a1) (gR h 1739282094 a0) (gI h 1722504876 a0) a2) (gR h 1747670702 a0) (gI h 1722504876 a0) a3) (gR h 1756059310 a0) (gI h 1722504876 a0) a4) 1722504876 a0 (w32 ((gI h 1722504876 a0) + 1))))))))))))))))))).trans ((gd_t g0).trans ((gd_t g0).trans ((gd_t g1).trans ((gd_t g0).trans ((gd_t g0).trans ((gd_t g2).trans ((gd_t g0).trans ((gd_t g0).trans ((gd_t g3).trans ((gd_t g0).trans ((gd_t g0).trans ((gd_t g4).trans ((gd_t g0).trans ((gd_t g0)))))))))))))))
theorem k_X10_token_0 (cf : Nat → List PV → PH → Rs) (m : Nat) (a1 : Int) (a2 : Int) (a3 : Int) (a4 : Int) (b : PH) (s : MS) (B : MB b m) (b0 : inA (fI s 1722504876) 490) : FA cf 39148213 0 [vR m, vI a1, vI a2, vI a3, vJ a4, vX] [] (MH b m s) = some (.inl none, (MH b m (uI (vJ' (vI' (vI' (vI' s 2 (fI s 1722504876) a1) 3 (fI s 1722504876) a2) 4 (fI s 1722504876) a3) 5 (fI s 1722504876) a4) 1722504876 (w32 ((fI s 1722504876) + 1))))) := by
  obtain ⟨t1_2, t2_2, t3_2⟩ := mb_tokKind B
  obtain ⟨t1_3, t2_3, t3_3⟩ := mb_tokAt B
  obtain ⟨t1_4, t2_4, t3_4⟩ := mb_tokIs B
  obtain ⟨t1_5, t2_5, t3_5⟩ := mb_tokWord B
  refine (c_X10_token_0 cf m a1 a2 a3 a4 (MH b m s) (i11 B.1) (by (try simp only [gI_MH, gJ_MH, gR_MH, pI_MH, pJ_MH, t1_2, eI_MH (b := b) (m := m) (k := 2) (by decide) (by decide), qI_MH (b := b) (m := m) (k := 2) (by decide) (by decide), t1_3, eI_MH (b := b) (m := m) (k := 3) (by decide) (by decide), qI_MH (b := b) (m := m) (k := 3) (by decide) (by decide), t1_4, eI_MH (b := b) (m := m) (k := 4) (by decide) (by decide), qI_MH (b := b) (m := m) (k := 4) (by decide) (by decide), t1_5, eJ_MH (b := b) (m := m) (k := 5) (by decide) (by decide), qJ_MH (b := b) (m := m) (k := 5) (by decide) (by decide)]); exact ⟨t2_2, IAe t3_2 (by assumption)⟩) (by (try simp only [gI_MH, gJ_MH, gR_MH, pI_MH, pJ_MH, t1_2, eI_MH (b := b) (m := m) (k := 2) (by decide) (by decide), qI_MH (b := b) (m := m) (k := 2) (by decide) (by decide), t1_3, eI_MH (b := b) (m := m) (k := 3) (by decide) (by decide), qI_MH (b := b) (m := m) (k := 3) (by decide) (by decide), t1_4, eI_MH (b := b) (m := m) (k := 4) (by decide) (by decide), qI_MH (b := b) (m := m) (k := 4) (by decide) (by decide), t1_5, eJ_MH (b := b) (m := m) (k := 5) (by decide) (by decide), qJ_MH (b := b) (m := m) (k := 5) (by decide) (by decide)]); exact ⟨t2_3, IAe t3_3 (by assumption)⟩) (by (try simp only [gI_MH, gJ_MH, gR_MH, pI_MH, pJ_MH, t1_2, eI_MH (b := b) (m := m) (k := 2) (by decide) (by decide), qI_MH (b := b) (m := m) (k := 2) (by decide) (by decide), t1_3, eI_MH (b := b) (m := m) (k := 3) (by decide) (by decide), qI_MH (b := b) (m := m) (k := 3) (by decide) (by decide), t1_4, eI_MH (b := b) (m := m) (k := 4) (by decide) (by decide), qI_MH (b := b) (m := m) (k := 4) (by decide) (by decide), t1_5, eJ_MH (b := b) (m := m) (k := 5) (by decide) (by decide), qJ_MH (b := b) (m := m) (k := 5) (by decide) (by decide)]); exact ⟨t2_4, IAe t3_4 (by assumption)⟩) (by (try simp only [gI_MH, gJ_MH, gR_MH, pI_MH, pJ_MH, t1_2, eI_MH (b := b) (m := m) (k := 2) (by decide) (by decide), qI_MH (b := b) (m := m) (k := 2) (by decide) (by decide), t1_3, eI_MH (b := b) (m := m) (k := 3) (by decide) (by decide), qI_MH (b := b) (m := m) (k := 3) (by decide) (by decide), t1_4, eI_MH (b := b) (m := m) (k := 4) (by decide) (by decide), qI_MH (b := b) (m := m) (k := 4) (by decide) (by decide), t1_5, eJ_MH (b := b) (m := m) (k := 5) (by decide) (by decide), qJ_MH (b := b) (m := m) (k := 5) (by decide) (by decide)]); exact ⟨t2_5, IAe t3_5 (by assumption)⟩)).trans ?_
  try simp only [gI_MH, gJ_MH, gR_MH, pI_MH, pJ_MH, t1_2, eI_MH (b := b) (m := m) (k := 2) (by decide) (by decide), qI_MH (b := b) (m := m) (k := 2) (by decide) (by decide), t1_3, eI_MH (b := b) (m := m) (k := 3) (by decide) (by decide), qI_MH (b := b) (m := m) (k := 3) (by decide) (by decide), t1_4, eI_MH (b := b) (m := m) (k := 4) (by decide) (by decide), qI_MH (b := b) (m := m) (k := 4) (by decide) (by decide), t1_5, eJ_MH (b := b) (m := m) (k := 5) (by decide) (by decide), qJ_MH (b := b) (m := m) (k := 5) (by decide) (by decide)]
  try rfl
theorem e_X10_packed (d : Nat) (a0 : Nat) (a1 : Int) (a2 : Int) (h : PH) : F (d + 1) 39410355 [vR a0, vI a1, vI a2] h = FA (F d) 39410355 0 [vR a0, vI a1, vI a2, vX, vX, vX] [] h := rfl
theorem c_X10_packed_0 (cf : Nat → List PV → PH → Rs) (a0 : Nat) (a1 : Int) (a2 : Int) (a3 : PV) (a4 : PV) (a5 : PV) (h : PH) : FA cf 39410355 0 [vR a0, vI a1, vI a2, a3, a4, a5] [] h = FA cf 39410355 7 [vR a0, vI a1, vI a2, vJ 0, vX, vI (w32 (a2 - 1))] [] h := (FA_ex cf 39410355 6 _ _ _ _).trans rfl
theorem k_X10_packed_0 (cf : Nat → List PV → PH → Rs) (m : Nat) (a1 : Int) (a2 : Int) (a3 : PV) (a4 : PV) (a5 : PV) (b : PH) (s : MS) (B : MB b m) : FA cf 39410355 0 [vR m, vI a1, vI a2, a3, a4, a5] [] (MH b m s) = FA cf 39410355 7 [vR m, vI a1, vI a2, vJ 0, vX, vI (w32 (a2 - 1))] [] (MH b m s) := by
  refine (c_X10_packed_0 cf m a1 a2 a3 a4 a5 (MH b m s) ).trans ?_
  try simp only [gI_MH, gJ_MH, gR_MH, pI_MH, pJ_MH]
  try rfl
theorem c_X10_packed_7 (cf : Nat → List PV → PH → Rs) (a0 : Nat) (a1 : Int) (a2 : Int) (a3 : Int) (a5 : Int) (h : PH) : FA cf 39410355 7 [vR a0, vI a1, vI a2, vJ a3, vX, vI a5] [] h = if a5 < a1 then FA cf 39410355 33 [vR a0, vI a1, vI a2, vJ a3, vX, vI a5] [] h else FA cf 39410355 13 [vR a0, vI a1, vI a2, vJ a3, vX, vI a5] [] h := (FA_ex cf 39410355 3 _ _ _ _).trans rfl
theorem k_X10_packed_7 (cf : Nat → List PV → PH → Rs) (m : Nat) (a1 : Int) (a2 : Int) (a3 : Int) (a5 : Int) (b : PH) (s : MS) (B : MB b m) : FA cf 39410355 7 [vR m, vI a1, vI a2, vJ a3, vX, vI a5] [] (MH b m s) = if a5 < a1 then FA cf 39410355 33 [vR m, vI a1, vI a2, vJ a3, vX, vI a5] [] (MH b m s) else FA cf 39410355 13 [vR m, vI a1, vI a2, vJ a3, vX, vI a5] [] (MH b m s) := by
  refine (c_X10_packed_7 cf m a1 a2 a3 a5 (MH b m s) ).trans ?_
  try simp only [gI_MH, gJ_MH, gR_MH, pI_MH, pJ_MH]
  try rfl
theorem c_X10_packed_13 (cf : Nat → List PV → PH → Rs) (a0 : Nat) (a1 : Int) (a2 : Int) (a3 : Int) (a5 : Int) (h : PH) (g0 : inT 43 43 (hc h a0)) (g1 : (inT 64 65 (hc h (gR h 1680561838 a0)) ∨ inT 64 65 (kc h (gR h 1680561838 a0))) ∧ inA a5 (hl h (gR h 1680561838 a0))) : FA cf 39410355 13 [vR a0, vI a1, vI a2, vJ a3, vX, vI a5] [] h = FA cf 39410355 7 [vR a0, vI a1, vI a2, vJ (lor (lshl a3 8) (eI h (gR h 1680561838 a0) a5)), vX, vI (w32 (a5 + (-1)))] [] h := ((FA_ex cf 39410355 12 _ _ _ _).trans rfl : FA cf 39410355 13 [vR a0, vI a1, vI a2, vJ a3, vX, vI a5] [] h = gd (inT 43 43 (hc h a0)) (gd ((inT 64 65 (hc h (gR h 1680561838 a0)) ∨ inT 64 65 (kc h (gR h 1680561838 a0))) ∧ inA a5 (hl h (gR h 1680561838 a0))) (FA cf 39410355 7 [vR a0, vI a1, vI a2, vJ (lor (lshl a3 8) (eI h (gR h 1680561838 a0) a5)), vX, vI (w32 (a5 + (-1)))] [] h))).trans ((gd_t g0).trans ((gd_t g1)))
theorem k_X10_packed_13 (cf : Nat → List PV → PH → Rs) (m : Nat) (a1 : Int) (a2 : Int) (a3 : Int) (a5 : Int) (b : PH) (s : MS) (B : MB b m) (b0 : inA a5 480) : FA cf 39410355 13 [vR m, vI a1, vI a2, vJ a3, vX, vI a5] [] (MH b m s) = FA cf 39410355 7 [vR m, vI a1, vI a2, vJ (lor (lshl a3 8) (aI s 1 a5)), vX, vI (w32 (a5 + (-1)))] [] (MH b m s) := by
  obtain ⟨t1_1, t2_1, t3_1⟩ := mb_text B
  refine (c_X10_packed_13 cf m a1 a2 a3 a5 (MH b m s) (i11 B.1) (by (try simp only [gI_MH, gJ_MH, gR_MH, pI_MH, pJ_MH, t1_1, eI_MH (b := b) (m := m) (k := 1) (by decide) (by decide), qI_MH (b := b) (m := m) (k := 1) (by decide) (by decide)]); exact ⟨Or.inl (T65 t2_1), IAe t3_1 (by assumption)⟩)).trans ?_
  try simp only [gI_MH, gJ_MH, gR_MH, pI_MH, pJ_MH, t1_1, eI_MH (b := b) (m := m) (k := 1) (by decide) (by decide), qI_MH (b := b) (m := m) (k := 1) (by decide) (by decide)]
  try rfl
theorem c_X10_packed_33 (cf : Nat → List PV → PH → Rs) (a0 : Nat) (a1 : Int) (a2 : Int) (a3 : Int) (a5 : Int) (h : PH) : FA cf 39410355 33 [vR a0, vI a1, vI a2, vJ a3, vX, vI a5] [] h = some (.inl (some (vJ a3)), h) := (FA_ex cf 39410355 2 _ _ _ _).trans rfl
theorem k_X10_packed_33 (cf : Nat → List PV → PH → Rs) (m : Nat) (a1 : Int) (a2 : Int) (a3 : Int) (a5 : Int) (b : PH) (s : MS) (B : MB b m) : FA cf 39410355 33 [vR m, vI a1, vI a2, vJ a3, vX, vI a5] [] (MH b m s) = some (.inl (some (vJ a3)), (MH b m s)) := by
  refine (c_X10_packed_33 cf m a1 a2 a3 a5 (MH b m s) ).trans ?_
  try simp only [gI_MH, gJ_MH, gR_MH, pI_MH, pJ_MH]
  try rfl
theorem e_X10_tokenize (d : Nat) (a0 : Nat) (h : PH) : F (d + 1) 37837489 [vR a0] h = FA (F d) 37837489 0 [vR a0, vX] [] h := rfl
theorem c_X10_tokenize_0 (cf : Nat → List PV → PH → Rs) (a0 : Nat) (a1 : PV) (h : PH) (g0 : inT 43 43 (hc h a0)) : FA cf 37837489 0 [vR a0, a1] [] h = FA cf 37837489 7 [vR a0, vI 0] [] (pI h 1722504876 a0 0) := ((FA_ex cf 37837489 5 _ _ _ _).trans rfl : FA cf 37837489 0 [vR a0, a1] [] h = gd (inT 43 43 (hc h a0)) (FA cf 37837489 7 [vR a0, vI 0] [] (pI h 1722504876 a0 0))).trans ((gd_t g0))
theorem k_X10_tokenize_0 (cf : Nat → List PV → PH → Rs) (m : Nat) (a1 : PV) (b : PH) (s : MS) (B : MB b m) : FA cf 37837489 0 [vR m, a1] [] (MH b m s) = FA cf 37837489 7 [vR m, vI 0] [] (MH b m (uI s 1722504876 0)) := by
  refine (c_X10_tokenize_0 cf m a1 (MH b m s) (i11 B.1)).trans ?_
  try simp only [gI_MH, gJ_MH, gR_MH, pI_MH, pJ_MH]
  try rfl
theorem c_X10_tokenize_7 (cf : Nat → List PV → PH → Rs) (a0 : Nat) (a1 : Int) (h : PH) (g0 : inT 43 43 (hc h a0)) : FA cf 37837489 7 [vR a0, vI a1] [] h = if a1 < (gI h 1688950444 a0) then FA cf 37837489 15 [vR a0, vI a1] [] h else FA cf 37837489 64 [vR a0, vI a1] [] h := ((FA_ex cf 37837489 4 _ _ _ _).trans rfl : FA cf 37837489 7 [vR a0, vI a1] [] h = gd (inT 43 43 (hc h a0)) (if a1 < (gI h 1688950444 a0) then FA cf 37837489 15 [vR a0, vI a1] [] h else FA cf 37837489 64 [vR a0, vI a1] [] h)).trans ((gd_t g0))
theorem k_X10_tokenize_7 (cf : Nat → List PV → PH → Rs) (m : Nat) (a1 : Int) (b : PH) (s : MS) (B : MB b m) : FA cf 37837489 7 [vR m, vI a1] [] (MH b m s) = if a1 < (fI s 1688950444) then FA cf 37837489 15 [vR m, vI a1] [] (MH b m s) else FA cf 37837489 64 [vR m, vI a1] [] (MH b m s) := by
  refine (c_X10_tokenize_7 cf m a1 (MH b m s) (i11 B.1)).trans ?_
  try simp only [gI_MH, gJ_MH, gR_MH, pI_MH, pJ_MH]
  try rfl
theorem c_X10_tokenize_15 (cf : Nat → List PV → PH → Rs) (a0 : Nat) (a1 : Int) (h : PH) (g0 : inT 43 43 (hc h a0)) : FA cf 37837489 15 [vR a0, vI a1] [] h = if (gI h 1722504876 a0) = 0 then FA cf 37837489 38 [vR a0, vI a1] [] h else FA cf 37837489 22 [vR a0, vI a1] [] h := ((FA_ex cf 37837489 3 _ _ _ _).trans rfl : FA cf 37837489 15 [vR a0, vI a1] [] h = gd (inT 43 43 (hc h a0)) (if (gI h 1722504876 a0) = 0 then FA cf 37837489 38 [vR a0, vI a1] [] h else FA cf 37837489 22 [vR a0, vI a1] [] h)).trans ((gd_t g0))
theorem k_X10_tokenize_15 (cf : Nat → List PV → PH → Rs) (m : Nat) (a1 : Int) (b : PH) (s : MS) (B : MB b m) : FA cf 37837489 15 [vR m, vI a1] [] (MH b m s) = if (fI s 1722504876) = 0 then FA cf 37837489 38 [vR m, vI a1] [] (MH b m s) else FA cf 37837489 22 [vR m, vI a1] [] (MH b m s) := by
  refine (c_X10_tokenize_15 cf m a1 (MH b m s) (i11 B.1)).trans ?_
  try simp only [gI_MH, gJ_MH, gR_MH, pI_MH, pJ_MH]
  try rfl
theorem c_X10_tokenize_22 (cf : Nat → List PV → PH → Rs) (a0 : Nat) (a1 : Int) (h : PH) (g0 : inT 43 43 (hc h a0)) (g1 : (inT 64 65 (hc h (gR h 1730893486 a0)) ∨ inT 64 65 (kc h (gR h 1730893486 a0))) ∧ inA (w32 ((gI h 1722504876 a0) - 1)) (hl h (gR h 1730893486 a0))) : FA cf 37837489 22 [vR a0, vI a1] [] h = if (eI h (gR h 1730893486 a0) (w32 ((gI h 1722504876 a0) - 1))) = 6 then FA cf 37837489 64 [vR a0, vI a1] [] h else FA cf 37837489 38 [vR a0, vI a1] [] h := ((FA_ex cf 37837489 9 _ _ _ _).trans rfl : FA cf 37837489 22 [vR a0, vI a1] [] h = gd (inT 43 43 (hc h a0)) (gd (inT 43 43 (hc h a0)) (gd ((inT 64 65 (hc h (gR h 1730893486 a0)) ∨ inT 64 65 (kc h (gR h 1730893486 a0))) ∧ inA (w32 ((gI h 1722504876 a0) - 1)) (hl h (gR h 1730893486 a0))) (if (eI h (gR h 1730893486 a0) (w32 ((gI h 1722504876 a0) - 1))) = 6 then FA cf 37837489 64 [vR a0, vI a1] [] h else FA cf 37837489 38 [vR a0, vI a1] [] h)))).trans ((gd_t g0).trans ((gd_t g0).trans ((gd_t g1))))
theorem k_X10_tokenize_22 (cf : Nat → List PV → PH → Rs) (m : Nat) (a1 : Int) (b : PH) (s : MS) (B : MB b m) (b0 : inA (w32 ((fI s 1722504876) - 1)) 490) : FA cf 37837489 22 [vR m, vI a1] [] (MH b m s) = if (aI s 2 (w32 ((fI s 1722504876) - 1))) = 6 then FA cf 37837489 64 [vR m, vI a1] [] (MH b m s) else FA cf 37837489 38 [vR m, vI a1] [] (MH b m s) := by
  obtain ⟨t1_2, t2_2, t3_2⟩ := mb_tokKind B
  refine (c_X10_tokenize_22 cf m a1 (MH b m s) (i11 B.1) (by (try simp only [gI_MH, gJ_MH, gR_MH, pI_MH, pJ_MH, t1_2, eI_MH (b := b) (m := m) (k := 2) (by decide) (by decide), qI_MH (b := b) (m := m) (k := 2) (by decide) (by decide)]); exact ⟨Or.inl (T65 t2_2), IAe t3_2 (by assumption)⟩)).trans ?_
  try simp only [gI_MH, gJ_MH, gR_MH, pI_MH, pJ_MH, t1_2, eI_MH (b := b) (m := m) (k := 2) (by decide) (by decide), qI_MH (b := b) (m := m) (k := 2) (by decide) (by decide)]
  try rfl
theorem c_X10_tokenize_38 (cf : Nat → List PV → PH → Rs) (a0 : Nat) (a1 : Int) (h : PH) (g0 : inT 43 43 (hc h a0)) (g1 : (inT 64 65 (hc h (gR h 1680561838 a0)) ∨ inT 64 65 (kc h (gR h 1680561838 a0))) ∧ inA a1 (hl h (gR h 1680561838 a0))) : FA cf 37837489 38 [vR a0, vI a1] [] h = if (eI h (gR h 1680561838 a0) a1) = 32 then FA cf 37837489 49 [vR a0, vI a1] [] h else FA cf 37837489 55 [vR a0, vI a1] [] h := ((FA_ex cf 37837489 6 _ _ _ _).trans rfl : FA cf 37837489 38 [vR a0, vI a1] [] h = gd (inT 43 43 (hc h a0)) (gd ((inT 64 65 (hc h (gR h 1680561838 a0)) ∨ inT 64 65 (kc h (gR h 1680561838 a0))) ∧ inA a1 (hl h (gR h 1680561838 a0))) (if (eI h (gR h 1680561838 a0) a1) = 32 then FA cf 37837489 49 [vR a0, vI a1] [] h else FA cf 37837489 55 [vR a0, vI a1] [] h))).trans ((gd_t g0).trans ((gd_t g1)))
theorem k_X10_tokenize_38 (cf : Nat → List PV → PH → Rs) (m : Nat) (a1 : Int) (b : PH) (s : MS) (B : MB b m) (b0 : inA a1 480) : FA cf 37837489 38 [vR m, vI a1] [] (MH b m s) = if (aI s 1 a1) = 32 then FA cf 37837489 49 [vR m, vI a1] [] (MH b m s) else FA cf 37837489 55 [vR m, vI a1] [] (MH b m s) := by
  obtain ⟨t1_1, t2_1, t3_1⟩ := mb_text B
  refine (c_X10_tokenize_38 cf m a1 (MH b m s) (i11 B.1) (by (try simp only [gI_MH, gJ_MH, gR_MH, pI_MH, pJ_MH, t1_1, eI_MH (b := b) (m := m) (k := 1) (by decide) (by decide), qI_MH (b := b) (m := m) (k := 1) (by decide) (by decide)]); exact ⟨Or.inl (T65 t2_1), IAe t3_1 (by assumption)⟩)).trans ?_
  try simp only [gI_MH, gJ_MH, gR_MH, pI_MH, pJ_MH, t1_1, eI_MH (b := b) (m := m) (k := 1) (by decide) (by decide), qI_MH (b := b) (m := m) (k := 1) (by decide) (by decide)]
  try rfl
theorem c_X10_tokenize_49 (cf : Nat → List PV → PH → Rs) (a0 : Nat) (a1 : Int) (h : PH) : FA cf 37837489 49 [vR a0, vI a1] [] h = FA cf 37837489 7 [vR a0, vI (w32 (a1 + 1))] [] h := (FA_ex cf 37837489 2 _ _ _ _).trans rfl
theorem k_X10_tokenize_49 (cf : Nat → List PV → PH → Rs) (m : Nat) (a1 : Int) (b : PH) (s : MS) (B : MB b m) : FA cf 37837489 49 [vR m, vI a1] [] (MH b m s) = FA cf 37837489 7 [vR m, vI (w32 (a1 + 1))] [] (MH b m s) := by
  refine (c_X10_tokenize_49 cf m a1 (MH b m s) ).trans ?_
  try simp only [gI_MH, gJ_MH, gR_MH, pI_MH, pJ_MH]
  try rfl
theorem c_X10_tokenize_55 (cf : Nat → List PV → PH → Rs) (a0 : Nat) (a1 : Int) (h : PH) (g0 : inT 43 43 (hc h a0)) : FA cf 37837489 55 [vR a0, vI a1] [] h = bnd (cf 38099634 [vR a0, vI a1] h) (fun v h' => FA cf 37837489 60 [vR a0, vI a1] (pu v []) h') := ((FA_ex cf 37837489 3 _ _ _ _).trans rfl : FA cf 37837489 55 [vR a0, vI a1] [] h = gd (inT 43 43 (hc h a0)) (bnd (cf 38099634 [vR a0, vI a1] h) (fun v h' => FA cf 37837489 60 [vR a0, vI a1] (pu v []) h'))).trans ((gd_t g0))
theorem k_X10_tokenize_55 (cf : Nat → List PV → PH → Rs) (m : Nat) (a1 : Int) (b : PH) (s : MS) (B : MB b m) : FA cf 37837489 55 [vR m, vI a1] [] (MH b m s) = bnd (cf 38099634 [vR m, vI a1] (MH b m s)) (fun v h' => FA cf 37837489 60 [vR m, vI a1] (pu v []) h') := by
  refine (c_X10_tokenize_55 cf m a1 (MH b m s) (i11 B.1)).trans ?_
  try simp only [gI_MH, gJ_MH, gR_MH, pI_MH, pJ_MH]
  try rfl
theorem c_X10_tokenize_60 (cf : Nat → List PV → PH → Rs) (a0 : Nat) (a1 : Int) (s0 : Int) (h : PH) : FA cf 37837489 60 [vR a0, vI a1] [vI s0] h = FA cf 37837489 7 [vR a0, vI s0] [] h := (FA_ex cf 37837489 2 _ _ _ _).trans rfl
theorem k_X10_tokenize_60 (cf : Nat → List PV → PH → Rs) (m : Nat) (a1 : Int) (s0 : Int) (b : PH) (s : MS) (B : MB b m) : FA cf 37837489 60 [vR m, vI a1] [vI s0] (MH b m s) = FA cf 37837489 7 [vR m, vI s0] [] (MH b m s) := by
  refine (c_X10_tokenize_60 cf m a1 s0 (MH b m s) ).trans ?_
  try simp only [gI_MH, gJ_MH, gR_MH, pI_MH, pJ_MH]
  try rfl
theorem c_X10_tokenize_64 (cf : Nat → List PV → PH → Rs) (a0 : Nat) (a1 : Int) (h : PH) (g0 : inT 43 43 (hc h a0)) : FA cf 37837489 64 [vR a0, vI a1] [] h = bnd (cf 39148213 [vR a0, vI 0, vI (gI h 1688950444 a0), vI 0, vJ 0] h) (fun v h' => FA cf 37837489 75 [vR a0, vI a1] (pu v []) h') := ((FA_ex cf 37837489 7 _ _ _ _).trans rfl : FA cf 37837489 64 [vR a0, vI a1] [] h = gd (inT 43 43 (hc h a0)) (gd (inT 43 43 (hc h a0)) (bnd (cf 39148213 [vR a0, vI 0, vI (gI h 1688950444 a0), vI 0, vJ 0] h) (fun v h' => FA cf 37837489 75 [vR a0, vI a1] (pu v []) h')))).trans ((gd_t g0).trans ((gd_t g0)))
theorem k_X10_tokenize_64 (cf : Nat → List PV → PH → Rs) (m : Nat) (a1 : Int) (b : PH) (s : MS) (B : MB b m) : FA cf 37837489 64 [vR m, vI a1] [] (MH b m s) = bnd (cf 39148213 [vR m, vI 0, vI (fI s 1688950444), vI 0, vJ 0] (MH b m s)) (fun v h' => FA cf 37837489 75 [vR m, vI a1] (pu v []) h') := by
  refine (c_X10_tokenize_64 cf m a1 (MH b m s) (i11 B.1)).trans ?_
  try simp only [gI_MH, gJ_MH, gR_MH, pI_MH, pJ_MH]
  try rfl
theorem c_X10_tokenize_75 (cf : Nat → List PV → PH → Rs) (a0 : Nat) (a1 : Int) (h : PH) : FA cf 37837489 75 [vR a0, vI a1] [] h = some (.inl none, h) := (FA_ex cf 37837489 1 _ _ _ _).trans rfl
theorem k_X10_tokenize_75 (cf : Nat → List PV → PH → Rs) (m : Nat) (a1 : Int) (b : PH) (s : MS) (B : MB b m) : FA cf 37837489 75 [vR m, vI a1] [] (MH b m s) = some (.inl none, (MH b m s)) := by
  refine (c_X10_tokenize_75 cf m a1 (MH b m s) ).trans ?_
  try simp only [gI_MH, gJ_MH, gR_MH, pI_MH, pJ_MH]
  try rfl
theorem e_X10_oneToken (d : Nat) (a0 : Nat) (a1 : Int) (h : PH) : F (d + 1) 38099634 [vR a0, vI a1] h = FA (F d) 38099634 0 [vR a0, vI a1, vX, vX, vX, vX, vX] [] h := rfl
theorem c_X10_oneToken_0 (cf : Nat → List PV → PH → Rs) (a0 : Nat) (a1 : Int) (a2 : PV) (a3 : PV) (a4 : PV) (a5 : PV) (a6 : PV) (h : PH) (g0 : inT 43 43 (hc h a0)) (g1 : (inT 64 65 (hc h (gR h 1680561838 a0)) ∨ inT 64 65 (kc h (gR h 1680561838 a0))) ∧ inA a1 (hl h (gR h 1680561838 a0))) : FA cf 38099634 0 [vR a0, vI a1, a2, a3, a4, a5, a6] [] h = bnd (cf 38273025 [vI (eI h (gR h 1680561838 a0) a1)] h) (fun v h' => FA cf 38099634 15 [vR a0, vI a1, vI (eI h (gR h 1680561838 a0) a1), vI (w32 (a1 + 1)), a4, a5, a6] (pu v []) h') := ((FA_ex cf 38099634 11 _ _ _ _).trans rfl : FA cf 38099634 0 [vR a0, vI a1, a2, a3, a4, a5, a6] [] h = gd (inT 43 43 (hc h a0)) (gd ((inT 64 65 (hc h (gR h 1680561838 a0)) ∨ inT 64 65 (kc h (gR h 1680561838 a0))) ∧ inA a1 (hl h (gR h 1680561838 a0))) (bnd (cf 38273025 [vI (eI h (gR h 1680561838 a0) a1)] h) (fun v h' => FA cf 38099634 15 [vR a0, vI a1, vI (eI h (gR h 1680561838 a0) a1), vI (w32 (a1 + 1)), a4, a5, a6] (pu v []) h')))).trans ((gd_t g0).trans ((gd_t g1)))
theorem k_X10_oneToken_0 (cf : Nat → List PV → PH → Rs) (m : Nat) (a1 : Int) (a2 : PV) (a3 : PV) (a4 : PV) (a5 : PV) (a6 : PV) (b : PH) (s : MS) (B : MB b m) (b0 : inA a1 480) : FA cf 38099634 0 [vR m, vI a1, a2, a3, a4, a5, a6] [] (MH b m s) = bnd (cf 38273025 [vI (aI s 1 a1)] (MH b m s)) (fun v h' => FA cf 38099634 15 [vR m, vI a1, vI (aI s 1 a1), vI (w32 (a1 + 1)), a4, a5, a6] (pu v []) h') := by
  obtain ⟨t1_1, t2_1, t3_1⟩ := mb_text B
  refine (c_X10_oneToken_0 cf m a1 a2 a3 a4 a5 a6 (MH b m s) (i11 B.1) (by (try simp only [gI_MH, gJ_MH, gR_MH, pI_MH, pJ_MH, t1_1, eI_MH (b := b) (m := m) (k := 1) (by decide) (by decide), qI_MH (b := b) (m := m) (k := 1) (by decide) (by decide)]); exact ⟨Or.inl (T65 t2_1), IAe t3_1 (by assumption)⟩)).trans ?_
  try simp only [gI_MH, gJ_MH, gR_MH, pI_MH, pJ_MH, t1_1, eI_MH (b := b) (m := m) (k := 1) (by decide) (by decide), qI_MH (b := b) (m := m) (k := 1) (by decide) (by decide)]
  try rfl
theorem c_X10_oneToken_15 (cf : Nat → List PV → PH → Rs) (a0 : Nat) (a1 : Int) (a2 : Int) (a3 : Int) (a4 : PV) (a5 : PV) (a6 : PV) (s0 : Int) (h : PH) : FA cf 38099634 15 [vR a0, vI a1, vI a2, vI a3, a4, a5, a6] [vI s0] h = if s0 = 0 then FA cf 38099634 102 [vR a0, vI a1, vI a2, vI a3, a4, a5, a6] [] h else FA cf 38099634 18 [vR a0, vI a1, vI a2, vI a3, a4, a5, a6] [] h := (FA_ex cf 38099634 1 _ _ _ _).trans rfl
theorem k_X10_oneToken_15 (cf : Nat → List PV → PH → Rs) (m : Nat) (a1 : Int) (a2 : Int) (a3 : Int) (a4 : PV) (a5 : PV) (a6 : PV) (s0 : Int) (b : PH) (s : MS) (B : MB b m) : FA cf 38099634 15 [vR m, vI a1, vI a2, vI a3, a4, a5, a6] [vI s0] (MH b m s) = if s0 = 0 then FA cf 38099634 102 [vR m, vI a1, vI a2, vI a3, a4, a5, a6] [] (MH b m s) else FA cf 38099634 18 [vR m, vI a1, vI a2, vI a3, a4, a5, a6] [] (MH b m s) := by
  refine (c_X10_oneToken_15 cf m a1 a2 a3 a4 a5 a6 s0 (MH b m s) ).trans ?_
  try simp only [gI_MH, gJ_MH, gR_MH, pI_MH, pJ_MH]
  try rfl
theorem c_X10_oneToken_18 (cf : Nat → List PV → PH → Rs) (a0 : Nat) (a1 : Int) (a2 : Int) (a3 : Int) (a4 : PV) (a5 : PV) (a6 : PV) (h : PH) (g0 : inT 43 43 (hc h a0)) : FA cf 38099634 18 [vR a0, vI a1, vI a2, vI a3, a4, a5, a6] [] h = bnd (cf 38623922 [vR a0, vI a3] h) (fun v h' => FA cf 38099634 23 [vR a0, vI a1, vI a2, vI a3, a4, a5, a6] (pu v []) h') := ((FA_ex cf 38099634 3 _ _ _ _).trans rfl : FA cf 38099634 18 [vR a0, vI a1, vI a2, vI a3, a4, a5, a6] [] h = gd (inT 43 43 (hc h a0)) (bnd (cf 38623922 [vR a0, vI a3] h) (fun v h' => FA cf 38099634 23 [vR a0, vI a1, vI a2, vI a3, a4, a5, a6] (pu v []) h'))).trans ((gd_t g0))
theorem k_X10_oneToken_18 (cf : Nat → List PV → PH → Rs) (m : Nat) (a1 : Int) (a2 : Int) (a3 : Int) (a4 : PV) (a5 : PV) (a6 : PV) (b : PH) (s : MS) (B : MB b m) : FA cf 38099634 18 [vR m, vI a1, vI a2, vI a3, a4, a5, a6] [] (MH b m s) = bnd (cf 38623922 [vR m, vI a3] (MH b m s)) (fun v h' => FA cf 38099634 23 [vR m, vI a1, vI a2, vI a3, a4, a5, a6] (pu v []) h') := by
  refine (c_X10_oneToken_18 cf m a1 a2 a3 a4 a5 a6 (MH b m s) (i11 B.1)).trans ?_
  try simp only [gI_MH, gJ_MH, gR_MH, pI_MH, pJ_MH]
  try rfl
theorem c_X10_oneToken_23 (cf : Nat → List PV → PH → Rs) (a0 : Nat) (a1 : Int) (a2 : Int) (a3 : Int) (a4 : PV) (a5 : PV) (a6 : PV) (s0 : Int) (h : PH) : FA cf 38099634 23 [vR a0, vI a1, vI a2, vI a3, a4, a5, a6] [vI s0] h = bnd (cf 38273025 [vI s0] h) (fun v h' => FA cf 38099634 26 [vR a0, vI a1, vI a2, vI a3, a4, a5, a6] (pu v []) h') := (FA_ex cf 38099634 1 _ _ _ _).trans rfl
theorem k_X10_oneToken_23 (cf : Nat → List PV → PH → Rs) (m : Nat) (a1 : Int) (a2 : Int) (a3 : Int) (a4 : PV) (a5 : PV) (a6 : PV) (s0 : Int) (b : PH) (s : MS) (B : MB b m) : FA cf 38099634 23 [vR m, vI a1, vI a2, vI a3, a4, a5, a6] [vI s0] (MH b m s) = bnd (cf 38273025 [vI s0] (MH b m s)) (fun v h' => FA cf 38099634 26 [vR m, vI a1, vI a2, vI a3, a4, a5, a6] (pu v []) h') := by
  refine (c_X10_oneToken_23 cf m a1 a2 a3 a4 a5 a6 s0 (MH b m s) ).trans ?_
  try simp only [gI_MH, gJ_MH, gR_MH, pI_MH, pJ_MH]
  try rfl
theorem c_X10_oneToken_26 (cf : Nat → List PV → PH → Rs) (a0 : Nat) (a1 : Int) (a2 : Int) (a3 : Int) (a4 : PV) (a5 : PV) (a6 : PV) (s0 : Int) (h : PH) : FA cf 38099634 26 [vR a0, vI a1, vI a2, vI a3, a4, a5, a6] [vI s0] h = if s0 = 0 then FA cf 38099634 35 [vR a0, vI a1, vI a2, vI a3, a4, a5, a6] [] h else FA cf 38099634 29 [vR a0, vI a1, vI a2, vI a3, a4, a5, a6] [] h := (FA_ex cf 38099634 1 _ _ _ _).trans rfl
theorem k_X10_oneToken_26 (cf : Nat → List PV → PH → Rs) (m : Nat) (a1 : Int) (a2 : Int) (a3 : Int) (a4 : PV) (a5 : PV) (a6 : PV) (s0 : Int) (b : PH) (s : MS) (B : MB b m) : FA cf 38099634 26 [vR m, vI a1, vI a2, vI a3, a4, a5, a6] [vI s0] (MH b m s) = if s0 = 0 then FA cf 38099634 35 [vR m, vI a1, vI a2, vI a3, a4, a5, a6] [] (MH b m s) else FA cf 38099634 29 [vR m, vI a1, vI a2, vI a3, a4, a5, a6] [] (MH b m s) := by
  refine (c_X10_oneToken_26 cf m a1 a2 a3 a4 a5 a6 s0 (MH b m s) ).trans ?_
  try simp only [gI_MH, gJ_MH, gR_MH, pI_MH, pJ_MH]
  try rfl
theorem c_X10_oneToken_29 (cf : Nat → List PV → PH → Rs) (a0 : Nat) (a1 : Int) (a2 : Int) (a3 : Int) (a4 : PV) (a5 : PV) (a6 : PV) (h : PH) : FA cf 38099634 29 [vR a0, vI a1, vI a2, vI a3, a4, a5, a6] [] h = FA cf 38099634 18 [vR a0, vI a1, vI a2, vI (w32 (a3 + 1)), a4, a5, a6] [] h := (FA_ex cf 38099634 2 _ _ _ _).trans rfl
theorem k_X10_oneToken_29 (cf : Nat → List PV → PH → Rs) (m : Nat) (a1 : Int) (a2 : Int) (a3 : Int) (a4 : PV) (a5 : PV) (a6 : PV) (b : PH) (s : MS) (B : MB b m) : FA cf 38099634 29 [vR m, vI a1, vI a2, vI a3, a4, a5, a6] [] (MH b m s) = FA cf 38099634 18 [vR m, vI a1, vI a2, vI (w32 (a3 + 1)), a4, a5, a6] [] (MH b m s) := by
  refine (c_X10_oneToken_29 cf m a1 a2 a3 a4 a5 a6 (MH b m s) ).trans ?_
  try simp only [gI_MH, gJ_MH, gR_MH, pI_MH, pJ_MH]
  try rfl
theorem c_X10_oneToken_35 (cf : Nat → List PV → PH → Rs) (a0 : Nat) (a1 : Int) (a2 : Int) (a3 : Int) (a4 : PV) (a5 : PV) (a6 : PV) (h : PH) : FA cf 38099634 35 [vR a0, vI a1, vI a2, vI a3, a4, a5, a6] [] h = if 8 < (w32 (a3 - a1)) then FA cf 38099634 43 [vR a0, vI a1, vI a2, vI a3, a4, a5, a6] [] h else FA cf 38099634 47 [vR a0, vI a1, vI a2, vI a3, a4, a5, a6] [] h := (FA_ex cf 38099634 5 _ _ _ _).trans rfl
theorem k_X10_oneToken_35 (cf : Nat → List PV → PH → Rs) (m : Nat) (a1 : Int) (a2 : Int) (a3 : Int) (a4 : PV) (a5 : PV) (a6 : PV) (b : PH) (s : MS) (B : MB b m) : FA cf 38099634 35 [vR m, vI a1, vI a2, vI a3, a4, a5, a6] [] (MH b m s) = if 8 < (w32 (a3 - a1)) then FA cf 38099634 43 [vR m, vI a1, vI a2, vI a3, a4, a5, a6] [] (MH b m s) else FA cf 38099634 47 [vR m, vI a1, vI a2, vI a3, a4, a5, a6] [] (MH b m s) := by
  refine (c_X10_oneToken_35 cf m a1 a2 a3 a4 a5 a6 (MH b m s) ).trans ?_
  try simp only [gI_MH, gJ_MH, gR_MH, pI_MH, pJ_MH]
  try rfl
theorem c_X10_oneToken_43 (cf : Nat → List PV → PH → Rs) (a0 : Nat) (a1 : Int) (a2 : Int) (a3 : Int) (a4 : PV) (a5 : PV) (a6 : PV) (h : PH) : FA cf 38099634 43 [vR a0, vI a1, vI a2, vI a3, a4, a5, a6] [] h = FA cf 38099634 55 [vR a0, vI a1, vI a2, vI a3, a4, a5, a6] [vI (-1)] h := (FA_ex cf 38099634 2 _ _ _ _).trans rfl
theorem k_X10_oneToken_43 (cf : Nat → List PV → PH → Rs) (m : Nat) (a1 : Int) (a2 : Int) (a3 : Int) (a4 : PV) (a5 : PV) (a6 : PV) (b : PH) (s : MS) (B : MB b m) : FA cf 38099634 43 [vR m, vI a1, vI a2, vI a3, a4, a5, a6] [] (MH b m s) = FA cf 38099634 55 [vR m, vI a1, vI a2, vI a3, a4, a5, a6] [vI (-1)] (MH b m s) := by
  refine (c_X10_oneToken_43 cf m a1 a2 a3 a4 a5 a6 (MH b m s) ).trans ?_
  try simp only [gI_MH, gJ_MH, gR_MH, pI_MH, pJ_MH]
  try rfl
theorem c_X10_oneToken_47 (cf : Nat → List PV → PH → Rs) (a0 : Nat) (a1 : Int) (a2 : Int) (a3 : Int) (a4 : PV) (a5 : PV) (a6 : PV) (h : PH) (g0 : inT 43 43 (hc h a0)) : FA cf 38099634 47 [vR a0, vI a1, vI a2, vI a3, a4, a5, a6] [] h = bnd (cf 38886067 [vR a0, vI a1, vI (w32 (a3 - a1))] h) (fun v h' => FA cf 38099634 55 [vR a0, vI a1, vI a2, vI a3, a4, a5, a6] (pu v []) h') := ((FA_ex cf 38099634 6 _ _ _ _).trans rfl : FA cf 38099634 47 [vR a0, vI a1, vI a2, vI a3, a4, a5, a6] [] h = gd (inT 43 43 (hc h a0)) (bnd (cf 38886067 [vR a0, vI a1, vI (w32 (a3 - a1))] h) (fun v h' => FA cf 38099634 55 [vR a0, vI a1, vI a2, vI a3, a4, a5, a6] (pu v []) h'))).trans ((gd_t g0))
theorem k_X10_oneToken_47 (cf : Nat → List PV → PH → Rs) (m : Nat) (a1 : Int) (a2 : Int) (a3 : Int) (a4 : PV) (a5 : PV) (a6 : PV) (b : PH) (s : MS) (B : MB b m) : FA cf 38099634 47 [vR m, vI a1, vI a2, vI a3, a4, a5, a6] [] (MH b m s) = bnd (cf 38886067 [vR m, vI a1, vI (w32 (a3 - a1))] (MH b m s)) (fun v h' => FA cf 38099634 55 [vR m, vI a1, vI a2, vI a3, a4, a5, a6] (pu v []) h') := by
  refine (c_X10_oneToken_47 cf m a1 a2 a3 a4 a5 a6 (MH b m s) (i11 B.1)).trans ?_
  try simp only [gI_MH, gJ_MH, gR_MH, pI_MH, pJ_MH]
  try rfl
theorem c_X10_oneToken_55 (cf : Nat → List PV → PH → Rs) (a0 : Nat) (a1 : Int) (a2 : Int) (a3 : Int) (a4 : PV) (a5 : PV) (a6 : PV) (s0 : Int) (h : PH) : FA cf 38099634 55 [vR a0, vI a1, vI a2, vI a3, a4, a5, a6] [vI s0] h = if 8 < (w32 (a3 - a1)) then FA cf 38099634 65 [vR a0, vI a1, vI a2, vI a3, vI s0, a5, a6] [] h else FA cf 38099634 77 [vR a0, vI a1, vI a2, vI a3, vI s0, a5, a6] [] h := (FA_ex cf 38099634 6 _ _ _ _).trans rfl
theorem k_X10_oneToken_55 (cf : Nat → List PV → PH → Rs) (m : Nat) (a1 : Int) (a2 : Int) (a3 : Int) (a4 : PV) (a5 : PV) (a6 : PV) (s0 : Int) (b : PH) (s : MS) (B : MB b m) : FA cf 38099634 55 [vR m, vI a1, vI a2, vI a3, a4, a5, a6] [vI s0] (MH b m s) = if 8 < (w32 (a3 - a1)) then FA cf 38099634 65 [vR m, vI a1, vI a2, vI a3, vI s0, a5, a6] [] (MH b m s) else FA cf 38099634 77 [vR m, vI a1, vI a2, vI a3, vI s0, a5, a6] [] (MH b m s) := by
  refine (c_X10_oneToken_55 cf m a1 a2 a3 a4 a5 a6 s0 (MH b m s) ).trans ?_
  try simp only [gI_MH, gJ_MH, gR_MH, pI_MH, pJ_MH]
  try rfl
theorem c_X10_oneToken_65 (cf : Nat → List PV → PH → Rs) (a0 : Nat) (a1 : Int) (a2 : Int) (a3 : Int) (a4 : Int) (a5 : PV) (a6 : PV) (h : PH) (g0 : inT 43 43 (hc h a0)) : FA cf 38099634 65 [vR a0, vI a1, vI a2, vI a3, vI a4, a5, a6] [] h = bnd (cf 39148213 [vR a0, vI 6, vI a1, vI 0, vJ 0] h) (fun v h' => FA cf 38099634 74 [vR a0, vI a1, vI a2, vI a3, vI a4, a5, a6] (pu v []) h') := ((FA_ex cf 38099634 6 _ _ _ _).trans rfl : FA cf 38099634 65 [vR a0, vI a1, vI a2, vI a3, vI a4, a5, a6] [] h = gd (inT 43 43 (hc h a0)) (bnd (cf 39148213 [vR a0, vI 6, vI a1, vI 0, vJ 0] h) (fun v h' => FA cf 38099634 74 [vR a0, vI a1, vI a2, vI a3, vI a4, a5, a6] (pu v []) h'))).trans ((gd_t g0))
theorem k_X10_oneToken_65 (cf : Nat → List PV → PH → Rs) (m : Nat) (a1 : Int) (a2 : Int) (a3 : Int) (a4 : Int) (a5 : PV) (a6 : PV) (b : PH) (s : MS) (B : MB b m) : FA cf 38099634 65 [vR m, vI a1, vI a2, vI a3, vI a4, a5, a6] [] (MH b m s) = bnd (cf 39148213 [vR m, vI 6, vI a1, vI 0, vJ 0] (MH b m s)) (fun v h' => FA cf 38099634 74 [vR m, vI a1, vI a2, vI a3, vI a4, a5, a6] (pu v []) h') := by
  refine (c_X10_oneToken_65 cf m a1 a2 a3 a4 a5 a6 (MH b m s) (i11 B.1)).trans ?_
  try simp only [gI_MH, gJ_MH, gR_MH, pI_MH, pJ_MH]
  try rfl
theorem c_X10_oneToken_74 (cf : Nat → List PV → PH → Rs) (a0 : Nat) (a1 : Int) (a2 : Int) (a3 : Int) (a4 : Int) (a5 : PV) (a6 : PV) (h : PH) : FA cf 38099634 74 [vR a0, vI a1, vI a2, vI a3, vI a4, a5, a6] [] h = FA cf 38099634 100 [vR a0, vI a1, vI a2, vI a3, vI a4, a5, a6] [] h := (FA_ex cf 38099634 1 _ _ _ _).trans rfl
theorem k_X10_oneToken_74 (cf : Nat → List PV → PH → Rs) (m : Nat) (a1 : Int) (a2 : Int) (a3 : Int) (a4 : Int) (a5 : PV) (a6 : PV) (b : PH) (s : MS) (B : MB b m) : FA cf 38099634 74 [vR m, vI a1, vI a2, vI a3, vI a4, a5, a6] [] (MH b m s) = FA cf 38099634 100 [vR m, vI a1, vI a2, vI a3, vI a4, a5, a6] [] (MH b m s) := by
  refine (c_X10_oneToken_74 cf m a1 a2 a3 a4 a5 a6 (MH b m s) ).trans ?_
  try simp only [gI_MH, gJ_MH, gR_MH, pI_MH, pJ_MH]
  try rfl
theorem c_X10_oneToken_77 (cf : Nat → List PV → PH → Rs) (a0 : Nat) (a1 : Int) (a2 : Int) (a3 : Int) (a4 : Int) (a5 : PV) (a6 : PV) (h : PH) : FA cf 38099634 77 [vR a0, vI a1, vI a2, vI a3, vI a4, a5, a6] [] h = if a4 < 0 then FA cf 38099634 87 [vR a0, vI a1, vI a2, vI a3, vI a4, a5, a6] [vR a0] h else FA cf 38099634 83 [vR a0, vI a1, vI a2, vI a3, vI a4, a5, a6] [vR a0] h := (FA_ex cf 38099634 3 _ _ _ _).trans rfl
theorem k_X10_oneToken_77 (cf : Nat → List PV → PH → Rs) (m : Nat) (a1 : Int) (a2 : Int) (a3 : Int) (a4 : Int) (a5 : PV) (a6 : PV) (b : PH) (s : MS) (B : MB b m) : FA cf 38099634 77 [vR m, vI a1, vI a2, vI a3, vI a4, a5, a6] [] (MH b m s) = if a4 < 0 then FA cf 38099634 87 [vR m, vI a1, vI a2, vI a3, vI a4, a5, a6] [vR m] (MH b m s) else FA cf 38099634 83 [vR m, vI a1, vI a2, vI a3, vI a4, a5, a6] [vR m] (MH b m s) := by
  refine (c_X10_oneToken_77 cf m a1 a2 a3 a4 a5 a6 (MH b m s) ).trans ?_
  try simp only [gI_MH, gJ_MH, gR_MH, pI_MH, pJ_MH]
  try rfl
theorem c_X10_oneToken_83 (cf : Nat → List PV → PH → Rs) (a0 : Nat) (a1 : Int) (a2 : Int) (a3 : Int) (a4 : Int) (a5 : PV) (a6 : PV) (s0 : Nat) (h : PH) : FA cf 38099634 83 [vR a0, vI a1, vI a2, vI a3, vI a4, a5, a6] [vR s0] h = FA cf 38099634 88 [vR a0, vI a1, vI a2, vI a3, vI a4, a5, a6] [vI 1, vR s0] h := (FA_ex cf 38099634 2 _ _ _ _).trans rfl
theorem k_X10_oneToken_83 (cf : Nat → List PV → PH → Rs) (m : Nat) (a1 : Int) (a2 : Int) (a3 : Int) (a4 : Int) (a5 : PV) (a6 : PV) (b : PH) (s : MS) (B : MB b m) : FA cf 38099634 83 [vR m, vI a1, vI a2, vI a3, vI a4, a5, a6] [vR m] (MH b m s) = FA cf 38099634 88 [vR m, vI a1, vI a2, vI a3, vI a4, a5, a6] [vI 1, vR m] (MH b m s) := by
  refine (c_X10_oneToken_83 cf m a1 a2 a3 a4 a5 a6 m (MH b m s) ).trans ?_
  try simp only [gI_MH, gJ_MH, gR_MH, pI_MH, pJ_MH]
  try rfl
theorem c_X10_oneToken_87 (cf : Nat → List PV → PH → Rs) (a0 : Nat) (a1 : Int) (a2 : Int) (a3 : Int) (a4 : Int) (a5 : PV) (a6 : PV) (s0 : Nat) (h : PH) : FA cf 38099634 87 [vR a0, vI a1, vI a2, vI a3, vI a4, a5, a6] [vR s0] h = FA cf 38099634 88 [vR a0, vI a1, vI a2, vI a3, vI a4, a5, a6] [vI 2, vR s0] h := (FA_ex cf 38099634 1 _ _ _ _).trans rfl
theorem k_X10_oneToken_87 (cf : Nat → List PV → PH → Rs) (m : Nat) (a1 : Int) (a2 : Int) (a3 : Int) (a4 : Int) (a5 : PV) (a6 : PV) (b : PH) (s : MS) (B : MB b m) : FA cf 38099634 87 [vR m, vI a1, vI a2, vI a3, vI a4, a5, a6] [vR m] (MH b m s) = FA cf 38099634 88 [vR m, vI a1, vI a2, vI a3, vI a4, a5, a6] [vI 2, vR m] (MH b m s) := by
  refine (c_X10_oneToken_87 cf m a1 a2 a3 a4 a5 a6 m (MH b m s) ).trans ?_
  try simp only [gI_MH, gJ_MH, gR_MH, pI_MH, pJ_MH]
  try rfl
theorem c_X10_oneToken_88 (cf : Nat → List PV → PH → Rs) (a0 : Nat) (a1 : Int) (a2 : Int) (a3 : Int) (a4 : Int) (a5 : PV) (a6 : PV) (s0 : Int) (s1 : Nat) (h : PH) (g0 : inT 43 43 (hc h a0)) : FA cf 38099634 88 [vR a0, vI a1, vI a2, vI a3, vI a4, a5, a6] [vI s0, vR s1] h = bnd (cf 39410355 [vR a0, vI a1, vI a3] h) (fun v h' => FA cf 38099634 97 [vR a0, vI a1, vI a2, vI a3, vI a4, a5, a6] (pu v [vI a4, vI a1, vI s0, vR s1]) h') := ((FA_ex cf 38099634 6 _ _ _ _).trans rfl : FA cf 38099634 88 [vR a0, vI a1, vI a2, vI a3, vI a4, a5, a6] [vI s0, vR s1] h = gd (inT 43 43 (hc h a0)) (bnd (cf 39410355 [vR a0, vI a1, vI a3] h) (fun v h' => FA cf 38099634 97 [vR a0, vI a1, vI a2, vI a3, vI a4, a5, a6] (pu v [vI a4, vI a1, vI s0, vR s1]) h'))).trans ((gd_t g0))
theorem k_X10_oneToken_88 (cf : Nat → List PV → PH → Rs) (m : Nat) (a1 : Int) (a2 : Int) (a3 : Int) (a4 : Int) (a5 : PV) (a6 : PV) (s0 : Int) (b : PH) (s : MS) (B : MB b m) : FA cf 38099634 88 [vR m, vI a1, vI a2, vI a3, vI a4, a5, a6] [vI s0, vR m] (MH b m s) = bnd (cf 39410355 [vR m, vI a1, vI a3] (MH b m s)) (fun v h' => FA cf 38099634 97 [vR m, vI a1, vI a2, vI a3, vI a4, a5, a6] (pu v [vI a4, vI a1, vI s0, vR m]) h') := by
  refine (c_X10_oneToken_88 cf m a1 a2 a3 a4 a5 a6 s0 m (MH b m s) (i11 B.1)).trans ?_
  try simp only [gI_MH, gJ_MH, gR_MH, pI_MH, pJ_MH]
  try rfl
theorem c_X10_oneToken_97 (cf : Nat → List PV → PH → Rs) (a0 : Nat) (a1 : Int) (a2 : Int) (a3 : Int) (a4 : Int) (a5 : PV) (a6 : PV) (s0 : Int) (s1 : Int) (s2 : Int) (s3 : Int) (s4 : Nat) (h : PH) (g0 : inT 43 43 (hc h s4)) : FA cf 38099634 97 [vR a0, vI a1, vI a2, vI a3, vI a4, a5, a6] [vJ s0, vI s1, vI s2, vI s3, vR s4] h = bnd (cf 39148213 [vR s4, vI s3, vI s2, vI s1, vJ s0] h) (fun v h' => FA cf 38099634 100 [vR a0, vI a1, vI a2, vI a3, vI a4, a5, a6] (pu v []) h') := ((FA_ex cf 38099634 1 _ _ _ _).trans rfl : FA cf 38099634 97 [vR a0, vI a1, vI a2, vI a3, vI a4, a5, a6] [vJ s0, vI s1, vI s2, vI s3, vR s4] h = gd (inT 43 43 (hc h s4)) (bnd (cf 39148213 [vR s4, vI s3, vI s2, vI s1, vJ s0] h) (fun v h' => FA cf 38099634 100 [vR a0, vI a1, vI a2, vI a3, vI a4, a5, a6] (pu v []) h'))).trans ((gd_t g0))
theorem k_X10_oneToken_97 (cf : Nat → List PV → PH → Rs) (m : Nat) (a1 : Int) (a2 : Int) (a3 : Int) (a4 : Int) (a5 : PV) (a6 : PV) (s0 : Int) (s1 : Int) (s2 : Int) (s3 : Int) (b : PH) (s : MS) (B : MB b m) : FA cf 38099634 97 [vR m, vI a1, vI a2, vI a3, vI a4, a5, a6] [vJ s0, vI s1, vI s2, vI s3, vR m] (MH b m s) = bnd (cf 39148213 [vR m, vI s3, vI s2, vI s1, vJ s0] (MH b m s)) (fun v h' => FA cf 38099634 100 [vR m, vI a1, vI a2, vI a3, vI a4, a5, a6] (pu v []) h') := by
  refine (c_X10_oneToken_97 cf m a1 a2 a3 a4 a5 a6 s0 s1 s2 s3 m (MH b m s) (i11 B.1)).trans ?_
  try simp only [gI_MH, gJ_MH, gR_MH, pI_MH, pJ_MH]
  try rfl
theorem c_X10_oneToken_100 (cf : Nat → List PV → PH → Rs) (a0 : Nat) (a1 : Int) (a2 : Int) (a3 : Int) (a4 : Int) (a5 : PV) (a6 : PV) (h : PH) : FA cf 38099634 100 [vR a0, vI a1, vI a2, vI a3, vI a4, a5, a6] [] h = some (.inl (some (vI a3)), h) := (FA_ex cf 38099634 2 _ _ _ _).trans rfl
theorem k_X10_oneToken_100 (cf : Nat → List PV → PH → Rs) (m : Nat) (a1 : Int) (a2 : Int) (a3 : Int) (a4 : Int) (a5 : PV) (a6 : PV) (b : PH) (s : MS) (B : MB b m) : FA cf 38099634 100 [vR m, vI a1, vI a2, vI a3, vI a4, a5, a6] [] (MH b m s) = some (.inl (some (vI a3)), (MH b m s)) := by
  refine (c_X10_oneToken_100 cf m a1 a2 a3 a4 a5 a6 (MH b m s) ).trans ?_
  try simp only [gI_MH, gJ_MH, gR_MH, pI_MH, pJ_MH]
  try rfl
theorem c_X10_oneToken_102 (cf : Nat → List PV → PH → Rs) (a0 : Nat) (a1 : Int) (a2 : Int) (a3 : Int) (a4 : PV) (a5 : PV) (a6 : PV) (h : PH) : FA cf 38099634 102 [vR a0, vI a1, vI a2, vI a3, a4, a5, a6] [] h = bnd (cf 39583745 [vI a2] h) (fun v h' => FA cf 38099634 106 [vR a0, vI a1, vI a2, vI a3, a4, a5, a6] (pu v []) h') := (FA_ex cf 38099634 2 _ _ _ _).trans rfl
theorem k_X10_oneToken_102 (cf : Nat → List PV → PH → Rs) (m : Nat) (a1 : Int) (a2 : Int) (a3 : Int) (a4 : PV) (a5 : PV) (a6 : PV) (b : PH) (s : MS) (B : MB b m) : FA cf 38099634 102 [vR m, vI a1, vI a2, vI a3, a4, a5, a6] [] (MH b m s) = bnd (cf 39583745 [vI a2] (MH b m s)) (fun v h' => FA cf 38099634 106 [vR m, vI a1, vI a2, vI a3, a4, a5, a6] (pu v []) h') := by
  refine (c_X10_oneToken_102 cf m a1 a2 a3 a4 a5 a6 (MH b m s) ).trans ?_
  try simp only [gI_MH, gJ_MH, gR_MH, pI_MH, pJ_MH]
  try rfl
theorem c_X10_oneToken_106 (cf : Nat → List PV → PH → Rs) (a0 : Nat) (a1 : Int) (a2 : Int) (a3 : Int) (a4 : PV) (a5 : PV) (a6 : PV) (s0 : Int) (h : PH) : FA cf 38099634 106 [vR a0, vI a1, vI a2, vI a3, a4, a5, a6] [vI s0] h = if s0 = 0 then FA cf 38099634 177 [vR a0, vI a1, vI a2, vI a3, a4, a5, a6] [] h else FA cf 38099634 109 [vR a0, vI a1, vI a2, vI a3, a4, a5, a6] [] h := (FA_ex cf 38099634 1 _ _ _ _).trans rfl
theorem k_X10_oneToken_106 (cf : Nat → List PV → PH → Rs) (m : Nat) (a1 : Int) (a2 : Int) (a3 : Int) (a4 : PV) (a5 : PV) (a6 : PV) (s0 : Int) (b : PH) (s : MS) (B : MB b m) : FA cf 38099634 106 [vR m, vI a1, vI a2, vI a3, a4, a5, a6] [vI s0] (MH b m s) = if s0 = 0 then FA cf 38099634 177 [vR m, vI a1, vI a2, vI a3, a4, a5, a6] [] (MH b m s) else FA cf 38099634 109 [vR m, vI a1, vI a2, vI a3, a4, a5, a6] [] (MH b m s) := by
  refine (c_X10_oneToken_106 cf m a1 a2 a3 a4 a5 a6 s0 (MH b m s) ).trans ?_
  try simp only [gI_MH, gJ_MH, gR_MH, pI_MH, pJ_MH]
  try rfl
theorem c_X10_oneToken_109 (cf : Nat → List PV → PH → Rs) (a0 : Nat) (a1 : Int) (a2 : Int) (a3 : Int) (a4 : PV) (a5 : PV) (a6 : PV) (h : PH) (g0 : inT 43 43 (hc h a0)) : FA cf 38099634 109 [vR a0, vI a1, vI a2, vI a3, a4, a5, a6] [] h = bnd (cf 38623922 [vR a0, vI a3] h) (fun v h' => FA cf 38099634 114 [vR a0, vI a1, vI a2, vI a3, a4, a5, a6] (pu v []) h') := ((FA_ex cf 38099634 3 _ _ _ _).trans rfl : FA cf 38099634 109 [vR a0, vI a1, vI a2, vI a3, a4, a5, a6] [] h = gd (inT 43 43 (hc h a0)) (bnd (cf 38623922 [vR a0, vI a3] h) (fun v h' => FA cf 38099634 114 [vR a0, vI a1, vI a2, vI a3, a4, a5, a6] (pu v []) h'))).trans ((gd_t g0))
theorem k_X10_oneToken_109 (cf : Nat → List PV → PH → Rs) (m : Nat) (a1 : Int) (a2 : Int) (a3 : Int) (a4 : PV) (a5 : PV) (a6 : PV) (b : PH) (s : MS) (B : MB b m) : FA cf 38099634 109 [vR m, vI a1, vI a2, vI a3, a4, a5, a6] [] (MH b m s) = bnd (cf 38623922 [vR m, vI a3] (MH b m s)) (fun v h' => FA cf 38099634 114 [vR m, vI a1, vI a2, vI a3, a4, a5, a6] (pu v []) h') := by
  refine (c_X10_oneToken_109 cf m a1 a2 a3 a4 a5 a6 (MH b m s) (i11 B.1)).trans ?_
  try simp only [gI_MH, gJ_MH, gR_MH, pI_MH, pJ_MH]
  try rfl
theorem c_X10_oneToken_114 (cf : Nat → List PV → PH → Rs) (a0 : Nat) (a1 : Int) (a2 : Int) (a3 : Int) (a4 : PV) (a5 : PV) (a6 : PV) (s0 : Int) (h : PH) : FA cf 38099634 114 [vR a0, vI a1, vI a2, vI a3, a4, a5, a6] [vI s0] h = bnd (cf 39583745 [vI s0] h) (fun v h' => FA cf 38099634 117 [vR a0, vI a1, vI a2, vI a3, a4, a5, a6] (pu v []) h') := (FA_ex cf 38099634 1 _ _ _ _).trans rfl
theorem k_X10_oneToken_114 (cf : Nat → List PV → PH → Rs) (m : Nat) (a1 : Int) (a2 : Int) (a3 : Int) (a4 : PV) (a5 : PV) (a6 : PV) (s0 : Int) (b : PH) (s : MS) (B : MB b m) : FA cf 38099634 114 [vR m, vI a1, vI a2, vI a3, a4, a5, a6] [vI s0] (MH b m s) = bnd (cf 39583745 [vI s0] (MH b m s)) (fun v h' => FA cf 38099634 117 [vR m, vI a1, vI a2, vI a3, a4, a5, a6] (pu v []) h') := by
  refine (c_X10_oneToken_114 cf m a1 a2 a3 a4 a5 a6 s0 (MH b m s) ).trans ?_
  try simp only [gI_MH, gJ_MH, gR_MH, pI_MH, pJ_MH]
  try rfl
theorem c_X10_oneToken_117 (cf : Nat → List PV → PH → Rs) (a0 : Nat) (a1 : Int) (a2 : Int) (a3 : Int) (a4 : PV) (a5 : PV) (a6 : PV) (s0 : Int) (h : PH) : FA cf 38099634 117 [vR a0, vI a1, vI a2, vI a3, a4, a5, a6] [vI s0] h = if s0 = 0 then FA cf 38099634 120 [vR a0, vI a1, vI a2, vI a3, a4, a5, a6] [] h else FA cf 38099634 131 [vR a0, vI a1, vI a2, vI a3, a4, a5, a6] [] h := (FA_ex cf 38099634 1 _ _ _ _).trans rfl
theorem k_X10_oneToken_117 (cf : Nat → List PV → PH → Rs) (m : Nat) (a1 : Int) (a2 : Int) (a3 : Int) (a4 : PV) (a5 : PV) (a6 : PV) (s0 : Int) (b : PH) (s : MS) (B : MB b m) : FA cf 38099634 117 [vR m, vI a1, vI a2, vI a3, a4, a5, a6] [vI s0] (MH b m s) = if s0 = 0 then FA cf 38099634 120 [vR m, vI a1, vI a2, vI a3, a4, a5, a6] [] (MH b m s) else FA cf 38099634 131 [vR m, vI a1, vI a2, vI a3, a4, a5, a6] [] (MH b m s) := by
  refine (c_X10_oneToken_117 cf m a1 a2 a3 a4 a5 a6 s0 (MH b m s) ).trans ?_
  try simp only [gI_MH, gJ_MH, gR_MH, pI_MH, pJ_MH]
  try rfl
theorem c_X10_oneToken_120 (cf : Nat → List PV → PH → Rs) (a0 : Nat) (a1 : Int) (a2 : Int) (a3 : Int) (a4 : PV) (a5 : PV) (a6 : PV) (h : PH) (g0 : inT 43 43 (hc h a0)) : FA cf 38099634 120 [vR a0, vI a1, vI a2, vI a3, a4, a5, a6] [] h = bnd (cf 38623922 [vR a0, vI a3] h) (fun v h' => FA cf 38099634 125 [vR a0, vI a1, vI a2, vI a3, a4, a5, a6] (pu v []) h') := ((FA_ex cf 38099634 3 _ _ _ _).trans rfl : FA cf 38099634 120 [vR a0, vI a1, vI a2, vI a3, a4, a5, a6] [] h = gd (inT 43 43 (hc h a0)) (bnd (cf 38623922 [vR a0, vI a3] h) (fun v h' => FA cf 38099634 125 [vR a0, vI a1, vI a2, vI a3, a4, a5, a6] (pu v []) h'))).trans ((gd_t g0))
theorem k_X10_oneToken_120 (cf : Nat → List PV → PH → Rs) (m : Nat) (a1 : Int) (a2 : Int) (a3 : Int) (a4 : PV) (a5 : PV) (a6 : PV) (b : PH) (s : MS) (B : MB b m) : FA cf 38099634 120 [vR m, vI a1, vI a2, vI a3, a4, a5, a6] [] (MH b m s) = bnd (cf 38623922 [vR m, vI a3] (MH b m s)) (fun v h' => FA cf 38099634 125 [vR m, vI a1, vI a2, vI a3, a4, a5, a6] (pu v []) h') := by
  refine (c_X10_oneToken_120 cf m a1 a2 a3 a4 a5 a6 (MH b m s) (i11 B.1)).trans ?_
  try simp only [gI_MH, gJ_MH, gR_MH, pI_MH, pJ_MH]
  try rfl
theorem c_X10_oneToken_125 (cf : Nat → List PV → PH → Rs) (a0 : Nat) (a1 : Int) (a2 : Int) (a3 : Int) (a4 : PV) (a5 : PV) (a6 : PV) (s0 : Int) (h : PH) : FA cf 38099634 125 [vR a0, vI a1, vI a2, vI a3, a4, a5, a6] [vI s0] h = bnd (cf 39845889 [vI s0] h) (fun v h' => FA cf 38099634 128 [vR a0, vI a1, vI a2, vI a3, a4, a5, a6] (pu v []) h') := (FA_ex cf 38099634 1 _ _ _ _).trans rfl
theorem k_X10_oneToken_125 (cf : Nat → List PV → PH → Rs) (m : Nat) (a1 : Int) (a2 : Int) (a3 : Int) (a4 : PV) (a5 : PV) (a6 : PV) (s0 : Int) (b : PH) (s : MS) (B : MB b m) : FA cf 38099634 125 [vR m, vI a1, vI a2, vI a3, a4, a5, a6] [vI s0] (MH b m s) = bnd (cf 39845889 [vI s0] (MH b m s)) (fun v h' => FA cf 38099634 128 [vR m, vI a1, vI a2, vI a3, a4, a5, a6] (pu v []) h') := by
  refine (c_X10_oneToken_125 cf m a1 a2 a3 a4 a5 a6 s0 (MH b m s) ).trans ?_
  try simp only [gI_MH, gJ_MH, gR_MH, pI_MH, pJ_MH]
  try rfl
theorem c_X10_oneToken_128 (cf : Nat → List PV → PH → Rs) (a0 : Nat) (a1 : Int) (a2 : Int) (a3 : Int) (a4 : PV) (a5 : PV) (a6 : PV) (s0 : Int) (h : PH) : FA cf 38099634 128 [vR a0, vI a1, vI a2, vI a3, a4, a5, a6] [vI s0] h = if s0 = 0 then FA cf 38099634 137 [vR a0, vI a1, vI a2, vI a3, a4, a5, a6] [] h else FA cf 38099634 131 [vR a0, vI a1, vI a2, vI a3, a4, a5, a6] [] h := (FA_ex cf 38099634 1 _ _ _ _).trans rfl
theorem k_X10_oneToken_128 (cf : Nat → List PV → PH → Rs) (m : Nat) (a1 : Int) (a2 : Int) (a3 : Int) (a4 : PV) (a5 : PV) (a6 : PV) (s0 : Int) (b : PH) (s : MS) (B : MB b m) : FA cf 38099634 128 [vR m, vI a1, vI a2, vI a3, a4, a5, a6] [vI s0] (MH b m s) = if s0 = 0 then FA cf 38099634 137 [vR m, vI a1, vI a2, vI a3, a4, a5, a6] [] (MH b m s) else FA cf 38099634 131 [vR m, vI a1, vI a2, vI a3, a4, a5, a6] [] (MH b m s) := by
  refine (c_X10_oneToken_128 cf m a1 a2 a3 a4 a5 a6 s0 (MH b m s) ).trans ?_
  try simp only [gI_MH, gJ_MH, gR_MH, pI_MH, pJ_MH]
  try rfl
theorem c_X10_oneToken_131 (cf : Nat → List PV → PH → Rs) (a0 : Nat) (a1 : Int) (a2 : Int) (a3 : Int) (a4 : PV) (a5 : PV) (a6 : PV) (h : PH) : FA cf 38099634 131 [vR a0, vI a1, vI a2, vI a3, a4, a5, a6] [] h = FA cf 38099634 109 [vR a0, vI a1, vI a2, vI (w32 (a3 + 1)), a4, a5, a6] [] h := (FA_ex cf 38099634 2 _ _ _ _).trans rfl
theorem k_X10_oneToken_131 (cf : Nat → List PV → PH → Rs) (m : Nat) (a1 : Int) (a2 : Int) (a3 : Int) (a4 : PV) (a5 : PV) (a6 : PV) (b : PH) (s : MS) (B : MB b m) : FA cf 38099634 131 [vR m, vI a1, vI a2, vI a3, a4, a5, a6] [] (MH b m s) = FA cf 38099634 109 [vR m, vI a1, vI a2, vI (w32 (a3 + 1)), a4, a5, a6] [] (MH b m s) := by
  refine (c_X10_oneToken_131 cf m a1 a2 a3 a4 a5 a6 (MH b m s) ).trans ?_
  try simp only [gI_MH, gJ_MH, gR_MH, pI_MH, pJ_MH]
  try rfl
theorem c_X10_oneToken_137 (cf : Nat → List PV → PH → Rs) (a0 : Nat) (a1 : Int) (a2 : Int) (a3 : Int) (a4 : PV) (a5 : PV) (a6 : PV) (h : PH) : FA cf 38099634 137 [vR a0, vI a1, vI a2, vI a3, a4, a5, a6] [] h = if 8 < (w32 (a3 - a1)) then FA cf 38099634 146 [vR a0, vI a1, vI a2, vI a3, a4, a5, a6] [vR a0] h else FA cf 38099634 151 [vR a0, vI a1, vI a2, vI a3, a4, a5, a6] [vR a0] h := (FA_ex cf 38099634 6 _ _ _ _).trans rfl
theorem k_X10_oneToken_137 (cf : Nat → List PV → PH → Rs) (m : Nat) (a1 : Int) (a2 : Int) (a3 : Int) (a4 : PV) (a5 : PV) (a6 : PV) (b : PH) (s : MS) (B : MB b m) : FA cf 38099634 137 [vR m, vI a1, vI a2, vI a3, a4, a5, a6] [] (MH b m s) = if 8 < (w32 (a3 - a1)) then FA cf 38099634 146 [vR m, vI a1, vI a2, vI a3, a4, a5, a6] [vR m] (MH b m s) else FA cf 38099634 151 [vR m, vI a1, vI a2, vI a3, a4, a5, a6] [vR m] (MH b m s) := by
  refine (c_X10_oneToken_137 cf m a1 a2 a3 a4 a5 a6 (MH b m s) ).trans ?_
  try simp only [gI_MH, gJ_MH, gR_MH, pI_MH, pJ_MH]
  try rfl
theorem c_X10_oneToken_146 (cf : Nat → List PV → PH → Rs) (a0 : Nat) (a1 : Int) (a2 : Int) (a3 : Int) (a4 : PV) (a5 : PV) (a6 : PV) (s0 : Nat) (h : PH) : FA cf 38099634 146 [vR a0, vI a1, vI a2, vI a3, a4, a5, a6] [vR s0] h = FA cf 38099634 152 [vR a0, vI a1, vI a2, vI a3, a4, a5, a6] [vI 6, vR s0] h := (FA_ex cf 38099634 2 _ _ _ _).trans rfl
theorem k_X10_oneToken_146 (cf : Nat → List PV → PH → Rs) (m : Nat) (a1 : Int) (a2 : Int) (a3 : Int) (a4 : PV) (a5 : PV) (a6 : PV) (b : PH) (s : MS) (B : MB b m) : FA cf 38099634 146 [vR m, vI a1, vI a2, vI a3, a4, a5, a6] [vR m] (MH b m s) = FA cf 38099634 152 [vR m, vI a1, vI a2, vI a3, a4, a5, a6] [vI 6, vR m] (MH b m s) := by
  refine (c_X10_oneToken_146 cf m a1 a2 a3 a4 a5 a6 m (MH b m s) ).trans ?_
  try simp only [gI_MH, gJ_MH, gR_MH, pI_MH, pJ_MH]
  try rfl
theorem c_X10_oneToken_151 (cf : Nat → List PV → PH → Rs) (a0 : Nat) (a1 : Int) (a2 : Int) (a3 : Int) (a4 : PV) (a5 : PV) (a6 : PV) (s0 : Nat) (h : PH) : FA cf 38099634 151 [vR a0, vI a1, vI a2, vI a3, a4, a5, a6] [vR s0] h = FA cf 38099634 152 [vR a0, vI a1, vI a2, vI a3, a4, a5, a6] [vI 3, vR s0] h := (FA_ex cf 38099634 1 _ _ _ _).trans rfl
theorem k_X10_oneToken_151 (cf : Nat → List PV → PH → Rs) (m : Nat) (a1 : Int) (a2 : Int) (a3 : Int) (a4 : PV) (a5 : PV) (a6 : PV) (b : PH) (s : MS) (B : MB b m) : FA cf 38099634 151 [vR m, vI a1, vI a2, vI a3, a4, a5, a6] [vR m] (MH b m s) = FA cf 38099634 152 [vR m, vI a1, vI a2, vI a3, a4, a5, a6] [vI 3, vR m] (MH b m s) := by
  refine (c_X10_oneToken_151 cf m a1 a2 a3 a4 a5 a6 m (MH b m s) ).trans ?_
  try simp only [gI_MH, gJ_MH, gR_MH, pI_MH, pJ_MH]
  try rfl
theorem c_X10_oneToken_152 (cf : Nat → List PV → PH → Rs) (a0 : Nat) (a1 : Int) (a2 : Int) (a3 : Int) (a4 : PV) (a5 : PV) (a6 : PV) (s0 : Int) (s1 : Nat) (h : PH) : FA cf 38099634 152 [vR a0, vI a1, vI a2, vI a3, a4, a5, a6] [vI s0, vR s1] h = if 8 < (w32 (a3 - a1)) then FA cf 38099634 162 [vR a0, vI a1, vI a2, vI a3, a4, a5, a6] [vI 0, vI a1, vI s0, vR s1] h else FA cf 38099634 166 [vR a0, vI a1, vI a2, vI a3, a4, a5, a6] [vI 0, vI a1, vI s0, vR s1] h := (FA_ex cf 38099634 7 _ _ _ _).trans rfl
theorem k_X10_oneToken_152 (cf : Nat → List PV → PH → Rs) (m : Nat) (a1 : Int) (a2 : Int) (a3 : Int) (a4 : PV) (a5 : PV) (a6 : PV) (s0 : Int) (b : PH) (s : MS) (B : MB b m) : FA cf 38099634 152 [vR m, vI a1, vI a2, vI a3, a4, a5, a6] [vI s0, vR m] (MH b m s) = if 8 < (w32 (a3 - a1)) then FA cf 38099634 162 [vR m, vI a1, vI a2, vI a3, a4, a5, a6] [vI 0, vI a1, vI s0, vR m] (MH b m s) else FA cf 38099634 166 [vR m, vI a1, vI a2, vI a3, a4, a5, a6] [vI 0, vI a1, vI s0, vR m] (MH b m s) := by
  refine (c_X10_oneToken_152 cf m a1 a2 a3 a4 a5 a6 s0 m (MH b m s) ).trans ?_
  try simp only [gI_MH, gJ_MH, gR_MH, pI_MH, pJ_MH]
  try rfl
theorem c_X10_oneToken_162 (cf : Nat → List PV → PH → Rs) (a0 : Nat) (a1 : Int) (a2 : Int) (a3 : Int) (a4 : PV) (a5 : PV) (a6 : PV) (s0 : Int) (s1 : Int) (s2 : Int) (s3 : Nat) (h : PH) : FA cf 38099634 162 [vR a0, vI a1, vI a2, vI a3, a4, a5, a6] [vI s0, vI s1, vI s2, vR s3] h = FA cf 38099634 172 [vR a0, vI a1, vI a2, vI a3, a4, a5, a6] [vJ 0, vI s0, vI s1, vI s2, vR s3] h := (FA_ex cf 38099634 2 _ _ _ _).trans rfl
theorem k_X10_oneToken_162 (cf : Nat → List PV → PH → Rs) (m : Nat) (a1 : Int) (a2 : Int) (a3 : Int) (a4 : PV) (a5 : PV) (a6 : PV) (s0 : Int) (s1 : Int) (s2 : Int) (b : PH) (s : MS) (B : MB b m) : FA cf 38099634 162 [vR m, vI a1, vI a2, vI a3, a4, a5, a6] [vI s0, vI s1, vI s2, vR m] (MH b m s) = FA cf 38099634 172 [vR m, vI a1, vI a2, vI a3, a4, a5, a6] [vJ 0, vI s0, vI s1, vI s2, vR m] (MH b m s) := by
  refine (c_X10_oneToken_162 cf m a1 a2 a3 a4 a5 a6 s0 s1 s2 m (MH b m s) ).trans ?_
  try simp only [gI_MH, gJ_MH, gR_MH, pI_MH, pJ_MH]
  try rfl
theorem c_X10_oneToken_166 (cf : Nat → List PV → PH → Rs) (a0 : Nat) (a1 : Int) (a2 : Int) (a3 : Int) (a4 : PV) (a5 : PV) (a6 : PV) (s0 : Int) (s1 : Int) (s2 : Int) (s3 : Nat) (h : PH) (g0 : inT 43 43 (hc h a0)) : FA cf 38099634 166 [vR a0, vI a1, vI a2, vI a3, a4, a5, a6] [vI s0, vI s1, vI s2, vR s3] h = bnd (cf 39410355 [vR a0, vI a1, vI a3] h) (fun v h' => FA cf 38099634 172 [vR a0, vI a1, vI a2, vI a3, a4, a5, a6] (pu v [vI s0, vI s1, vI s2, vR s3]) h') := ((FA_ex cf 38099634 4 _ _ _ _).trans rfl : FA cf 38099634 166 [vR a0, vI a1, vI a2, vI a3, a4, a5, a6] [vI s0, vI s1, vI s2, vR s3] h = gd (inT 43 43 (hc h a0)) (bnd (cf 39410355 [vR a0, vI a1, vI a3] h) (fun v h' => FA cf 38099634 172 [vR a0, vI a1, vI a2, vI a3, a4, a5, a6] (pu v [vI s0, vI s1, vI s2, vR s3]) h'))).trans ((gd_t g0))
theorem k_X10_oneToken_166 (cf : Nat → List PV → PH → Rs) (m : Nat) (a1 : Int) (a2 : Int) (a3 : Int) (a4 : PV) (a5 : PV) (a6 : PV) (s0 : Int) (s1 : Int) (s2 : Int) (b : PH) (s : MS) (B : MB b m) : FA cf 38099634 166 [vR m, vI a1, vI a2, vI a3, a4, a5, a6] [vI s0, vI s1, vI s2, vR m] (MH b m s) = bnd (cf 39410355 [vR m, vI a1, vI a3] (MH b m s)) (fun v h' => FA cf 38099634 172 [vR m, vI a1, vI a2, vI a3, a4, a5, a6] (pu v [vI s0, vI s1, vI s2, vR m]) h') := by
  refine (c_X10_oneToken_166 cf m a1 a2 a3 a4 a5 a6 s0 s1 s2 m (MH b m s) (i11 B.1)).trans ?_
  try simp only [gI_MH, gJ_MH, gR_MH, pI_MH, pJ_MH]
  try rfl
theorem c_X10_oneToken_172 (cf : Nat → List PV → PH → Rs) (a0 : Nat) (a1 : Int) (a2 : Int) (a3 : Int) (a4 : PV) (a5 : PV) (a6 : PV) (s0 : Int) (s1 : Int) (s2 : Int) (s3 : Int) (s4 : Nat) (h : PH) (g0 : inT 43 43 (hc h s4)) : FA cf 38099634 172 [vR a0, vI a1, vI a2, vI a3, a4, a5, a6] [vJ s0, vI s1, vI s2, vI s3, vR s4] h = bnd (cf 39148213 [vR s4, vI s3, vI s2, vI s1, vJ s0] h) (fun v h' => FA cf 38099634 175 [vR a0, vI a1, vI a2, vI a3, a4, a5, a6] (pu v []) h') := ((FA_ex cf 38099634 1 _ _ _ _).trans rfl : FA cf 38099634 172 [vR a0, vI a1, vI a2, vI a3, a4, a5, a6] [vJ s0, vI s1, vI s2, vI s3, vR s4] h = gd (inT 43 43 (hc h s4)) (bnd (cf 39148213 [vR s4, vI s3, vI s2, vI s1, vJ s0] h) (fun v h' => FA cf 38099634 175 [vR a0, vI a1, vI a2, vI a3, a4, a5, a6] (pu v []) h'))).trans ((gd_t g0))
theorem k_X10_oneToken_172 (cf : Nat → List PV → PH → Rs) (m : Nat) (a1 : Int) (a2 : Int) (a3 : Int) (a4 : PV) (a5 : PV) (a6 : PV) (s0 : Int) (s1 : Int) (s2 : Int) (s3 : Int) (b : PH) (s : MS) (B : MB b m) : FA cf 38099634 172 [vR m, vI a1, vI a2, vI a3, a4, a5, a6] [vJ s0, vI s1, vI s2, vI s3, vR m] (MH b m s) = bnd (cf 39148213 [vR m, vI s3, vI s2, vI s1, vJ s0] (MH b m s)) (fun v h' => FA cf 38099634 175 [vR m, vI a1, vI a2, vI a3, a4, a5, a6] (pu v []) h') := by
  refine (c_X10_oneToken_172 cf m a1 a2 a3 a4 a5 a6 s0 s1 s2 s3 m (MH b m s) (i11 B.1)).trans ?_
  try simp only [gI_MH, gJ_MH, gR_MH, pI_MH, pJ_MH]
  try rfl
theorem c_X10_oneToken_175 (cf : Nat → List PV → PH → Rs) (a0 : Nat) (a1 : Int) (a2 : Int) (a3 : Int) (a4 : PV) (a5 : PV) (a6 : PV) (h : PH) : FA cf 38099634 175 [vR a0, vI a1, vI a2, vI a3, a4, a5, a6] [] h = some (.inl (some (vI a3)), h) := (FA_ex cf 38099634 2 _ _ _ _).trans rfl
theorem k_X10_oneToken_175 (cf : Nat → List PV → PH → Rs) (m : Nat) (a1 : Int) (a2 : Int) (a3 : Int) (a4 : PV) (a5 : PV) (a6 : PV) (b : PH) (s : MS) (B : MB b m) : FA cf 38099634 175 [vR m, vI a1, vI a2, vI a3, a4, a5, a6] [] (MH b m s) = some (.inl (some (vI a3)), (MH b m s)) := by
  refine (c_X10_oneToken_175 cf m a1 a2 a3 a4 a5 a6 (MH b m s) ).trans ?_
  try simp only [gI_MH, gJ_MH, gR_MH, pI_MH, pJ_MH]
  try rfl
theorem c_X10_oneToken_177 (cf : Nat → List PV → PH → Rs) (a0 : Nat) (a1 : Int) (a2 : Int) (a3 : Int) (a4 : PV) (a5 : PV) (a6 : PV) (h : PH) : FA cf 38099634 177 [vR a0, vI a1, vI a2, vI a3, a4, a5, a6] [] h = bnd (cf 39845889 [vI a2] h) (fun v h' => FA cf 38099634 181 [vR a0, vI a1, vI a2, vI a3, a4, a5, a6] (pu v []) h') := (FA_ex cf 38099634 2 _ _ _ _).trans rfl
theorem k_X10_oneToken_177 (cf : Nat → List PV → PH → Rs) (m : Nat) (a1 : Int) (a2 : Int) (a3 : Int) (a4 : PV) (a5 : PV) (a6 : PV) (b : PH) (s : MS) (B : MB b m) : FA cf 38099634 177 [vR m, vI a1, vI a2, vI a3, a4, a5, a6] [] (MH b m s) = bnd (cf 39845889 [vI a2] (MH b m s)) (fun v h' => FA cf 38099634 181 [vR m, vI a1, vI a2, vI a3, a4, a5, a6] (pu v []) h') := by
  refine (c_X10_oneToken_177 cf m a1 a2 a3 a4 a5 a6 (MH b m s) ).trans ?_
  try simp only [gI_MH, gJ_MH, gR_MH, pI_MH, pJ_MH]
  try rfl
theorem c_X10_oneToken_181 (cf : Nat → List PV → PH → Rs) (a0 : Nat) (a1 : Int) (a2 : Int) (a3 : Int) (a4 : PV) (a5 : PV) (a6 : PV) (s0 : Int) (h : PH) : FA cf 38099634 181 [vR a0, vI a1, vI a2, vI a3, a4, a5, a6] [vI s0] h = if s0 = 0 then FA cf 38099634 296 [vR a0, vI a1, vI a2, vI a3, a4, a5, a6] [] h else FA cf 38099634 184 [vR a0, vI a1, vI a2, vI a3, a4, a5, a6] [] h := (FA_ex cf 38099634 1 _ _ _ _).trans rfl
theorem k_X10_oneToken_181 (cf : Nat → List PV → PH → Rs) (m : Nat) (a1 : Int) (a2 : Int) (a3 : Int) (a4 : PV) (a5 : PV) (a6 : PV) (s0 : Int) (b : PH) (s : MS) (B : MB b m) : FA cf 38099634 181 [vR m, vI a1, vI a2, vI a3, a4, a5, a6] [vI s0] (MH b m s) = if s0 = 0 then FA cf 38099634 296 [vR m, vI a1, vI a2, vI a3, a4, a5, a6] [] (MH b m s) else FA cf 38099634 184 [vR m, vI a1, vI a2, vI a3, a4, a5, a6] [] (MH b m s) := by
  refine (c_X10_oneToken_181 cf m a1 a2 a3 a4 a5 a6 s0 (MH b m s) ).trans ?_
  try simp only [gI_MH, gJ_MH, gR_MH, pI_MH, pJ_MH]
  try rfl
theorem c_X10_oneToken_184 (cf : Nat → List PV → PH → Rs) (a0 : Nat) (a1 : Int) (a2 : Int) (a3 : Int) (a4 : PV) (a5 : PV) (a6 : PV) (h : PH) : FA cf 38099634 184 [vR a0, vI a1, vI a2, vI a3, a4, a5, a6] [] h = FA cf 38099634 191 [vR a0, vI a1, vI a2, vI a3, vJ (w32 (a2 - 48)), vX, a6] [] h := (FA_ex cf 38099634 5 _ _ _ _).trans rfl
theorem k_X10_oneToken_184 (cf : Nat → List PV → PH → Rs) (m : Nat) (a1 : Int) (a2 : Int) (a3 : Int) (a4 : PV) (a5 : PV) (a6 : PV) (b : PH) (s : MS) (B : MB b m) : FA cf 38099634 184 [vR m, vI a1, vI a2, vI a3, a4, a5, a6] [] (MH b m s) = FA cf 38099634 191 [vR m, vI a1, vI a2, vI a3, vJ (w32 (a2 - 48)), vX, a6] [] (MH b m s) := by
  refine (c_X10_oneToken_184 cf m a1 a2 a3 a4 a5 a6 (MH b m s) ).trans ?_
  try simp only [gI_MH, gJ_MH, gR_MH, pI_MH, pJ_MH]
  try rfl
theorem c_X10_oneToken_191 (cf : Nat → List PV → PH → Rs) (a0 : Nat) (a1 : Int) (a2 : Int) (a3 : Int) (a4 : Int) (a6 : PV) (h : PH) (g0 : inT 43 43 (hc h a0)) : FA cf 38099634 191 [vR a0, vI a1, vI a2, vI a3, vJ a4, vX, a6] [] h = bnd (cf 38623922 [vR a0, vI a3] h) (fun v h' => FA cf 38099634 196 [vR a0, vI a1, vI a2, vI a3, vJ a4, vX, a6] (pu v []) h') := ((FA_ex cf 38099634 3 _ _ _ _).trans rfl : FA cf 38099634 191 [vR a0, vI a1, vI a2, vI a3, vJ a4, vX, a6] [] h = gd (inT 43 43 (hc h a0)) (bnd (cf 38623922 [vR a0, vI a3] h) (fun v h' => FA cf 38099634 196 [vR a0, vI a1, vI a2, vI a3, vJ a4, vX, a6] (pu v []) h'))).trans ((gd_t g0))
theorem k_X10_oneToken_191 (cf : Nat → List PV → PH → Rs) (m : Nat) (a1 : Int) (a2 : Int) (a3 : Int) (a4 : Int) (a6 : PV) (b : PH) (s : MS) (B : MB b m) : FA cf 38099634 191 [vR m, vI a1, vI a2, vI a3, vJ a4, vX, a6] [] (MH b m s) = bnd (cf 38623922 [vR m, vI a3] (MH b m s)) (fun v h' => FA cf 38099634 196 [vR m, vI a1, vI a2, vI a3, vJ a4, vX, a6] (pu v []) h') := by
  refine (c_X10_oneToken_191 cf m a1 a2 a3 a4 a6 (MH b m s) (i11 B.1)).trans ?_
  try simp only [gI_MH, gJ_MH, gR_MH, pI_MH, pJ_MH]
  try rfl
theorem c_X10_oneToken_196 (cf : Nat → List PV → PH → Rs) (a0 : Nat) (a1 : Int) (a2 : Int) (a3 : Int) (a4 : Int) (a6 : PV) (s0 : Int) (h : PH) : FA cf 38099634 196 [vR a0, vI a1, vI a2, vI a3, vJ a4, vX, a6] [vI s0] h = bnd (cf 39845889 [vI s0] h) (fun v h' => FA cf 38099634 199 [vR a0, vI a1, vI a2, vI a3, vJ a4, vX, a6] (pu v []) h') := (FA_ex cf 38099634 1 _ _ _ _).trans rfl
theorem k_X10_oneToken_196 (cf : Nat → List PV → PH → Rs) (m : Nat) (a1 : Int) (a2 : Int) (a3 : Int) (a4 : Int) (a6 : PV) (s0 : Int) (b : PH) (s : MS) (B : MB b m) : FA cf 38099634 196 [vR m, vI a1, vI a2, vI a3, vJ a4, vX, a6] [vI s0] (MH b m s) = bnd (cf 39845889 [vI s0] (MH b m s)) (fun v h' => FA cf 38099634 199 [vR m, vI a1, vI a2, vI a3, vJ a4, vX, a6] (pu v []) h') := by
  refine (c_X10_oneToken_196 cf m a1 a2 a3 a4 a6 s0 (MH b m s) ).trans ?_
  try simp only [gI_MH, gJ_MH, gR_MH, pI_MH, pJ_MH]
  try rfl
theorem c_X10_oneToken_199 (cf : Nat → List PV → PH → Rs) (a0 : Nat) (a1 : Int) (a2 : Int) (a3 : Int) (a4 : Int) (a6 : PV) (s0 : Int) (h : PH) : FA cf 38099634 199 [vR a0, vI a1, vI a2, vI a3, vJ a4, vX, a6] [vI s0] h = if s0 = 0 then FA cf 38099634 241 [vR a0, vI a1, vI a2, vI a3, vJ a4, vX, a6] [] h else FA cf 38099634 202 [vR a0, vI a1, vI a2, vI a3, vJ a4, vX, a6] [] h := (FA_ex cf 38099634 1 _ _ _ _).trans rfl
theorem k_X10_oneToken_199 (cf : Nat → List PV → PH → Rs) (m : Nat) (a1 : Int) (a2 : Int) (a3 : Int) (a4 : Int) (a6 : PV) (s0 : Int) (b : PH) (s : MS) (B : MB b m) : FA cf 38099634 199 [vR m, vI a1, vI a2, vI a3, vJ a4, vX, a6] [vI s0] (MH b m s) = if s0 = 0 then FA cf 38099634 241 [vR m, vI a1, vI a2, vI a3, vJ a4, vX, a6] [] (MH b m s) else FA cf 38099634 202 [vR m, vI a1, vI a2, vI a3, vJ a4, vX, a6] [] (MH b m s) := by
  refine (c_X10_oneToken_199 cf m a1 a2 a3 a4 a6 s0 (MH b m s) ).trans ?_
  try simp only [gI_MH, gJ_MH, gR_MH, pI_MH, pJ_MH]
  try rfl
theorem c_X10_oneToken_202 (cf : Nat → List PV → PH → Rs) (a0 : Nat) (a1 : Int) (a2 : Int) (a3 : Int) (a4 : Int) (a6 : PV) (h : PH) : FA cf 38099634 202 [vR a0, vI a1, vI a2, vI a3, vJ a4, vX, a6] [] h = if 0 < (lcm a4 (100000000000)) then FA cf 38099634 211 [vR a0, vI a1, vI a2, vI a3, vJ a4, vX, a6] [] h else FA cf 38099634 216 [vR a0, vI a1, vI a2, vI a3, vJ a4, vX, a6] [] h := (FA_ex cf 38099634 4 _ _ _ _).trans rfl
theorem k_X10_oneToken_202 (cf : Nat → List PV → PH → Rs) (m : Nat) (a1 : Int) (a2 : Int) (a3 : Int) (a4 : Int) (a6 : PV) (b : PH) (s : MS) (B : MB b m) : FA cf 38099634 202 [vR m, vI a1, vI a2, vI a3, vJ a4, vX, a6] [] (MH b m s) = if 0 < (lcm a4 (100000000000)) then FA cf 38099634 211 [vR m, vI a1, vI a2, vI a3, vJ a4, vX, a6] [] (MH b m s) else FA cf 38099634 216 [vR m, vI a1, vI a2, vI a3, vJ a4, vX, a6] [] (MH b m s) := by
  refine (c_X10_oneToken_202 cf m a1 a2 a3 a4 a6 (MH b m s) ).trans ?_
  try simp only [gI_MH, gJ_MH, gR_MH, pI_MH, pJ_MH]
  try rfl
theorem c_X10_oneToken_211 (cf : Nat → List PV → PH → Rs) (a0 : Nat) (a1 : Int) (a2 : Int) (a3 : Int) (a4 : Int) (a6 : PV) (h : PH) : FA cf 38099634 211 [vR a0, vI a1, vI a2, vI a3, vJ a4, vX, a6] [] h = FA cf 38099634 233 [vR a0, vI a1, vI a2, vI a3, vJ a4, vX, a6] [vJ a4] h := (FA_ex cf 38099634 2 _ _ _ _).trans rfl
theorem k_X10_oneToken_211 (cf : Nat → List PV → PH → Rs) (m : Nat) (a1 : Int) (a2 : Int) (a3 : Int) (a4 : Int) (a6 : PV) (b : PH) (s : MS) (B : MB b m) : FA cf 38099634 211 [vR m, vI a1, vI a2, vI a3, vJ a4, vX, a6] [] (MH b m s) = FA cf 38099634 233 [vR m, vI a1, vI a2, vI a3, vJ a4, vX, a6] [vJ a4] (MH b m s) := by
  refine (c_X10_oneToken_211 cf m a1 a2 a3 a4 a6 (MH b m s) ).trans ?_
  try simp only [gI_MH, gJ_MH, gR_MH, pI_MH, pJ_MH]
  try rfl
theorem c_X10_oneToken_216 (cf : Nat → List PV → PH → Rs) (a0 : Nat) (a1 : Int) (a2 : Int) (a3 : Int) (a4 : Int) (a6 : PV) (h : PH) (g0 : inT 43 43 (hc h a0)) : FA cf 38099634 216 [vR a0, vI a1, vI a2, vI a3, vJ a4, vX, a6] [] h = bnd (cf 38623922 [vR a0, vI a3] h) (fun v h' => FA cf 38099634 227 [vR a0, vI a1, vI a2, vI a3, vJ a4, vX, a6] (pu v [vJ (w64 ((10) * a4))]) h') := ((FA_ex cf 38099634 6 _ _ _ _).trans rfl : FA cf 38099634 216 [vR a0, vI a1, vI a2, vI a3, vJ a4, vX, a6] [] h = gd (inT 43 43 (hc h a0)) (bnd (cf 38623922 [vR a0, vI a3] h) (fun v h' => FA cf 38099634 227 [vR a0, vI a1, vI a2, vI a3, vJ a4, vX, a6] (pu v [vJ (w64 ((10) * a4))]) h'))).trans ((gd_t g0))
theorem k_X10_oneToken_216 (cf : Nat → List PV → PH → Rs) (m : Nat) (a1 : Int) (a2 : Int) (a3 : Int) (a4 : Int) (a6 : PV) (b : PH) (s : MS) (B : MB b m) : FA cf 38099634 216 [vR m, vI a1, vI a2, vI a3, vJ a4, vX, a6] [] (MH b m s) = bnd (cf 38623922 [vR m, vI a3] (MH b m s)) (fun v h' => FA cf 38099634 227 [vR m, vI a1, vI a2, vI a3, vJ a4, vX, a6] (pu v [vJ (w64 ((10) * a4))]) h') := by
  refine (c_X10_oneToken_216 cf m a1 a2 a3 a4 a6 (MH b m s) (i11 B.1)).trans ?_
  try simp only [gI_MH, gJ_MH, gR_MH, pI_MH, pJ_MH]
  try rfl
theorem c_X10_oneToken_227 (cf : Nat → List PV → PH → Rs) (a0 : Nat) (a1 : Int) (a2 : Int) (a3 : Int) (a4 : Int) (a6 : PV) (s0 : Int) (s1 : Int) (h : PH) : FA cf 38099634 227 [vR a0, vI a1, vI a2, vI a3, vJ a4, vX, a6] [vI s0, vJ s1] h = FA cf 38099634 233 [vR a0, vI a1, vI a2, vI a3, vJ a4, vX, a6] [vJ (w64 ((w64 (s1 + s0)) - (48)))] h := (FA_ex cf 38099634 4 _ _ _ _).trans rfl
theorem k_X10_oneToken_227 (cf : Nat → List PV → PH → Rs) (m : Nat) (a1 : Int) (a2 : Int) (a3 : Int) (a4 : Int) (a6 : PV) (s0 : Int) (s1 : Int) (b : PH) (s : MS) (B : MB b m) : FA cf 38099634 227 [vR m, vI a1, vI a2, vI a3, vJ a4, vX, a6] [vI s0, vJ s1] (MH b m s) = FA cf 38099634 233 [vR m, vI a1, vI a2, vI a3, vJ a4, vX, a6] [vJ (w64 ((w64 (s1 + s0)) - (48)))] (MH b m s) := by
  refine (c_X10_oneToken_227 cf m a1 a2 a3 a4 a6 s0 s1 (MH b m s) ).trans ?_
  try simp only [gI_MH, gJ_MH, gR_MH, pI_MH, pJ_MH]
  try rfl
theorem c_X10_oneToken_233 (cf : Nat → List PV → PH → Rs) (a0 : Nat) (a1 : Int) (a2 : Int) (a3 : Int) (a4 : Int) (a6 : PV) (s0 : Int) (h : PH) : FA cf 38099634 233 [vR a0, vI a1, vI a2, vI a3, vJ a4, vX, a6] [vJ s0] h = FA cf 38099634 191 [vR a0, vI a1, vI a2, vI (w32 (a3 + 1)), vJ s0, vX, a6] [] h := (FA_ex cf 38099634 3 _ _ _ _).trans rfl
theorem k_X10_oneToken_233 (cf : Nat → List PV → PH → Rs) (m : Nat) (a1 : Int) (a2 : Int) (a3 : Int) (a4 : Int) (a6 : PV) (s0 : Int) (b : PH) (s : MS) (B : MB b m) : FA cf 38099634 233 [vR m, vI a1, vI a2, vI a3, vJ a4, vX, a6] [vJ s0] (MH b m s) = FA cf 38099634 191 [vR m, vI a1, vI a2, vI (w32 (a3 + 1)), vJ s0, vX, a6] [] (MH b m s) := by
  refine (c_X10_oneToken_233 cf m a1 a2 a3 a4 a6 s0 (MH b m s) ).trans ?_
  try simp only [gI_MH, gJ_MH, gR_MH, pI_MH, pJ_MH]
  try rfl
theorem c_X10_oneToken_241 (cf : Nat → List PV → PH → Rs) (a0 : Nat) (a1 : Int) (a2 : Int) (a3 : Int) (a4 : Int) (a6 : PV) (h : PH) : FA cf 38099634 241 [vR a0, vI a1, vI a2, vI a3, vJ a4, vX, a6] [] h = if 10 < (w32 (a3 - a1)) then FA cf 38099634 262 [vR a0, vI a1, vI a2, vI a3, vJ a4, vX, a6] [] h else FA cf 38099634 249 [vR a0, vI a1, vI a2, vI a3, vJ a4, vX, a6] [] h := (FA_ex cf 38099634 5 _ _ _ _).trans rfl
theorem k_X10_oneToken_241 (cf : Nat → List PV → PH → Rs) (m : Nat) (a1 : Int) (a2 : Int) (a3 : Int) (a4 : Int) (a6 : PV) (b : PH) (s : MS) (B : MB b m) : FA cf 38099634 241 [vR m, vI a1, vI a2, vI a3, vJ a4, vX, a6] [] (MH b m s) = if 10 < (w32 (a3 - a1)) then FA cf 38099634 262 [vR m, vI a1, vI a2, vI a3, vJ a4, vX, a6] [] (MH b m s) else FA cf 38099634 249 [vR m, vI a1, vI a2, vI a3, vJ a4, vX, a6] [] (MH b m s) := by
  refine (c_X10_oneToken_241 cf m a1 a2 a3 a4 a6 (MH b m s) ).trans ?_
  try simp only [gI_MH, gJ_MH, gR_MH, pI_MH, pJ_MH]
  try rfl
theorem c_X10_oneToken_249 (cf : Nat → List PV → PH → Rs) (a0 : Nat) (a1 : Int) (a2 : Int) (a3 : Int) (a4 : Int) (a6 : PV) (h : PH) : FA cf 38099634 249 [vR a0, vI a1, vI a2, vI a3, vJ a4, vX, a6] [] h = if 0 < (lcm a4 (2147483647)) then FA cf 38099634 262 [vR a0, vI a1, vI a2, vI a3, vJ a4, vX, a6] [] h else FA cf 38099634 258 [vR a0, vI a1, vI a2, vI a3, vJ a4, vX, a6] [] h := (FA_ex cf 38099634 4 _ _ _ _).trans rfl
theorem k_X10_oneToken_249 (cf : Nat → List PV → PH → Rs) (m : Nat) (a1 : Int) (a2 : Int) (a3 : Int) (a4 : Int) (a6 : PV) (b : PH) (s : MS) (B : MB b m) : FA cf 38099634 249 [vR m, vI a1, vI a2, vI a3, vJ a4, vX, a6] [] (MH b m s) = if 0 < (lcm a4 (2147483647)) then FA cf 38099634 262 [vR m, vI a1, vI a2, vI a3, vJ a4, vX, a6] [] (MH b m s) else FA cf 38099634 258 [vR m, vI a1, vI a2, vI a3, vJ a4, vX, a6] [] (MH b m s) := by
  refine (c_X10_oneToken_249 cf m a1 a2 a3 a4 a6 (MH b m s) ).trans ?_
  try simp only [gI_MH, gJ_MH, gR_MH, pI_MH, pJ_MH]
  try rfl
theorem c_X10_oneToken_258 (cf : Nat → List PV → PH → Rs) (a0 : Nat) (a1 : Int) (a2 : Int) (a3 : Int) (a4 : Int) (a6 : PV) (h : PH) : FA cf 38099634 258 [vR a0, vI a1, vI a2, vI a3, vJ a4, vX, a6] [] h = FA cf 38099634 263 [vR a0, vI a1, vI a2, vI a3, vJ a4, vX, a6] [vI 1] h := (FA_ex cf 38099634 2 _ _ _ _).trans rfl
theorem k_X10_oneToken_258 (cf : Nat → List PV → PH → Rs) (m : Nat) (a1 : Int) (a2 : Int) (a3 : Int) (a4 : Int) (a6 : PV) (b : PH) (s : MS) (B : MB b m) : FA cf 38099634 258 [vR m, vI a1, vI a2, vI a3, vJ a4, vX, a6] [] (MH b m s) = FA cf 38099634 263 [vR m, vI a1, vI a2, vI a3, vJ a4, vX, a6] [vI 1] (MH b m s) := by
  refine (c_X10_oneToken_258 cf m a1 a2 a3 a4 a6 (MH b m s) ).trans ?_
  try simp only [gI_MH, gJ_MH, gR_MH, pI_MH, pJ_MH]
  try rfl
theorem c_X10_oneToken_262 (cf : Nat → List PV → PH → Rs) (a0 : Nat) (a1 : Int) (a2 : Int) (a3 : Int) (a4 : Int) (a6 : PV) (h : PH) : FA cf 38099634 262 [vR a0, vI a1, vI a2, vI a3, vJ a4, vX, a6] [] h = FA cf 38099634 263 [vR a0, vI a1, vI a2, vI a3, vJ a4, vX, a6] [vI 0] h := (FA_ex cf 38099634 1 _ _ _ _).trans rfl
theorem k_X10_oneToken_262 (cf : Nat → List PV → PH → Rs) (m : Nat) (a1 : Int) (a2 : Int) (a3 : Int) (a4 : Int) (a6 : PV) (b : PH) (s : MS) (B : MB b m) : FA cf 38099634 262 [vR m, vI a1, vI a2, vI a3, vJ a4, vX, a6] [] (MH b m s) = FA cf 38099634 263 [vR m, vI a1, vI a2, vI a3, vJ a4, vX, a6] [vI 0] (MH b m s) := by
  refine (c_X10_oneToken_262 cf m a1 a2 a3 a4 a6 (MH b m s) ).trans ?_
  try simp only [gI_MH, gJ_MH, gR_MH, pI_MH, pJ_MH]
  try rfl
theorem c_X10_oneToken_263 (cf : Nat → List PV → PH → Rs) (a0 : Nat) (a1 : Int) (a2 : Int) (a3 : Int) (a4 : Int) (a6 : PV) (s0 : Int) (h : PH) : FA cf 38099634 263 [vR a0, vI a1, vI a2, vI a3, vJ a4, vX, a6] [vI s0] h = if s0 = 0 then FA cf 38099634 275 [vR a0, vI a1, vI a2, vI a3, vJ a4, vX, vI s0] [vR a0] h else FA cf 38099634 271 [vR a0, vI a1, vI a2, vI a3, vJ a4, vX, vI s0] [vR a0] h := (FA_ex cf 38099634 4 _ _ _ _).trans rfl
theorem k_X10_oneToken_263 (cf : Nat → List PV → PH → Rs) (m : Nat) (a1 : Int) (a2 : Int) (a3 : Int) (a4 : Int) (a6 : PV) (s0 : Int) (b : PH) (s : MS) (B : MB b m) : FA cf 38099634 263 [vR m, vI a1, vI a2, vI a3, vJ a4, vX, a6] [vI s0] (MH b m s) = if s0 = 0 then FA cf 38099634 275 [vR m, vI a1, vI a2, vI a3, vJ a4, vX, vI s0] [vR m] (MH b m s) else FA cf 38099634 271 [vR m, vI a1, vI a2, vI a3, vJ a4, vX, vI s0] [vR m] (MH b m s) := by
  refine (c_X10_oneToken_263 cf m a1 a2 a3 a4 a6 s0 (MH b m s) ).trans ?_
  try simp only [gI_MH, gJ_MH, gR_MH, pI_MH, pJ_MH]
  try rfl
theorem c_X10_oneToken_271 (cf : Nat → List PV → PH → Rs) (a0 : Nat) (a1 : Int) (a2 : Int) (a3 : Int) (a4 : Int) (a6 : Int) (s0 : Nat) (h : PH) : FA cf 38099634 271 [vR a0, vI a1, vI a2, vI a3, vJ a4, vX, vI a6] [vR s0] h = FA cf 38099634 277 [vR a0, vI a1, vI a2, vI a3, vJ a4, vX, vI a6] [vI 4, vR s0] h := (FA_ex cf 38099634 2 _ _ _ _).trans rfl
theorem k_X10_oneToken_271 (cf : Nat → List PV → PH → Rs) (m : Nat) (a1 : Int) (a2 : Int) (a3 : Int) (a4 : Int) (a6 : Int) (b : PH) (s : MS) (B : MB b m) : FA cf 38099634 271 [vR m, vI a1, vI a2, vI a3, vJ a4, vX, vI a6] [vR m] (MH b m s) = FA cf 38099634 277 [vR m, vI a1, vI a2, vI a3, vJ a4, vX, vI a6] [vI 4, vR m] (MH b m s) := by
  refine (c_X10_oneToken_271 cf m a1 a2 a3 a4 a6 m (MH b m s) ).trans ?_
  try simp only [gI_MH, gJ_MH, gR_MH, pI_MH, pJ_MH]
  try rfl
theorem c_X10_oneToken_275 (cf : Nat → List PV → PH → Rs) (a0 : Nat) (a1 : Int) (a2 : Int) (a3 : Int) (a4 : Int) (a6 : Int) (s0 : Nat) (h : PH) : FA cf 38099634 275 [vR a0, vI a1, vI a2, vI a3, vJ a4, vX, vI a6] [vR s0] h = FA cf 38099634 277 [vR a0, vI a1, vI a2, vI a3, vJ a4, vX, vI a6] [vI 6, vR s0] h := (FA_ex cf 38099634 1 _ _ _ _).trans rfl
theorem k_X10_oneToken_275 (cf : Nat → List PV → PH → Rs) (m : Nat) (a1 : Int) (a2 : Int) (a3 : Int) (a4 : Int) (a6 : Int) (b : PH) (s : MS) (B : MB b m) : FA cf 38099634 275 [vR m, vI a1, vI a2, vI a3, vJ a4, vX, vI a6] [vR m] (MH b m s) = FA cf 38099634 277 [vR m, vI a1, vI a2, vI a3, vJ a4, vX, vI a6] [vI 6, vR m] (MH b m s) := by
  refine (c_X10_oneToken_275 cf m a1 a2 a3 a4 a6 m (MH b m s) ).trans ?_
  try simp only [gI_MH, gJ_MH, gR_MH, pI_MH, pJ_MH]
  try rfl
theorem c_X10_oneToken_277 (cf : Nat → List PV → PH → Rs) (a0 : Nat) (a1 : Int) (a2 : Int) (a3 : Int) (a4 : Int) (a6 : Int) (s0 : Int) (s1 : Nat) (h : PH) : FA cf 38099634 277 [vR a0, vI a1, vI a2, vI a3, vJ a4, vX, vI a6] [vI s0, vR s1] h = if a6 = 0 then FA cf 38099634 289 [vR a0, vI a1, vI a2, vI a3, vJ a4, vX, vI a6] [vI a1, vI s0, vR s1] h else FA cf 38099634 283 [vR a0, vI a1, vI a2, vI a3, vJ a4, vX, vI a6] [vI a1, vI s0, vR s1] h := (FA_ex cf 38099634 3 _ _ _ _).trans rfl
theorem k_X10_oneToken_277 (cf : Nat → List PV → PH → Rs) (m : Nat) (a1 : Int) (a2 : Int) (a3 : Int) (a4 : Int) (a6 : Int) (s0 : Int) (b : PH) (s : MS) (B : MB b m) : FA cf 38099634 277 [vR m, vI a1, vI a2, vI a3, vJ a4, vX, vI a6] [vI s0, vR m] (MH b m s) = if a6 = 0 then FA cf 38099634 289 [vR m, vI a1, vI a2, vI a3, vJ a4, vX, vI a6] [vI a1, vI s0, vR m] (MH b m s) else FA cf 38099634 283 [vR m, vI a1, vI a2, vI a3, vJ a4, vX, vI a6] [vI a1, vI s0, vR m] (MH b m s) := by
  refine (c_X10_oneToken_277 cf m a1 a2 a3 a4 a6 s0 m (MH b m s) ).trans ?_
  try simp only [gI_MH, gJ_MH, gR_MH, pI_MH, pJ_MH]
  try rfl
theorem c_X10_oneToken_283 (cf : Nat → List PV → PH → Rs) (a0 : Nat) (a1 : Int) (a2 : Int) (a3 : Int) (a4 : Int) (a6 : Int) (s0 : Int) (s1 : Int) (s2 : Nat) (h : PH) : FA cf 38099634 283 [vR a0, vI a1, vI a2, vI a3, vJ a4, vX, vI a6] [vI s0, vI s1, vR s2] h = FA cf 38099634 290 [vR a0, vI a1, vI a2, vI a3, vJ a4, vX, vI a6] [vI (w32 a4), vI s0, vI s1, vR s2] h := (FA_ex cf 38099634 3 _ _ _ _).trans rfl
theorem k_X10_oneToken_283 (cf : Nat → List PV → PH → Rs) (m : Nat) (a1 : Int) (a2 : Int) (a3 : Int) (a4 : Int) (a6 : Int) (s0 : Int) (s1 : Int) (b : PH) (s : MS) (B : MB b m) : FA cf 38099634 283 [vR m, vI a1, vI a2, vI a3, vJ a4, vX, vI a6] [vI s0, vI s1, vR m] (MH b m s) = FA cf 38099634 290 [vR m, vI a1, vI a2, vI a3, vJ a4, vX, vI a6] [vI (w32 a4), vI s0, vI s1, vR m] (MH b m s) := by
  refine (c_X10_oneToken_283 cf m a1 a2 a3 a4 a6 s0 s1 m (MH b m s) ).trans ?_
  try simp only [gI_MH, gJ_MH, gR_MH, pI_MH, pJ_MH]
  try rfl
theorem c_X10_oneToken_289 (cf : Nat → List PV → PH → Rs) (a0 : Nat) (a1 : Int) (a2 : Int) (a3 : Int) (a4 : Int) (a6 : Int) (s0 : Int) (s1 : Int) (s2 : Nat) (h : PH) : FA cf 38099634 289 [vR a0, vI a1, vI a2, vI a3, vJ a4, vX, vI a6] [vI s0, vI s1, vR s2] h = FA cf 38099634 290 [vR a0, vI a1, vI a2, vI a3, vJ a4, vX, vI a6] [vI 0, vI s0, vI s1, vR s2] h := (FA_ex cf 38099634 1 _ _ _ _).trans rfl
theorem k_X10_oneToken_289 (cf : Nat → List PV → PH → Rs) (m : Nat) (a1 : Int) (a2 : Int) (a3 : Int) (a4 : Int) (a6 : Int) (s0 : Int) (s1 : Int) (b : PH) (s : MS) (B : MB b m) : FA cf 38099634 289 [vR m, vI a1, vI a2, vI a3, vJ a4, vX, vI a6] [vI s0, vI s1, vR m] (MH b m s) = FA cf 38099634 290 [vR m, vI a1, vI a2, vI a3, vJ a4, vX, vI a6] [vI 0, vI s0, vI s1, vR m] (MH b m s) := by
  refine (c_X10_oneToken_289 cf m a1 a2 a3 a4 a6 s0 s1 m (MH b m s) ).trans ?_
  try simp only [gI_MH, gJ_MH, gR_MH, pI_MH, pJ_MH]
  try rfl
theorem c_X10_oneToken_290 (cf : Nat → List PV → PH → Rs) (a0 : Nat) (a1 : Int) (a2 : Int) (a3 : Int) (a4 : Int) (a6 : Int) (s0 : Int) (s1 : Int) (s2 : Int) (s3 : Nat) (h : PH) (g0 : inT 43 43 (hc h s3)) : FA cf 38099634 290 [vR a0, vI a1, vI a2, vI a3, vJ a4, vX, vI a6] [vI s0, vI s1, vI s2, vR s3] h = bnd (cf 39148213 [vR s3, vI s2, vI s1, vI s0, vJ 0] h) (fun v h' => FA cf 38099634 294 [vR a0, vI a1, vI a2, vI a3, vJ a4, vX, vI a6] (pu v []) h') := ((FA_ex cf 38099634 2 _ _ _ _).trans rfl : FA cf 38099634 290 [vR a0, vI a1, vI a2, vI a3, vJ a4, vX, vI a6] [vI s0, vI s1, vI s2, vR s3] h = gd (inT 43 43 (hc h s3)) (bnd (cf 39148213 [vR s3, vI s2, vI s1, vI s0, vJ 0] h) (fun v h' => FA cf 38099634 294 [vR a0, vI a1, vI a2, vI a3, vJ a4, vX, vI a6] (pu v []) h'))).trans ((gd_t g0))
theorem k_X10_oneToken_290 (cf : Nat → List PV → PH → Rs) (m : Nat) (a1 : Int) (a2 : Int) (a3 : Int) (a4 : Int) (a6 : Int) (s0 : Int) (s1 : Int) (s2 : Int) (b : PH) (s : MS) (B : MB b m) : FA cf 38099634 290 [vR m, vI a1, vI a2, vI a3, vJ a4, vX, vI a6] [vI s0, vI s1, vI s2, vR m] (MH b m s) = bnd (cf 39148213 [vR m, vI s2, vI s1, vI s0, vJ 0] (MH b m s)) (fun v h' => FA cf 38099634 294 [vR m, vI a1, vI a2, vI a3, vJ a4, vX, vI a6] (pu v []) h') := by
  refine (c_X10_oneToken_290 cf m a1 a2 a3 a4 a6 s0 s1 s2 m (MH b m s) (i11 B.1)).trans ?_
  try simp only [gI_MH, gJ_MH, gR_MH, pI_MH, pJ_MH]
  try rfl
theorem c_X10_oneToken_294 (cf : Nat → List PV → PH → Rs) (a0 : Nat) (a1 : Int) (a2 : Int) (a3 : Int) (a4 : Int) (a6 : Int) (h : PH) : FA cf 38099634 294 [vR a0, vI a1, vI a2, vI a3, vJ a4, vX, vI a6] [] h = some (.inl (some (vI a3)), h) := (FA_ex cf 38099634 2 _ _ _ _).trans rfl
theorem k_X10_oneToken_294 (cf : Nat → List PV → PH → Rs) (m : Nat) (a1 : Int) (a2 : Int) (a3 : Int) (a4 : Int) (a6 : Int) (b : PH) (s : MS) (B : MB b m) : FA cf 38099634 294 [vR m, vI a1, vI a2, vI a3, vJ a4, vX, vI a6] [] (MH b m s) = some (.inl (some (vI a3)), (MH b m s)) := by
  refine (c_X10_oneToken_294 cf m a1 a2 a3 a4 a6 (MH b m s) ).trans ?_
  try simp only [gI_MH, gJ_MH, gR_MH, pI_MH, pJ_MH]
  try rfl
theorem c_X10_oneToken_296 (cf : Nat → List PV → PH → Rs) (a0 : Nat) (a1 : Int) (a2 : Int) (a3 : Int) (a4 : PV) (a5 : PV) (a6 : PV) (h : PH) (g0 : inT 43 43 (hc h a0)) : FA cf 38099634 296 [vR a0, vI a1, vI a2, vI a3, a4, a5, a6] [] h = bnd (cf 38623922 [vR a0, vI a3] h) (fun v h' => FA cf 38099634 301 [vR a0, vI a1, vI a2, vI a3, a4, a5, a6] (pu v []) h') := ((FA_ex cf 38099634 3 _ _ _ _).trans rfl : FA cf 38099634 296 [vR a0, vI a1, vI a2, vI a3, a4, a5, a6] [] h = gd (inT 43 43 (hc h a0)) (bnd (cf 38623922 [vR a0, vI a3] h) (fun v h' => FA cf 38099634 301 [vR a0, vI a1, vI a2, vI a3, a4, a5, a6] (pu v []) h'))).trans ((gd_t g0))
theorem k_X10_oneToken_296 (cf : Nat → List PV → PH → Rs) (m : Nat) (a1 : Int) (a2 : Int) (a3 : Int) (a4 : PV) (a5 : PV) (a6 : PV) (b : PH) (s : MS) (B : MB b m) : FA cf 38099634 296 [vR m, vI a1, vI a2, vI a3, a4, a5, a6] [] (MH b m s) = bnd (cf 38623922 [vR m, vI a3] (MH b m s)) (fun v h' => FA cf 38099634 301 [vR m, vI a1, vI a2, vI a3, a4, a5, a6] (pu v []) h') := by
  refine (c_X10_oneToken_296 cf m a1 a2 a3 a4 a5 a6 (MH b m s) (i11 B.1)).trans ?_
  try simp only [gI_MH, gJ_MH, gR_MH, pI_MH, pJ_MH]
  try rfl
theorem c_X10_oneToken_301 (cf : Nat → List PV → PH → Rs) (a0 : Nat) (a1 : Int) (a2 : Int) (a3 : Int) (a4 : PV) (a5 : PV) (a6 : PV) (s0 : Int) (h : PH) : FA cf 38099634 301 [vR a0, vI a1, vI a2, vI a3, a4, a5, a6] [vI s0] h = if s0 = 61 then FA cf 38099634 306 [vR a0, vI a1, vI a2, vI a3, a4, a5, a6] [] h else FA cf 38099634 334 [vR a0, vI a1, vI a2, vI a3, a4, a5, a6] [] h := (FA_ex cf 38099634 2 _ _ _ _).trans rfl
theorem k_X10_oneToken_301 (cf : Nat → List PV → PH → Rs) (m : Nat) (a1 : Int) (a2 : Int) (a3 : Int) (a4 : PV) (a5 : PV) (a6 : PV) (s0 : Int) (b : PH) (s : MS) (B : MB b m) : FA cf 38099634 301 [vR m, vI a1, vI a2, vI a3, a4, a5, a6] [vI s0] (MH b m s) = if s0 = 61 then FA cf 38099634 306 [vR m, vI a1, vI a2, vI a3, a4, a5, a6] [] (MH b m s) else FA cf 38099634 334 [vR m, vI a1, vI a2, vI a3, a4, a5, a6] [] (MH b m s) := by
  refine (c_X10_oneToken_301 cf m a1 a2 a3 a4 a5 a6 s0 (MH b m s) ).trans ?_
  try simp only [gI_MH, gJ_MH, gR_MH, pI_MH, pJ_MH]
  try rfl
theorem c_X10_oneToken_306 (cf : Nat → List PV → PH → Rs) (a0 : Nat) (a1 : Int) (a2 : Int) (a3 : Int) (a4 : PV) (a5 : PV) (a6 : PV) (h : PH) : FA cf 38099634 306 [vR a0, vI a1, vI a2, vI a3, a4, a5, a6] [] h = if a2 = 58 then FA cf 38099634 330 [vR a0, vI a1, vI a2, vI a3, a4, a5, a6] [] h else FA cf 38099634 312 [vR a0, vI a1, vI a2, vI a3, a4, a5, a6] [] h := (FA_ex cf 38099634 3 _ _ _ _).trans rfl
theorem k_X10_oneToken_306 (cf : Nat → List PV → PH → Rs) (m : Nat) (a1 : Int) (a2 : Int) (a3 : Int) (a4 : PV) (a5 : PV) (a6 : PV) (b : PH) (s : MS) (B : MB b m) : FA cf 38099634 306 [vR m, vI a1, vI a2, vI a3, a4, a5, a6] [] (MH b m s) = if a2 = 58 then FA cf 38099634 330 [vR m, vI a1, vI a2, vI a3, a4, a5, a6] [] (MH b m s) else FA cf 38099634 312 [vR m, vI a1, vI a2, vI a3, a4, a5, a6] [] (MH b m s) := by
  refine (c_X10_oneToken_306 cf m a1 a2 a3 a4 a5 a6 (MH b m s) ).trans ?_
  try simp only [gI_MH, gJ_MH, gR_MH, pI_MH, pJ_MH]
  try rfl
theorem c_X10_oneToken_312 (cf : Nat → List PV → PH → Rs) (a0 : Nat) (a1 : Int) (a2 : Int) (a3 : Int) (a4 : PV) (a5 : PV) (a6 : PV) (h : PH) : FA cf 38099634 312 [vR a0, vI a1, vI a2, vI a3, a4, a5, a6] [] h = if a2 = 47 then FA cf 38099634 330 [vR a0, vI a1, vI a2, vI a3, a4, a5, a6] [] h else FA cf 38099634 318 [vR a0, vI a1, vI a2, vI a3, a4, a5, a6] [] h := (FA_ex cf 38099634 3 _ _ _ _).trans rfl
theorem k_X10_oneToken_312 (cf : Nat → List PV → PH → Rs) (m : Nat) (a1 : Int) (a2 : Int) (a3 : Int) (a4 : PV) (a5 : PV) (a6 : PV) (b : PH) (s : MS) (B : MB b m) : FA cf 38099634 312 [vR m, vI a1, vI a2, vI a3, a4, a5, a6] [] (MH b m s) = if a2 = 47 then FA cf 38099634 330 [vR m, vI a1, vI a2, vI a3, a4, a5, a6] [] (MH b m s) else FA cf 38099634 318 [vR m, vI a1, vI a2, vI a3, a4, a5, a6] [] (MH b m s) := by
  refine (c_X10_oneToken_312 cf m a1 a2 a3 a4 a5 a6 (MH b m s) ).trans ?_
  try simp only [gI_MH, gJ_MH, gR_MH, pI_MH, pJ_MH]
  try rfl
theorem c_X10_oneToken_318 (cf : Nat → List PV → PH → Rs) (a0 : Nat) (a1 : Int) (a2 : Int) (a3 : Int) (a4 : PV) (a5 : PV) (a6 : PV) (h : PH) : FA cf 38099634 318 [vR a0, vI a1, vI a2, vI a3, a4, a5, a6] [] h = if a2 = 60 then FA cf 38099634 330 [vR a0, vI a1, vI a2, vI a3, a4, a5, a6] [] h else FA cf 38099634 324 [vR a0, vI a1, vI a2, vI a3, a4, a5, a6] [] h := (FA_ex cf 38099634 3 _ _ _ _).trans rfl
theorem k_X10_oneToken_318 (cf : Nat → List PV → PH → Rs) (m : Nat) (a1 : Int) (a2 : Int) (a3 : Int) (a4 : PV) (a5 : PV) (a6 : PV) (b : PH) (s : MS) (B : MB b m) : FA cf 38099634 318 [vR m, vI a1, vI a2, vI a3, a4, a5, a6] [] (MH b m s) = if a2 = 60 then FA cf 38099634 330 [vR m, vI a1, vI a2, vI a3, a4, a5, a6] [] (MH b m s) else FA cf 38099634 324 [vR m, vI a1, vI a2, vI a3, a4, a5, a6] [] (MH b m s) := by
  refine (c_X10_oneToken_318 cf m a1 a2 a3 a4 a5 a6 (MH b m s) ).trans ?_
  try simp only [gI_MH, gJ_MH, gR_MH, pI_MH, pJ_MH]
  try rfl
theorem c_X10_oneToken_324 (cf : Nat → List PV → PH → Rs) (a0 : Nat) (a1 : Int) (a2 : Int) (a3 : Int) (a4 : PV) (a5 : PV) (a6 : PV) (h : PH) : FA cf 38099634 324 [vR a0, vI a1, vI a2, vI a3, a4, a5, a6] [] h = if a2 = 62 then FA cf 38099634 330 [vR a0, vI a1, vI a2, vI a3, a4, a5, a6] [] h else FA cf 38099634 334 [vR a0, vI a1, vI a2, vI a3, a4, a5, a6] [] h := (FA_ex cf 38099634 3 _ _ _ _).trans rfl
theorem k_X10_oneToken_324 (cf : Nat → List PV → PH → Rs) (m : Nat) (a1 : Int) (a2 : Int) (a3 : Int) (a4 : PV) (a5 : PV) (a6 : PV) (b : PH) (s : MS) (B : MB b m) : FA cf 38099634 324 [vR m, vI a1, vI a2, vI a3, a4, a5, a6] [] (MH b m s) = if a2 = 62 then FA cf 38099634 330 [vR m, vI a1, vI a2, vI a3, a4, a5, a6] [] (MH b m s) else FA cf 38099634 334 [vR m, vI a1, vI a2, vI a3, a4, a5, a6] [] (MH b m s) := by
  refine (c_X10_oneToken_324 cf m a1 a2 a3 a4 a5 a6 (MH b m s) ).trans ?_
  try simp only [gI_MH, gJ_MH, gR_MH, pI_MH, pJ_MH]
  try rfl
theorem c_X10_oneToken_330 (cf : Nat → List PV → PH → Rs) (a0 : Nat) (a1 : Int) (a2 : Int) (a3 : Int) (a4 : PV) (a5 : PV) (a6 : PV) (h : PH) : FA cf 38099634 330 [vR a0, vI a1, vI a2, vI a3, a4, a5, a6] [] h = FA cf 38099634 335 [vR a0, vI a1, vI a2, vI a3, a4, a5, a6] [vI 1] h := (FA_ex cf 38099634 2 _ _ _ _).trans rfl
theorem k_X10_oneToken_330 (cf : Nat → List PV → PH → Rs) (m : Nat) (a1 : Int) (a2 : Int) (a3 : Int) (a4 : PV) (a5 : PV) (a6 : PV) (b : PH) (s : MS) (B : MB b m) : FA cf 38099634 330 [vR m, vI a1, vI a2, vI a3, a4, a5, a6] [] (MH b m s) = FA cf 38099634 335 [vR m, vI a1, vI a2, vI a3, a4, a5, a6] [vI 1] (MH b m s) := by
  refine (c_X10_oneToken_330 cf m a1 a2 a3 a4 a5 a6 (MH b m s) ).trans ?_
  try simp only [gI_MH, gJ_MH, gR_MH, pI_MH, pJ_MH]
  try rfl
theorem c_X10_oneToken_334 (cf : Nat → List PV → PH → Rs) (a0 : Nat) (a1 : Int) (a2 : Int) (a3 : Int) (a4 : PV) (a5 : PV) (a6 : PV) (h : PH) : FA cf 38099634 334 [vR a0, vI a1, vI a2, vI a3, a4, a5, a6] [] h = FA cf 38099634 335 [vR a0, vI a1, vI a2, vI a3, a4, a5, a6] [vI 0] h := (FA_ex cf 38099634 1 _ _ _ _).trans rfl
theorem k_X10_oneToken_334 (cf : Nat → List PV → PH → Rs) (m : Nat) (a1 : Int) (a2 : Int) (a3 : Int) (a4 : PV) (a5 : PV) (a6 : PV) (b : PH) (s : MS) (B : MB b m) : FA cf 38099634 334 [vR m, vI a1, vI a2, vI a3, a4, a5, a6] [] (MH b m s) = FA cf 38099634 335 [vR m, vI a1, vI a2, vI a3, a4, a5, a6] [vI 0] (MH b m s) := by
  refine (c_X10_oneToken_334 cf m a1 a2 a3 a4 a5 a6 (MH b m s) ).trans ?_
  try simp only [gI_MH, gJ_MH, gR_MH, pI_MH, pJ_MH]
  try rfl
theorem c_X10_oneToken_335 (cf : Nat → List PV → PH → Rs) (a0 : Nat) (a1 : Int) (a2 : Int) (a3 : Int) (a4 : PV) (a5 : PV) (a6 : PV) (s0 : Int) (h : PH) : FA cf 38099634 335 [vR a0, vI a1, vI a2, vI a3, a4, a5, a6] [vI s0] h = if a2 = 40 then FA cf 38099634 445 [vR a0, vI a1, vI a2, vI a3, vI s0, a5, a6] [] h else FA cf 38099634 343 [vR a0, vI a1, vI a2, vI a3, vI s0, a5, a6] [] h := (FA_ex cf 38099634 4 _ _ _ _).trans rfl
theorem k_X10_oneToken_335 (cf : Nat → List PV → PH → Rs) (m : Nat) (a1 : Int) (a2 : Int) (a3 : Int) (a4 : PV) (a5 : PV) (a6 : PV) (s0 : Int) (b : PH) (s : MS) (B : MB b m) : FA cf 38099634 335 [vR m, vI a1, vI a2, vI a3, a4, a5, a6] [vI s0] (MH b m s) = if a2 = 40 then FA cf 38099634 445 [vR m, vI a1, vI a2, vI a3, vI s0, a5, a6] [] (MH b m s) else FA cf 38099634 343 [vR m, vI a1, vI a2, vI a3, vI s0, a5, a6] [] (MH b m s) := by
  refine (c_X10_oneToken_335 cf m a1 a2 a3 a4 a5 a6 s0 (MH b m s) ).trans ?_
  try simp only [gI_MH, gJ_MH, gR_MH, pI_MH, pJ_MH]
  try rfl
theorem c_X10_oneToken_343 (cf : Nat → List PV → PH → Rs) (a0 : Nat) (a1 : Int) (a2 : Int) (a3 : Int) (a4 : Int) (a5 : PV) (a6 : PV) (h : PH) : FA cf 38099634 343 [vR a0, vI a1, vI a2, vI a3, vI a4, a5, a6] [] h = if a2 = 41 then FA cf 38099634 445 [vR a0, vI a1, vI a2, vI a3, vI a4, a5, a6] [] h else FA cf 38099634 349 [vR a0, vI a1, vI a2, vI a3, vI a4, a5, a6] [] h := (FA_ex cf 38099634 3 _ _ _ _).trans rfl
theorem k_X10_oneToken_343 (cf : Nat → List PV → PH → Rs) (m : Nat) (a1 : Int) (a2 : Int) (a3 : Int) (a4 : Int) (a5 : PV) (a6 : PV) (b : PH) (s : MS) (B : MB b m) : FA cf 38099634 343 [vR m, vI a1, vI a2, vI a3, vI a4, a5, a6] [] (MH b m s) = if a2 = 41 then FA cf 38099634 445 [vR m, vI a1, vI a2, vI a3, vI a4, a5, a6] [] (MH b m s) else FA cf 38099634 349 [vR m, vI a1, vI a2, vI a3, vI a4, a5, a6] [] (MH b m s) := by
  refine (c_X10_oneToken_343 cf m a1 a2 a3 a4 a5 a6 (MH b m s) ).trans ?_
  try simp only [gI_MH, gJ_MH, gR_MH, pI_MH, pJ_MH]
  try rfl
theorem c_X10_oneToken_349 (cf : Nat → List PV → PH → Rs) (a0 : Nat) (a1 : Int) (a2 : Int) (a3 : Int) (a4 : Int) (a5 : PV) (a6 : PV) (h : PH) : FA cf 38099634 349 [vR a0, vI a1, vI a2, vI a3, vI a4, a5, a6] [] h = if a2 = 91 then FA cf 38099634 445 [vR a0, vI a1, vI a2, vI a3, vI a4, a5, a6] [] h else FA cf 38099634 355 [vR a0, vI a1, vI a2, vI a3, vI a4, a5, a6] [] h := (FA_ex cf 38099634 3 _ _ _ _).trans rfl
theorem k_X10_oneToken_349 (cf : Nat → List PV → PH → Rs) (m : Nat) (a1 : Int) (a2 : Int) (a3 : Int) (a4 : Int) (a5 : PV) (a6 : PV) (b : PH) (s : MS) (B : MB b m) : FA cf 38099634 349 [vR m, vI a1, vI a2, vI a3, vI a4, a5, a6] [] (MH b m s) = if a2 = 91 then FA cf 38099634 445 [vR m, vI a1, vI a2, vI a3, vI a4, a5, a6] [] (MH b m s) else FA cf 38099634 355 [vR m, vI a1, vI a2, vI a3, vI a4, a5, a6] [] (MH b m s) := by
  refine (c_X10_oneToken_349 cf m a1 a2 a3 a4 a5 a6 (MH b m s) ).trans ?_
  try simp only [gI_MH, gJ_MH, gR_MH, pI_MH, pJ_MH]
  try rfl
theorem c_X10_oneToken_355 (cf : Nat → List PV → PH → Rs) (a0 : Nat) (a1 : Int) (a2 : Int) (a3 : Int) (a4 : Int) (a5 : PV) (a6 : PV) (h : PH) : FA cf 38099634 355 [vR a0, vI a1, vI a2, vI a3, vI a4, a5, a6] [] h = if a2 = 93 then FA cf 38099634 445 [vR a0, vI a1, vI a2, vI a3, vI a4, a5, a6] [] h else FA cf 38099634 361 [vR a0, vI a1, vI a2, vI a3, vI a4, a5, a6] [] h := (FA_ex cf 38099634 3 _ _ _ _).trans rfl
theorem k_X10_oneToken_355 (cf : Nat → List PV → PH → Rs) (m : Nat) (a1 : Int) (a2 : Int) (a3 : Int) (a4 : Int) (a5 : PV) (a6 : PV) (b : PH) (s : MS) (B : MB b m) : FA cf 38099634 355 [vR m, vI a1, vI a2, vI a3, vI a4, a5, a6] [] (MH b m s) = if a2 = 93 then FA cf 38099634 445 [vR m, vI a1, vI a2, vI a3, vI a4, a5, a6] [] (MH b m s) else FA cf 38099634 361 [vR m, vI a1, vI a2, vI a3, vI a4, a5, a6] [] (MH b m s) := by
  refine (c_X10_oneToken_355 cf m a1 a2 a3 a4 a5 a6 (MH b m s) ).trans ?_
  try simp only [gI_MH, gJ_MH, gR_MH, pI_MH, pJ_MH]
  try rfl
theorem c_X10_oneToken_361 (cf : Nat → List PV → PH → Rs) (a0 : Nat) (a1 : Int) (a2 : Int) (a3 : Int) (a4 : Int) (a5 : PV) (a6 : PV) (h : PH) : FA cf 38099634 361 [vR a0, vI a1, vI a2, vI a3, vI a4, a5, a6] [] h = if a2 = 44 then FA cf 38099634 445 [vR a0, vI a1, vI a2, vI a3, vI a4, a5, a6] [] h else FA cf 38099634 367 [vR a0, vI a1, vI a2, vI a3, vI a4, a5, a6] [] h := (FA_ex cf 38099634 3 _ _ _ _).trans rfl
theorem k_X10_oneToken_361 (cf : Nat → List PV → PH → Rs) (m : Nat) (a1 : Int) (a2 : Int) (a3 : Int) (a4 : Int) (a5 : PV) (a6 : PV) (b : PH) (s : MS) (B : MB b m) : FA cf 38099634 361 [vR m, vI a1, vI a2, vI a3, vI a4, a5, a6] [] (MH b m s) = if a2 = 44 then FA cf 38099634 445 [vR m, vI a1, vI a2, vI a3, vI a4, a5, a6] [] (MH b m s) else FA cf 38099634 367 [vR m, vI a1, vI a2, vI a3, vI a4, a5, a6] [] (MH b m s) := by
  refine (c_X10_oneToken_361 cf m a1 a2 a3 a4 a5 a6 (MH b m s) ).trans ?_
  try simp only [gI_MH, gJ_MH, gR_MH, pI_MH, pJ_MH]
  try rfl
theorem c_X10_oneToken_367 (cf : Nat → List PV → PH → Rs) (a0 : Nat) (a1 : Int) (a2 : Int) (a3 : Int) (a4 : Int) (a5 : PV) (a6 : PV) (h : PH) : FA cf 38099634 367 [vR a0, vI a1, vI a2, vI a3, vI a4, a5, a6] [] h = if a2 = 59 then FA cf 38099634 445 [vR a0, vI a1, vI a2, vI a3, vI a4, a5, a6] [] h else FA cf 38099634 373 [vR a0, vI a1, vI a2, vI a3, vI a4, a5, a6] [] h := (FA_ex cf 38099634 3 _ _ _ _).trans rfl
theorem k_X10_oneToken_367 (cf : Nat → List PV → PH → Rs) (m : Nat) (a1 : Int) (a2 : Int) (a3 : Int) (a4 : Int) (a5 : PV) (a6 : PV) (b : PH) (s : MS) (B : MB b m) : FA cf 38099634 367 [vR m, vI a1, vI a2, vI a3, vI a4, a5, a6] [] (MH b m s) = if a2 = 59 then FA cf 38099634 445 [vR m, vI a1, vI a2, vI a3, vI a4, a5, a6] [] (MH b m s) else FA cf 38099634 373 [vR m, vI a1, vI a2, vI a3, vI a4, a5, a6] [] (MH b m s) := by
  refine (c_X10_oneToken_367 cf m a1 a2 a3 a4 a5 a6 (MH b m s) ).trans ?_
  try simp only [gI_MH, gJ_MH, gR_MH, pI_MH, pJ_MH]
  try rfl
theorem c_X10_oneToken_373 (cf : Nat → List PV → PH → Rs) (a0 : Nat) (a1 : Int) (a2 : Int) (a3 : Int) (a4 : Int) (a5 : PV) (a6 : PV) (h : PH) : FA cf 38099634 373 [vR a0, vI a1, vI a2, vI a3, vI a4, a5, a6] [] h = if a2 = 58 then FA cf 38099634 445 [vR a0, vI a1, vI a2, vI a3, vI a4, a5, a6] [] h else FA cf 38099634 379 [vR a0, vI a1, vI a2, vI a3, vI a4, a5, a6] [] h := (FA_ex cf 38099634 3 _ _ _ _).trans rfl
theorem k_X10_oneToken_373 (cf : Nat → List PV → PH → Rs) (m : Nat) (a1 : Int) (a2 : Int) (a3 : Int) (a4 : Int) (a5 : PV) (a6 : PV) (b : PH) (s : MS) (B : MB b m) : FA cf 38099634 373 [vR m, vI a1, vI a2, vI a3, vI a4, a5, a6] [] (MH b m s) = if a2 = 58 then FA cf 38099634 445 [vR m, vI a1, vI a2, vI a3, vI a4, a5, a6] [] (MH b m s) else FA cf 38099634 379 [vR m, vI a1, vI a2, vI a3, vI a4, a5, a6] [] (MH b m s) := by
  refine (c_X10_oneToken_373 cf m a1 a2 a3 a4 a5 a6 (MH b m s) ).trans ?_
  try simp only [gI_MH, gJ_MH, gR_MH, pI_MH, pJ_MH]
  try rfl
theorem c_X10_oneToken_379 (cf : Nat → List PV → PH → Rs) (a0 : Nat) (a1 : Int) (a2 : Int) (a3 : Int) (a4 : Int) (a5 : PV) (a6 : PV) (h : PH) : FA cf 38099634 379 [vR a0, vI a1, vI a2, vI a3, vI a4, a5, a6] [] h = if a2 = 43 then FA cf 38099634 445 [vR a0, vI a1, vI a2, vI a3, vI a4, a5, a6] [] h else FA cf 38099634 385 [vR a0, vI a1, vI a2, vI a3, vI a4, a5, a6] [] h := (FA_ex cf 38099634 3 _ _ _ _).trans rfl
theorem k_X10_oneToken_379 (cf : Nat → List PV → PH → Rs) (m : Nat) (a1 : Int) (a2 : Int) (a3 : Int) (a4 : Int) (a5 : PV) (a6 : PV) (b : PH) (s : MS) (B : MB b m) : FA cf 38099634 379 [vR m, vI a1, vI a2, vI a3, vI a4, a5, a6] [] (MH b m s) = if a2 = 43 then FA cf 38099634 445 [vR m, vI a1, vI a2, vI a3, vI a4, a5, a6] [] (MH b m s) else FA cf 38099634 385 [vR m, vI a1, vI a2, vI a3, vI a4, a5, a6] [] (MH b m s) := by
  refine (c_X10_oneToken_379 cf m a1 a2 a3 a4 a5 a6 (MH b m s) ).trans ?_
  try simp only [gI_MH, gJ_MH, gR_MH, pI_MH, pJ_MH]
  try rfl
theorem c_X10_oneToken_385 (cf : Nat → List PV → PH → Rs) (a0 : Nat) (a1 : Int) (a2 : Int) (a3 : Int) (a4 : Int) (a5 : PV) (a6 : PV) (h : PH) : FA cf 38099634 385 [vR a0, vI a1, vI a2, vI a3, vI a4, a5, a6] [] h = if a2 = 45 then FA cf 38099634 445 [vR a0, vI a1, vI a2, vI a3, vI a4, a5, a6] [] h else FA cf 38099634 391 [vR a0, vI a1, vI a2, vI a3, vI a4, a5, a6] [] h := (FA_ex cf 38099634 3 _ _ _ _).trans rfl
theorem k_X10_oneToken_385 (cf : Nat → List PV → PH → Rs) (m : Nat) (a1 : Int) (a2 : Int) (a3 : Int) (a4 : Int) (a5 : PV) (a6 : PV) (b : PH) (s : MS) (B : MB b m) : FA cf 38099634 385 [vR m, vI a1, vI a2, vI a3, vI a4, a5, a6] [] (MH b m s) = if a2 = 45 then FA cf 38099634 445 [vR m, vI a1, vI a2, vI a3, vI a4, a5, a6] [] (MH b m s) else FA cf 38099634 391 [vR m, vI a1, vI a2, vI a3, vI a4, a5, a6] [] (MH b m s) := by
  refine (c_X10_oneToken_385 cf m a1 a2 a3 a4 a5 a6 (MH b m s) ).trans ?_
  try simp only [gI_MH, gJ_MH, gR_MH, pI_MH, pJ_MH]
  try rfl
theorem c_X10_oneToken_391 (cf : Nat → List PV → PH → Rs) (a0 : Nat) (a1 : Int) (a2 : Int) (a3 : Int) (a4 : Int) (a5 : PV) (a6 : PV) (h : PH) : FA cf 38099634 391 [vR a0, vI a1, vI a2, vI a3, vI a4, a5, a6] [] h = if a2 = 42 then FA cf 38099634 445 [vR a0, vI a1, vI a2, vI a3, vI a4, a5, a6] [] h else FA cf 38099634 397 [vR a0, vI a1, vI a2, vI a3, vI a4, a5, a6] [] h := (FA_ex cf 38099634 3 _ _ _ _).trans rfl
theorem k_X10_oneToken_391 (cf : Nat → List PV → PH → Rs) (m : Nat) (a1 : Int) (a2 : Int) (a3 : Int) (a4 : Int) (a5 : PV) (a6 : PV) (b : PH) (s : MS) (B : MB b m) : FA cf 38099634 391 [vR m, vI a1, vI a2, vI a3, vI a4, a5, a6] [] (MH b m s) = if a2 = 42 then FA cf 38099634 445 [vR m, vI a1, vI a2, vI a3, vI a4, a5, a6] [] (MH b m s) else FA cf 38099634 397 [vR m, vI a1, vI a2, vI a3, vI a4, a5, a6] [] (MH b m s) := by
  refine (c_X10_oneToken_391 cf m a1 a2 a3 a4 a5 a6 (MH b m s) ).trans ?_
  try simp only [gI_MH, gJ_MH, gR_MH, pI_MH, pJ_MH]
  try rfl
theorem c_X10_oneToken_397 (cf : Nat → List PV → PH → Rs) (a0 : Nat) (a1 : Int) (a2 : Int) (a3 : Int) (a4 : Int) (a5 : PV) (a6 : PV) (h : PH) : FA cf 38099634 397 [vR a0, vI a1, vI a2, vI a3, vI a4, a5, a6] [] h = if a2 = 47 then FA cf 38099634 445 [vR a0, vI a1, vI a2, vI a3, vI a4, a5, a6] [] h else FA cf 38099634 403 [vR a0, vI a1, vI a2, vI a3, vI a4, a5, a6] [] h := (FA_ex cf 38099634 3 _ _ _ _).trans rfl
theorem k_X10_oneToken_397 (cf : Nat → List PV → PH → Rs) (m : Nat) (a1 : Int) (a2 : Int) (a3 : Int) (a4 : Int) (a5 : PV) (a6 : PV) (b : PH) (s : MS) (B : MB b m) : FA cf 38099634 397 [vR m, vI a1, vI a2, vI a3, vI a4, a5, a6] [] (MH b m s) = if a2 = 47 then FA cf 38099634 445 [vR m, vI a1, vI a2, vI a3, vI a4, a5, a6] [] (MH b m s) else FA cf 38099634 403 [vR m, vI a1, vI a2, vI a3, vI a4, a5, a6] [] (MH b m s) := by
  refine (c_X10_oneToken_397 cf m a1 a2 a3 a4 a5 a6 (MH b m s) ).trans ?_
  try simp only [gI_MH, gJ_MH, gR_MH, pI_MH, pJ_MH]
  try rfl
theorem c_X10_oneToken_403 (cf : Nat → List PV → PH → Rs) (a0 : Nat) (a1 : Int) (a2 : Int) (a3 : Int) (a4 : Int) (a5 : PV) (a6 : PV) (h : PH) : FA cf 38099634 403 [vR a0, vI a1, vI a2, vI a3, vI a4, a5, a6] [] h = if a2 = 37 then FA cf 38099634 445 [vR a0, vI a1, vI a2, vI a3, vI a4, a5, a6] [] h else FA cf 38099634 409 [vR a0, vI a1, vI a2, vI a3, vI a4, a5, a6] [] h := (FA_ex cf 38099634 3 _ _ _ _).trans rfl
theorem k_X10_oneToken_403 (cf : Nat → List PV → PH → Rs) (m : Nat) (a1 : Int) (a2 : Int) (a3 : Int) (a4 : Int) (a5 : PV) (a6 : PV) (b : PH) (s : MS) (B : MB b m) : FA cf 38099634 403 [vR m, vI a1, vI a2, vI a3, vI a4, a5, a6] [] (MH b m s) = if a2 = 37 then FA cf 38099634 445 [vR m, vI a1, vI a2, vI a3, vI a4, a5, a6] [] (MH b m s) else FA cf 38099634 409 [vR m, vI a1, vI a2, vI a3, vI a4, a5, a6] [] (MH b m s) := by
  refine (c_X10_oneToken_403 cf m a1 a2 a3 a4 a5 a6 (MH b m s) ).trans ?_
  try simp only [gI_MH, gJ_MH, gR_MH, pI_MH, pJ_MH]
  try rfl
theorem c_X10_oneToken_409 (cf : Nat → List PV → PH → Rs) (a0 : Nat) (a1 : Int) (a2 : Int) (a3 : Int) (a4 : Int) (a5 : PV) (a6 : PV) (h : PH) : FA cf 38099634 409 [vR a0, vI a1, vI a2, vI a3, vI a4, a5, a6] [] h = if a2 = 38 then FA cf 38099634 445 [vR a0, vI a1, vI a2, vI a3, vI a4, a5, a6] [] h else FA cf 38099634 415 [vR a0, vI a1, vI a2, vI a3, vI a4, a5, a6] [] h := (FA_ex cf 38099634 3 _ _ _ _).trans rfl
theorem k_X10_oneToken_409 (cf : Nat → List PV → PH → Rs) (m : Nat) (a1 : Int) (a2 : Int) (a3 : Int) (a4 : Int) (a5 : PV) (a6 : PV) (b : PH) (s : MS) (B : MB b m) : FA cf 38099634 409 [vR m, vI a1, vI a2, vI a3, vI a4, a5, a6] [] (MH b m s) = if a2 = 38 then FA cf 38099634 445 [vR m, vI a1, vI a2, vI a3, vI a4, a5, a6] [] (MH b m s) else FA cf 38099634 415 [vR m, vI a1, vI a2, vI a3, vI a4, a5, a6] [] (MH b m s) := by
  refine (c_X10_oneToken_409 cf m a1 a2 a3 a4 a5 a6 (MH b m s) ).trans ?_
  try simp only [gI_MH, gJ_MH, gR_MH, pI_MH, pJ_MH]
  try rfl
theorem c_X10_oneToken_415 (cf : Nat → List PV → PH → Rs) (a0 : Nat) (a1 : Int) (a2 : Int) (a3 : Int) (a4 : Int) (a5 : PV) (a6 : PV) (h : PH) : FA cf 38099634 415 [vR a0, vI a1, vI a2, vI a3, vI a4, a5, a6] [] h = if a2 = 33 then FA cf 38099634 445 [vR a0, vI a1, vI a2, vI a3, vI a4, a5, a6] [] h else FA cf 38099634 421 [vR a0, vI a1, vI a2, vI a3, vI a4, a5, a6] [] h := (FA_ex cf 38099634 3 _ _ _ _).trans rfl
theorem k_X10_oneToken_415 (cf : Nat → List PV → PH → Rs) (m : Nat) (a1 : Int) (a2 : Int) (a3 : Int) (a4 : Int) (a5 : PV) (a6 : PV) (b : PH) (s : MS) (B : MB b m) : FA cf 38099634 415 [vR m, vI a1, vI a2, vI a3, vI a4, a5, a6] [] (MH b m s) = if a2 = 33 then FA cf 38099634 445 [vR m, vI a1, vI a2, vI a3, vI a4, a5, a6] [] (MH b m s) else FA cf 38099634 421 [vR m, vI a1, vI a2, vI a3, vI a4, a5, a6] [] (MH b m s) := by
  refine (c_X10_oneToken_415 cf m a1 a2 a3 a4 a5 a6 (MH b m s) ).trans ?_
  try simp only [gI_MH, gJ_MH, gR_MH, pI_MH, pJ_MH]
  try rfl
theorem c_X10_oneToken_421 (cf : Nat → List PV → PH → Rs) (a0 : Nat) (a1 : Int) (a2 : Int) (a3 : Int) (a4 : Int) (a5 : PV) (a6 : PV) (h : PH) : FA cf 38099634 421 [vR a0, vI a1, vI a2, vI a3, vI a4, a5, a6] [] h = if a2 = 126 then FA cf 38099634 445 [vR a0, vI a1, vI a2, vI a3, vI a4, a5, a6] [] h else FA cf 38099634 427 [vR a0, vI a1, vI a2, vI a3, vI a4, a5, a6] [] h := (FA_ex cf 38099634 3 _ _ _ _).trans rfl
theorem k_X10_oneToken_421 (cf : Nat → List PV → PH → Rs) (m : Nat) (a1 : Int) (a2 : Int) (a3 : Int) (a4 : Int) (a5 : PV) (a6 : PV) (b : PH) (s : MS) (B : MB b m) : FA cf 38099634 421 [vR m, vI a1, vI a2, vI a3, vI a4, a5, a6] [] (MH b m s) = if a2 = 126 then FA cf 38099634 445 [vR m, vI a1, vI a2, vI a3, vI a4, a5, a6] [] (MH b m s) else FA cf 38099634 427 [vR m, vI a1, vI a2, vI a3, vI a4, a5, a6] [] (MH b m s) := by
  refine (c_X10_oneToken_421 cf m a1 a2 a3 a4 a5 a6 (MH b m s) ).trans ?_
  try simp only [gI_MH, gJ_MH, gR_MH, pI_MH, pJ_MH]
  try rfl
theorem c_X10_oneToken_427 (cf : Nat → List PV → PH → Rs) (a0 : Nat) (a1 : Int) (a2 : Int) (a3 : Int) (a4 : Int) (a5 : PV) (a6 : PV) (h : PH) : FA cf 38099634 427 [vR a0, vI a1, vI a2, vI a3, vI a4, a5, a6] [] h = if a2 = 61 then FA cf 38099634 445 [vR a0, vI a1, vI a2, vI a3, vI a4, a5, a6] [] h else FA cf 38099634 433 [vR a0, vI a1, vI a2, vI a3, vI a4, a5, a6] [] h := (FA_ex cf 38099634 3 _ _ _ _).trans rfl
theorem k_X10_oneToken_427 (cf : Nat → List PV → PH → Rs) (m : Nat) (a1 : Int) (a2 : Int) (a3 : Int) (a4 : Int) (a5 : PV) (a6 : PV) (b : PH) (s : MS) (B : MB b m) : FA cf 38099634 427 [vR m, vI a1, vI a2, vI a3, vI a4, a5, a6] [] (MH b m s) = if a2 = 61 then FA cf 38099634 445 [vR m, vI a1, vI a2, vI a3, vI a4, a5, a6] [] (MH b m s) else FA cf 38099634 433 [vR m, vI a1, vI a2, vI a3, vI a4, a5, a6] [] (MH b m s) := by
  refine (c_X10_oneToken_427 cf m a1 a2 a3 a4 a5 a6 (MH b m s) ).trans ?_
  try simp only [gI_MH, gJ_MH, gR_MH, pI_MH, pJ_MH]
  try rfl
theorem c_X10_oneToken_433 (cf : Nat → List PV → PH → Rs) (a0 : Nat) (a1 : Int) (a2 : Int) (a3 : Int) (a4 : Int) (a5 : PV) (a6 : PV) (h : PH) : FA cf 38099634 433 [vR a0, vI a1, vI a2, vI a3, vI a4, a5, a6] [] h = if a2 = 60 then FA cf 38099634 445 [vR a0, vI a1, vI a2, vI a3, vI a4, a5, a6] [] h else FA cf 38099634 439 [vR a0, vI a1, vI a2, vI a3, vI a4, a5, a6] [] h := (FA_ex cf 38099634 3 _ _ _ _).trans rfl
theorem k_X10_oneToken_433 (cf : Nat → List PV → PH → Rs) (m : Nat) (a1 : Int) (a2 : Int) (a3 : Int) (a4 : Int) (a5 : PV) (a6 : PV) (b : PH) (s : MS) (B : MB b m) : FA cf 38099634 433 [vR m, vI a1, vI a2, vI a3, vI a4, a5, a6] [] (MH b m s) = if a2 = 60 then FA cf 38099634 445 [vR m, vI a1, vI a2, vI a3, vI a4, a5, a6] [] (MH b m s) else FA cf 38099634 439 [vR m, vI a1, vI a2, vI a3, vI a4, a5, a6] [] (MH b m s) := by
  refine (c_X10_oneToken_433 cf m a1 a2 a3 a4 a5 a6 (MH b m s) ).trans ?_
  try simp only [gI_MH, gJ_MH, gR_MH, pI_MH, pJ_MH]
  try rfl
theorem c_X10_oneToken_439 (cf : Nat → List PV → PH → Rs) (a0 : Nat) (a1 : Int) (a2 : Int) (a3 : Int) (a4 : Int) (a5 : PV) (a6 : PV) (h : PH) : FA cf 38099634 439 [vR a0, vI a1, vI a2, vI a3, vI a4, a5, a6] [] h = if a2 = 62 then FA cf 38099634 445 [vR a0, vI a1, vI a2, vI a3, vI a4, a5, a6] [] h else FA cf 38099634 449 [vR a0, vI a1, vI a2, vI a3, vI a4, a5, a6] [] h := (FA_ex cf 38099634 3 _ _ _ _).trans rfl
theorem k_X10_oneToken_439 (cf : Nat → List PV → PH → Rs) (m : Nat) (a1 : Int) (a2 : Int) (a3 : Int) (a4 : Int) (a5 : PV) (a6 : PV) (b : PH) (s : MS) (B : MB b m) : FA cf 38099634 439 [vR m, vI a1, vI a2, vI a3, vI a4, a5, a6] [] (MH b m s) = if a2 = 62 then FA cf 38099634 445 [vR m, vI a1, vI a2, vI a3, vI a4, a5, a6] [] (MH b m s) else FA cf 38099634 449 [vR m, vI a1, vI a2, vI a3, vI a4, a5, a6] [] (MH b m s) := by
  refine (c_X10_oneToken_439 cf m a1 a2 a3 a4 a5 a6 (MH b m s) ).trans ?_
  try simp only [gI_MH, gJ_MH, gR_MH, pI_MH, pJ_MH]
  try rfl
theorem c_X10_oneToken_445 (cf : Nat → List PV → PH → Rs) (a0 : Nat) (a1 : Int) (a2 : Int) (a3 : Int) (a4 : Int) (a5 : PV) (a6 : PV) (h : PH) : FA cf 38099634 445 [vR a0, vI a1, vI a2, vI a3, vI a4, a5, a6] [] h = FA cf 38099634 450 [vR a0, vI a1, vI a2, vI a3, vI a4, a5, a6] [vI 1] h := (FA_ex cf 38099634 2 _ _ _ _).trans rfl
theorem k_X10_oneToken_445 (cf : Nat → List PV → PH → Rs) (m : Nat) (a1 : Int) (a2 : Int) (a3 : Int) (a4 : Int) (a5 : PV) (a6 : PV) (b : PH) (s : MS) (B : MB b m) : FA cf 38099634 445 [vR m, vI a1, vI a2, vI a3, vI a4, a5, a6] [] (MH b m s) = FA cf 38099634 450 [vR m, vI a1, vI a2, vI a3, vI a4, a5, a6] [vI 1] (MH b m s) := by
  refine (c_X10_oneToken_445 cf m a1 a2 a3 a4 a5 a6 (MH b m s) ).trans ?_
  try simp only [gI_MH, gJ_MH, gR_MH, pI_MH, pJ_MH]
  try rfl
theorem c_X10_oneToken_449 (cf : Nat → List PV → PH → Rs) (a0 : Nat) (a1 : Int) (a2 : Int) (a3 : Int) (a4 : Int) (a5 : PV) (a6 : PV) (h : PH) : FA cf 38099634 449 [vR a0, vI a1, vI a2, vI a3, vI a4, a5, a6] [] h = FA cf 38099634 450 [vR a0, vI a1, vI a2, vI a3, vI a4, a5, a6] [vI 0] h := (FA_ex cf 38099634 1 _ _ _ _).trans rfl
theorem k_X10_oneToken_449 (cf : Nat → List PV → PH → Rs) (m : Nat) (a1 : Int) (a2 : Int) (a3 : Int) (a4 : Int) (a5 : PV) (a6 : PV) (b : PH) (s : MS) (B : MB b m) : FA cf 38099634 449 [vR m, vI a1, vI a2, vI a3, vI a4, a5, a6] [] (MH b m s) = FA cf 38099634 450 [vR m, vI a1, vI a2, vI a3, vI a4, a5, a6] [vI 0] (MH b m s) := by
  refine (c_X10_oneToken_449 cf m a1 a2 a3 a4 a5 a6 (MH b m s) ).trans ?_
  try simp only [gI_MH, gJ_MH, gR_MH, pI_MH, pJ_MH]
  try rfl
theorem c_X10_oneToken_450 (cf : Nat → List PV → PH → Rs) (a0 : Nat) (a1 : Int) (a2 : Int) (a3 : Int) (a4 : Int) (a5 : PV) (a6 : PV) (s0 : Int) (h : PH) : FA cf 38099634 450 [vR a0, vI a1, vI a2, vI a3, vI a4, a5, a6] [vI s0] h = if a4 = 0 then FA cf 38099634 457 [vR a0, vI a1, vI a2, vI a3, vI a4, vI s0, a6] [] h else FA cf 38099634 461 [vR a0, vI a1, vI a2, vI a3, vI a4, vI s0, a6] [] h := (FA_ex cf 38099634 3 _ _ _ _).trans rfl
theorem k_X10_oneToken_450 (cf : Nat → List PV → PH → Rs) (m : Nat) (a1 : Int) (a2 : Int) (a3 : Int) (a4 : Int) (a5 : PV) (a6 : PV) (s0 : Int) (b : PH) (s : MS) (B : MB b m) : FA cf 38099634 450 [vR m, vI a1, vI a2, vI a3, vI a4, a5, a6] [vI s0] (MH b m s) = if a4 = 0 then FA cf 38099634 457 [vR m, vI a1, vI a2, vI a3, vI a4, vI s0, a6] [] (MH b m s) else FA cf 38099634 461 [vR m, vI a1, vI a2, vI a3, vI a4, vI s0, a6] [] (MH b m s) := by
  refine (c_X10_oneToken_450 cf m a1 a2 a3 a4 a5 a6 s0 (MH b m s) ).trans ?_
  try simp only [gI_MH, gJ_MH, gR_MH, pI_MH, pJ_MH]
  try rfl
theorem c_X10_oneToken_457 (cf : Nat → List PV → PH → Rs) (a0 : Nat) (a1 : Int) (a2 : Int) (a3 : Int) (a4 : Int) (a5 : Int) (a6 : PV) (h : PH) : FA cf 38099634 457 [vR a0, vI a1, vI a2, vI a3, vI a4, vI a5, a6] [] h = FA cf 38099634 500 [vR a0, vI a1, vI a2, vI a3, vI a4, vI a5, a6] [vI a2] h := (FA_ex cf 38099634 2 _ _ _ _).trans rfl
theorem k_X10_oneToken_457 (cf : Nat → List PV → PH → Rs) (m : Nat) (a1 : Int) (a2 : Int) (a3 : Int) (a4 : Int) (a5 : Int) (a6 : PV) (b : PH) (s : MS) (B : MB b m) : FA cf 38099634 457 [vR m, vI a1, vI a2, vI a3, vI a4, vI a5, a6] [] (MH b m s) = FA cf 38099634 500 [vR m, vI a1, vI a2, vI a3, vI a4, vI a5, a6] [vI a2] (MH b m s) := by
  refine (c_X10_oneToken_457 cf m a1 a2 a3 a4 a5 a6 (MH b m s) ).trans ?_
  try simp only [gI_MH, gJ_MH, gR_MH, pI_MH, pJ_MH]
  try rfl
theorem c_X10_oneToken_461 (cf : Nat → List PV → PH → Rs) (a0 : Nat) (a1 : Int) (a2 : Int) (a3 : Int) (a4 : Int) (a5 : Int) (a6 : PV) (h : PH) : FA cf 38099634 461 [vR a0, vI a1, vI a2, vI a3, vI a4, vI a5, a6] [] h = if a2 = 58 then FA cf 38099634 467 [vR a0, vI a1, vI a2, vI a3, vI a4, vI a5, a6] [] h else FA cf 38099634 473 [vR a0, vI a1, vI a2, vI a3, vI a4, vI a5, a6] [] h := (FA_ex cf 38099634 3 _ _ _ _).trans rfl
theorem k_X10_oneToken_461 (cf : Nat → List PV → PH → Rs) (m : Nat) (a1 : Int) (a2 : Int) (a3 : Int) (a4 : Int) (a5 : Int) (a6 : PV) (b : PH) (s : MS) (B : MB b m) : FA cf 38099634 461 [vR m, vI a1, vI a2, vI a3, vI a4, vI a5, a6] [] (MH b m s) = if a2 = 58 then FA cf 38099634 467 [vR m, vI a1, vI a2, vI a3, vI a4, vI a5, a6] [] (MH b m s) else FA cf 38099634 473 [vR m, vI a1, vI a2, vI a3, vI a4, vI a5, a6] [] (MH b m s) := by
  refine (c_X10_oneToken_461 cf m a1 a2 a3 a4 a5 a6 (MH b m s) ).trans ?_
  try simp only [gI_MH, gJ_MH, gR_MH, pI_MH, pJ_MH]
  try rfl
theorem c_X10_oneToken_467 (cf : Nat → List PV → PH → Rs) (a0 : Nat) (a1 : Int) (a2 : Int) (a3 : Int) (a4 : Int) (a5 : Int) (a6 : PV) (h : PH) : FA cf 38099634 467 [vR a0, vI a1, vI a2, vI a3, vI a4, vI a5, a6] [] h = FA cf 38099634 500 [vR a0, vI a1, vI a2, vI a3, vI a4, vI a5, a6] [vI 300] h := (FA_ex cf 38099634 2 _ _ _ _).trans rfl
theorem k_X10_oneToken_467 (cf : Nat → List PV → PH → Rs) (m : Nat) (a1 : Int) (a2 : Int) (a3 : Int) (a4 : Int) (a5 : Int) (a6 : PV) (b : PH) (s : MS) (B : MB b m) : FA cf 38099634 467 [vR m, vI a1, vI a2, vI a3, vI a4, vI a5, a6] [] (MH b m s) = FA cf 38099634 500 [vR m, vI a1, vI a2, vI a3, vI a4, vI a5, a6] [vI 300] (MH b m s) := by
  refine (c_X10_oneToken_467 cf m a1 a2 a3 a4 a5 a6 (MH b m s) ).trans ?_
  try simp only [gI_MH, gJ_MH, gR_MH, pI_MH, pJ_MH]
  try rfl
theorem c_X10_oneToken_473 (cf : Nat → List PV → PH → Rs) (a0 : Nat) (a1 : Int) (a2 : Int) (a3 : Int) (a4 : Int) (a5 : Int) (a6 : PV) (h : PH) : FA cf 38099634 473 [vR a0, vI a1, vI a2, vI a3, vI a4, vI a5, a6] [] h = if a2 = 47 then FA cf 38099634 479 [vR a0, vI a1, vI a2, vI a3, vI a4, vI a5, a6] [] h else FA cf 38099634 485 [vR a0, vI a1, vI a2, vI a3, vI a4, vI a5, a6] [] h := (FA_ex cf 38099634 3 _ _ _ _).trans rfl
theorem k_X10_oneToken_473 (cf : Nat → List PV → PH → Rs) (m : Nat) (a1 : Int) (a2 : Int) (a3 : Int) (a4 : Int) (a5 : Int) (a6 : PV) (b : PH) (s : MS) (B : MB b m) : FA cf 38099634 473 [vR m, vI a1, vI a2, vI a3, vI a4, vI a5, a6] [] (MH b m s) = if a2 = 47 then FA cf 38099634 479 [vR m, vI a1, vI a2, vI a3, vI a4, vI a5, a6] [] (MH b m s) else FA cf 38099634 485 [vR m, vI a1, vI a2, vI a3, vI a4, vI a5, a6] [] (MH b m s) := by
  refine (c_X10_oneToken_473 cf m a1 a2 a3 a4 a5 a6 (MH b m s) ).trans ?_
  try simp only [gI_MH, gJ_MH, gR_MH, pI_MH, pJ_MH]
  try rfl
theorem c_X10_oneToken_479 (cf : Nat → List PV → PH → Rs) (a0 : Nat) (a1 : Int) (a2 : Int) (a3 : Int) (a4 : Int) (a5 : Int) (a6 : PV) (h : PH) : FA cf 38099634 479 [vR a0, vI a1, vI a2, vI a3, vI a4, vI a5, a6] [] h = FA cf 38099634 500 [vR a0, vI a1, vI a2, vI a3, vI a4, vI a5, a6] [vI 301] h := (FA_ex cf 38099634 2 _ _ _ _).trans rfl
theorem k_X10_oneToken_479 (cf : Nat → List PV → PH → Rs) (m : Nat) (a1 : Int) (a2 : Int) (a3 : Int) (a4 : Int) (a5 : Int) (a6 : PV) (b : PH) (s : MS) (B : MB b m) : FA cf 38099634 479 [vR m, vI a1, vI a2, vI a3, vI a4, vI a5, a6] [] (MH b m s) = FA cf 38099634 500 [vR m, vI a1, vI a2, vI a3, vI a4, vI a5, a6] [vI 301] (MH b m s) := by
  refine (c_X10_oneToken_479 cf m a1 a2 a3 a4 a5 a6 (MH b m s) ).trans ?_
  try simp only [gI_MH, gJ_MH, gR_MH, pI_MH, pJ_MH]
  try rfl
theorem c_X10_oneToken_485 (cf : Nat → List PV → PH → Rs) (a0 : Nat) (a1 : Int) (a2 : Int) (a3 : Int) (a4 : Int) (a5 : Int) (a6 : PV) (h : PH) : FA cf 38099634 485 [vR a0, vI a1, vI a2, vI a3, vI a4, vI a5, a6] [] h = if a2 = 60 then FA cf 38099634 491 [vR a0, vI a1, vI a2, vI a3, vI a4, vI a5, a6] [] h else FA cf 38099634 497 [vR a0, vI a1, vI a2, vI a3, vI a4, vI a5, a6] [] h := (FA_ex cf 38099634 3 _ _ _ _).trans rfl
theorem k_X10_oneToken_485 (cf : Nat → List PV → PH → Rs) (m : Nat) (a1 : Int) (a2 : Int) (a3 : Int) (a4 : Int) (a5 : Int) (a6 : PV) (b : PH) (s : MS) (B : MB b m) : FA cf 38099634 485 [vR m, vI a1, vI a2, vI a3, vI a4, vI a5, a6] [] (MH b m s) = if a2 = 60 then FA cf 38099634 491 [vR m, vI a1, vI a2, vI a3, vI a4, vI a5, a6] [] (MH b m s) else FA cf 38099634 497 [vR m, vI a1, vI a2, vI a3, vI a4, vI a5, a6] [] (MH b m s) := by
  refine (c_X10_oneToken_485 cf m a1 a2 a3 a4 a5 a6 (MH b m s) ).trans ?_
  try simp only [gI_MH, gJ_MH, gR_MH, pI_MH, pJ_MH]
  try rfl
theorem c_X10_oneToken_491 (cf : Nat → List PV → PH → Rs) (a0 : Nat) (a1 : Int) (a2 : Int) (a3 : Int) (a4 : Int) (a5 : Int) (a6 : PV) (h : PH) : FA cf 38099634 491 [vR a0, vI a1, vI a2, vI a3, vI a4, vI a5, a6] [] h = FA cf 38099634 500 [vR a0, vI a1, vI a2, vI a3, vI a4, vI a5, a6] [vI 302] h := (FA_ex cf 38099634 2 _ _ _ _).trans rfl
theorem k_X10_oneToken_491 (cf : Nat → List PV → PH → Rs) (m : Nat) (a1 : Int) (a2 : Int) (a3 : Int) (a4 : Int) (a5 : Int) (a6 : PV) (b : PH) (s : MS) (B : MB b m) : FA cf 38099634 491 [vR m, vI a1, vI a2, vI a3, vI a4, vI a5, a6] [] (MH b m s) = FA cf 38099634 500 [vR m, vI a1, vI a2, vI a3, vI a4, vI a5, a6] [vI 302] (MH b m s) := by
  refine (c_X10_oneToken_491 cf m a1 a2 a3 a4 a5 a6 (MH b m s) ).trans ?_
  try simp only [gI_MH, gJ_MH, gR_MH, pI_MH, pJ_MH]
  try rfl
theorem c_X10_oneToken_497 (cf : Nat → List PV → PH → Rs) (a0 : Nat) (a1 : Int) (a2 : Int) (a3 : Int) (a4 : Int) (a5 : Int) (a6 : PV) (h : PH) : FA cf 38099634 497 [vR a0, vI a1, vI a2, vI a3, vI a4, vI a5, a6] [] h = FA cf 38099634 500 [vR a0, vI a1, vI a2, vI a3, vI a4, vI a5, a6] [vI 303] h := (FA_ex cf 38099634 1 _ _ _ _).trans rfl
theorem k_X10_oneToken_497 (cf : Nat → List PV → PH → Rs) (m : Nat) (a1 : Int) (a2 : Int) (a3 : Int) (a4 : Int) (a5 : Int) (a6 : PV) (b : PH) (s : MS) (B : MB b m) : FA cf 38099634 497 [vR m, vI a1, vI a2, vI a3, vI a4, vI a5, a6] [] (MH b m s) = FA cf 38099634 500 [vR m, vI a1, vI a2, vI a3, vI a4, vI a5, a6] [vI 303] (MH b m s) := by
  refine (c_X10_oneToken_497 cf m a1 a2 a3 a4 a5 a6 (MH b m s) ).trans ?_
  try simp only [gI_MH, gJ_MH, gR_MH, pI_MH, pJ_MH]
  try rfl
theorem c_X10_oneToken_500 (cf : Nat → List PV → PH → Rs) (a0 : Nat) (a1 : Int) (a2 : Int) (a3 : Int) (a4 : Int) (a5 : Int) (a6 : PV) (s0 : Int) (h : PH) : FA cf 38099634 500 [vR a0, vI a1, vI a2, vI a3, vI a4, vI a5, a6] [vI s0] h = if a5 = 0 then FA cf 38099634 512 [vR a0, vI a1, vI a2, vI a3, vI a4, vI a5, vI s0] [vR a0] h else FA cf 38099634 508 [vR a0, vI a1, vI a2, vI a3, vI a4, vI a5, vI s0] [vR a0] h := (FA_ex cf 38099634 4 _ _ _ _).trans rfl
theorem k_X10_oneToken_500 (cf : Nat → List PV → PH → Rs) (m : Nat) (a1 : Int) (a2 : Int) (a3 : Int) (a4 : Int) (a5 : Int) (a6 : PV) (s0 : Int) (b : PH) (s : MS) (B : MB b m) : FA cf 38099634 500 [vR m, vI a1, vI a2, vI a3, vI a4, vI a5, a6] [vI s0] (MH b m s) = if a5 = 0 then FA cf 38099634 512 [vR m, vI a1, vI a2, vI a3, vI a4, vI a5, vI s0] [vR m] (MH b m s) else FA cf 38099634 508 [vR m, vI a1, vI a2, vI a3, vI a4, vI a5, vI s0] [vR m] (MH b m s) := by
  refine (c_X10_oneToken_500 cf m a1 a2 a3 a4 a5 a6 s0 (MH b m s) ).trans ?_
  try simp only [gI_MH, gJ_MH, gR_MH, pI_MH, pJ_MH]
  try rfl
theorem c_X10_oneToken_508 (cf : Nat → List PV → PH → Rs) (a0 : Nat) (a1 : Int) (a2 : Int) (a3 : Int) (a4 : Int) (a5 : Int) (a6 : Int) (s0 : Nat) (h : PH) : FA cf 38099634 508 [vR a0, vI a1, vI a2, vI a3, vI a4, vI a5, vI a6] [vR s0] h = FA cf 38099634 514 [vR a0, vI a1, vI a2, vI a3, vI a4, vI a5, vI a6] [vI 5, vR s0] h := (FA_ex cf 38099634 2 _ _ _ _).trans rfl
theorem k_X10_oneToken_508 (cf : Nat → List PV → PH → Rs) (m : Nat) (a1 : Int) (a2 : Int) (a3 : Int) (a4 : Int) (a5 : Int) (a6 : Int) (b : PH) (s : MS) (B : MB b m) : FA cf 38099634 508 [vR m, vI a1, vI a2, vI a3, vI a4, vI a5, vI a6] [vR m] (MH b m s) = FA cf 38099634 514 [vR m, vI a1, vI a2, vI a3, vI a4, vI a5, vI a6] [vI 5, vR m] (MH b m s) := by
  refine (c_X10_oneToken_508 cf m a1 a2 a3 a4 a5 a6 m (MH b m s) ).trans ?_
  try simp only [gI_MH, gJ_MH, gR_MH, pI_MH, pJ_MH]
  try rfl
theorem c_X10_oneToken_512 (cf : Nat → List PV → PH → Rs) (a0 : Nat) (a1 : Int) (a2 : Int) (a3 : Int) (a4 : Int) (a5 : Int) (a6 : Int) (s0 : Nat) (h : PH) : FA cf 38099634 512 [vR a0, vI a1, vI a2, vI a3, vI a4, vI a5, vI a6] [vR s0] h = FA cf 38099634 514 [vR a0, vI a1, vI a2, vI a3, vI a4, vI a5, vI a6] [vI 6, vR s0] h := (FA_ex cf 38099634 1 _ _ _ _).trans rfl
theorem k_X10_oneToken_512 (cf : Nat → List PV → PH → Rs) (m : Nat) (a1 : Int) (a2 : Int) (a3 : Int) (a4 : Int) (a5 : Int) (a6 : Int) (b : PH) (s : MS) (B : MB b m) : FA cf 38099634 512 [vR m, vI a1, vI a2, vI a3, vI a4, vI a5, vI a6] [vR m] (MH b m s) = FA cf 38099634 514 [vR m, vI a1, vI a2, vI a3, vI a4, vI a5, vI a6] [vI 6, vR m] (MH b m s) := by
  refine (c_X10_oneToken_512 cf m a1 a2 a3 a4 a5 a6 m (MH b m s) ).trans ?_
  try simp only [gI_MH, gJ_MH, gR_MH, pI_MH, pJ_MH]
  try rfl
theorem c_X10_oneToken_514 (cf : Nat → List PV → PH → Rs) (a0 : Nat) (a1 : Int) (a2 : Int) (a3 : Int) (a4 : Int) (a5 : Int) (a6 : Int) (s0 : Int) (s1 : Nat) (h : PH) (g0 : inT 43 43 (hc h s1)) : FA cf 38099634 514 [vR a0, vI a1, vI a2, vI a3, vI a4, vI a5, vI a6] [vI s0, vR s1] h = bnd (cf 39148213 [vR s1, vI s0, vI a1, vI a6, vJ (lor (lshl a6 56) 1)] h) (fun v h' => FA cf 38099634 528 [vR a0, vI a1, vI a2, vI a3, vI a4, vI a5, vI a6] (pu v []) h') := ((FA_ex cf 38099634 9 _ _ _ _).trans rfl : FA cf 38099634 514 [vR a0, vI a1, vI a2, vI a3, vI a4, vI a5, vI a6] [vI s0, vR s1] h = gd (inT 43 43 (hc h s1)) (bnd (cf 39148213 [vR s1, vI s0, vI a1, vI a6, vJ (lor (lshl a6 56) 1)] h) (fun v h' => FA cf 38099634 528 [vR a0, vI a1, vI a2, vI a3, vI a4, vI a5, vI a6] (pu v []) h'))).trans ((gd_t g0))
theorem k_X10_oneToken_514 (cf : Nat → List PV → PH → Rs) (m : Nat) (a1 : Int) (a2 : Int) (a3 : Int) (a4 : Int) (a5 : Int) (a6 : Int) (s0 : Int) (b : PH) (s : MS) (B : MB b m) : FA cf 38099634 514 [vR m, vI a1, vI a2, vI a3, vI a4, vI a5, vI a6] [vI s0, vR m] (MH b m s) = bnd (cf 39148213 [vR m, vI s0, vI a1, vI a6, vJ (lor (lshl a6 56) 1)] (MH b m s)) (fun v h' => FA cf 38099634 528 [vR m, vI a1, vI a2, vI a3, vI a4, vI a5, vI a6] (pu v []) h') := by
  refine (c_X10_oneToken_514 cf m a1 a2 a3 a4 a5 a6 s0 m (MH b m s) (i11 B.1)).trans ?_
  try simp only [gI_MH, gJ_MH, gR_MH, pI_MH, pJ_MH]
  try rfl
theorem c_X10_oneToken_528 (cf : Nat → List PV → PH → Rs) (a0 : Nat) (a1 : Int) (a2 : Int) (a3 : Int) (a4 : Int) (a5 : Int) (a6 : Int) (h : PH) : FA cf 38099634 528 [vR a0, vI a1, vI a2, vI a3, vI a4, vI a5, vI a6] [] h = if a4 = 0 then FA cf 38099634 539 [vR a0, vI a1, vI a2, vI a3, vI a4, vI a5, vI a6] [] h else FA cf 38099634 533 [vR a0, vI a1, vI a2, vI a3, vI a4, vI a5, vI a6] [] h := (FA_ex cf 38099634 2 _ _ _ _).trans rfl
theorem k_X10_oneToken_528 (cf : Nat → List PV → PH → Rs) (m : Nat) (a1 : Int) (a2 : Int) (a3 : Int) (a4 : Int) (a5 : Int) (a6 : Int) (b : PH) (s : MS) (B : MB b m) : FA cf 38099634 528 [vR m, vI a1, vI a2, vI a3, vI a4, vI a5, vI a6] [] (MH b m s) = if a4 = 0 then FA cf 38099634 539 [vR m, vI a1, vI a2, vI a3, vI a4, vI a5, vI a6] [] (MH b m s) else FA cf 38099634 533 [vR m, vI a1, vI a2, vI a3, vI a4, vI a5, vI a6] [] (MH b m s) := by
  refine (c_X10_oneToken_528 cf m a1 a2 a3 a4 a5 a6 (MH b m s) ).trans ?_
  try simp only [gI_MH, gJ_MH, gR_MH, pI_MH, pJ_MH]
  try rfl
theorem c_X10_oneToken_533 (cf : Nat → List PV → PH → Rs) (a0 : Nat) (a1 : Int) (a2 : Int) (a3 : Int) (a4 : Int) (a5 : Int) (a6 : Int) (h : PH) : FA cf 38099634 533 [vR a0, vI a1, vI a2, vI a3, vI a4, vI a5, vI a6] [] h = FA cf 38099634 540 [vR a0, vI a1, vI a2, vI a3, vI a4, vI a5, vI a6] [vI (w32 (a3 + 1))] h := (FA_ex cf 38099634 4 _ _ _ _).trans rfl
theorem k_X10_oneToken_533 (cf : Nat → List PV → PH → Rs) (m : Nat) (a1 : Int) (a2 : Int) (a3 : Int) (a4 : Int) (a5 : Int) (a6 : Int) (b : PH) (s : MS) (B : MB b m) : FA cf 38099634 533 [vR m, vI a1, vI a2, vI a3, vI a4, vI a5, vI a6] [] (MH b m s) = FA cf 38099634 540 [vR m, vI a1, vI a2, vI a3, vI a4, vI a5, vI a6] [vI (w32 (a3 + 1))] (MH b m s) := by
  refine (c_X10_oneToken_533 cf m a1 a2 a3 a4 a5 a6 (MH b m s) ).trans ?_
  try simp only [gI_MH, gJ_MH, gR_MH, pI_MH, pJ_MH]
  try rfl
theorem c_X10_oneToken_539 (cf : Nat → List PV → PH → Rs) (a0 : Nat) (a1 : Int) (a2 : Int) (a3 : Int) (a4 : Int) (a5 : Int) (a6 : Int) (h : PH) : FA cf 38099634 539 [vR a0, vI a1, vI a2, vI a3, vI a4, vI a5, vI a6] [] h = FA cf 38099634 540 [vR a0, vI a1, vI a2, vI a3, vI a4, vI a5, vI a6] [vI a3] h := (FA_ex cf 38099634 1 _ _ _ _).trans rfl
theorem k_X10_oneToken_539 (cf : Nat → List PV → PH → Rs) (m : Nat) (a1 : Int) (a2 : Int) (a3 : Int) (a4 : Int) (a5 : Int) (a6 : Int) (b : PH) (s : MS) (B : MB b m) : FA cf 38099634 539 [vR m, vI a1, vI a2, vI a3, vI a4, vI a5, vI a6] [] (MH b m s) = FA cf 38099634 540 [vR m, vI a1, vI a2, vI a3, vI a4, vI a5, vI a6] [vI a3] (MH b m s) := by
  refine (c_X10_oneToken_539 cf m a1 a2 a3 a4 a5 a6 (MH b m s) ).trans ?_
  try simp only [gI_MH, gJ_MH, gR_MH, pI_MH, pJ_MH]
  try rfl
theorem c_X10_oneToken_540 (cf : Nat → List PV → PH → Rs) (a0 : Nat) (a1 : Int) (a2 : Int) (a3 : Int) (a4 : Int) (a5 : Int) (a6 : Int) (s0 : Int) (h : PH) : FA cf 38099634 540 [vR a0, vI a1, vI a2, vI a3, vI a4, vI a5, vI a6] [vI s0] h = some (.inl (some (vI s0)), h) := (FA_ex cf 38099634 1 _ _ _ _).trans rfl
theorem k_X10_oneToken_540 (cf : Nat → List PV → PH → Rs) (m : Nat) (a1 : Int) (a2 : Int) (a3 : Int) (a4 : Int) (a5 : Int) (a6 : Int) (s0 : Int) (b : PH) (s : MS) (B : MB b m) : FA cf 38099634 540 [vR m, vI a1, vI a2, vI a3, vI a4, vI a5, vI a6] [vI s0] (MH b m s) = some (.inl (some (vI s0)), (MH b m s)) := by
  refine (c_X10_oneToken_540 cf m a1 a2 a3 a4 a5 a6 s0 (MH b m s) ).trans ?_
  try simp only [gI_MH, gJ_MH, gR_MH, pI_MH, pJ_MH]
  try rfl
