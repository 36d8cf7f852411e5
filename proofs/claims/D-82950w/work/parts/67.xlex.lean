/-! x's TOKENS: the lexer's words -/
set_option maxRecDepth 100000
theorem e_X2_at (d : Nat) (a0 : Nat) (a1 : Int) (h : PH) : F (d + 1) 12331090 [vR a0, vI a1] h = FA (F d) 12331090 0 [vR a0, vI a1] [] h := rfl
theorem c_X2_at_0 (cf : Nat → List PV → PH → Rs) (a0 : Nat) (a1 : Int) (h : PH) (g0 : inT 5 5 (hc h a0)) : FA cf 12331090 0 [vR a0, vI a1] [] h = if a1 < (gI h 361040404 a0) then FA cf 12331090 8 [vR a0, vI a1] [] h else FA cf 12331090 21 [vR a0, vI a1] [] h := ((FA_ex cf 12331090 4 _ _ _ _).trans rfl : FA cf 12331090 0 [vR a0, vI a1] [] h = gd (inT 5 5 (hc h a0)) (if a1 < (gI h 361040404 a0) then FA cf 12331090 8 [vR a0, vI a1] [] h else FA cf 12331090 21 [vR a0, vI a1] [] h)).trans ((gd_t g0))
theorem c_X2_at_8 (cf : Nat → List PV → PH → Rs) (a0 : Nat) (a1 : Int) (h : PH) (g0 : inT 5 5 (hc h a0)) (g1 : (inT 67 69 (hc h (gR h 352651798 a0)) ∨ inT 68 68 (kc h (gR h 352651798 a0))) ∧ inA a1 (hl h (gR h 352651798 a0))) : FA cf 12331090 8 [vR a0, vI a1] [] h = FA cf 12331090 22 [vR a0, vI a1] [vI (iand (if (hc h (gR h 352651798 a0)) = 69 then nz (eI h (gR h 352651798 a0) a1) else (eI h (gR h 352651798 a0) a1)) 255)] h := ((FA_ex cf 12331090 7 _ _ _ _).trans rfl : FA cf 12331090 8 [vR a0, vI a1] [] h = gd (inT 5 5 (hc h a0)) (gd ((inT 67 69 (hc h (gR h 352651798 a0)) ∨ inT 68 68 (kc h (gR h 352651798 a0))) ∧ inA a1 (hl h (gR h 352651798 a0))) (FA cf 12331090 22 [vR a0, vI a1] [vI (iand (if (hc h (gR h 352651798 a0)) = 69 then nz (eI h (gR h 352651798 a0) a1) else (eI h (gR h 352651798 a0) a1)) 255)] h))).trans ((gd_t g0).trans ((gd_t g1)))
theorem c_X2_at_21 (cf : Nat → List PV → PH → Rs) (a0 : Nat) (a1 : Int) (h : PH) : FA cf 12331090 21 [vR a0, vI a1] [] h = FA cf 12331090 22 [vR a0, vI a1] [vI 0] h := (FA_ex cf 12331090 1 _ _ _ _).trans rfl
theorem c_X2_at_22 (cf : Nat → List PV → PH → Rs) (a0 : Nat) (a1 : Int) (s0 : Int) (h : PH) : FA cf 12331090 22 [vR a0, vI a1] [vI s0] h = some (.inl (some (vI s0)), h) := (FA_ex cf 12331090 1 _ _ _ _).trans rfl
theorem e_X2_isIn (d : Nat) (a0 : Int) (a1 : Int) (a2 : Int) (h : PH) : F (d + 1) 12845059 [vI a0, vI a1, vI a2] h = FA (F d) 12845059 0 [vI a0, vI a1, vI a2] [] h := rfl
theorem c_X2_isIn_0 (cf : Nat → List PV → PH → Rs) (a0 : Int) (a1 : Int) (a2 : Int) (h : PH) : FA cf 12845059 0 [vI a0, vI a1, vI a2] [] h = if a0 < a1 then FA cf 12845059 14 [vI a0, vI a1, vI a2] [] h else FA cf 12845059 5 [vI a0, vI a1, vI a2] [] h := (FA_ex cf 12845059 3 _ _ _ _).trans rfl
theorem c_X2_isIn_5 (cf : Nat → List PV → PH → Rs) (a0 : Int) (a1 : Int) (a2 : Int) (h : PH) : FA cf 12845059 5 [vI a0, vI a1, vI a2] [] h = if a2 < a0 then FA cf 12845059 14 [vI a0, vI a1, vI a2] [] h else FA cf 12845059 10 [vI a0, vI a1, vI a2] [] h := (FA_ex cf 12845059 3 _ _ _ _).trans rfl
theorem c_X2_isIn_10 (cf : Nat → List PV → PH → Rs) (a0 : Int) (a1 : Int) (a2 : Int) (h : PH) : FA cf 12845059 10 [vI a0, vI a1, vI a2] [] h = FA cf 12845059 15 [vI a0, vI a1, vI a2] [vI 1] h := (FA_ex cf 12845059 2 _ _ _ _).trans rfl
theorem c_X2_isIn_14 (cf : Nat → List PV → PH → Rs) (a0 : Int) (a1 : Int) (a2 : Int) (h : PH) : FA cf 12845059 14 [vI a0, vI a1, vI a2] [] h = FA cf 12845059 15 [vI a0, vI a1, vI a2] [vI 0] h := (FA_ex cf 12845059 1 _ _ _ _).trans rfl
theorem c_X2_isIn_15 (cf : Nat → List PV → PH → Rs) (a0 : Int) (a1 : Int) (a2 : Int) (s0 : Int) (h : PH) (g0 : (s0 : Int) = 0 ∨ (s0 : Int) = 1) : FA cf 12845059 15 [vI a0, vI a1, vI a2] [vI s0] h = some (.inl (some (vI s0)), h) := ((FA_ex cf 12845059 1 _ _ _ _).trans rfl : FA cf 12845059 15 [vI a0, vI a1, vI a2] [vI s0] h = gd ((s0 : Int) = 0 ∨ (s0 : Int) = 1) (some (.inl (some (vI s0)), h))).trans ((gd_t g0))
theorem e_X2_token (d : Nat) (a0 : Nat) (a1 : Int) (h : PH) : F (d + 1) 12593234 [vR a0, vI a1] h = FA (F d) 12593234 0 [vR a0, vI a1, vX] [] h := rfl
theorem c_X2_token_0 (cf : Nat → List PV → PH → Rs) (a0 : Nat) (a1 : Int) (a2 : PV) (h : PH) (g0 : inT 5 5 (hc h a0)) : FA cf 12593234 0 [vR a0, vI a1, a2] [] h = bnd (cf 12331090 [vR a0, vI a1] h) (fun v h' => FA cf 12593234 5 [vR a0, vI a1, a2] (pu v []) h') := ((FA_ex cf 12593234 3 _ _ _ _).trans rfl : FA cf 12593234 0 [vR a0, vI a1, a2] [] h = gd (inT 5 5 (hc h a0)) (bnd (cf 12331090 [vR a0, vI a1] h) (fun v h' => FA cf 12593234 5 [vR a0, vI a1, a2] (pu v []) h'))).trans ((gd_t g0))
theorem c_X2_token_5 (cf : Nat → List PV → PH → Rs) (a0 : Nat) (a1 : Int) (a2 : PV) (s0 : Int) (h : PH) (g0 : inT 5 5 (hc h a0)) (g1 : inT 71 75 (hc h (gR h 319097366 a0)) ∧ (hc h (gR h 319097366 a0)) ≠ 72 ∧ okE h (hc h (gR h 319097366 a0)) (gR h 3607101442 0) ∧ inA (gI h 344263188 a0) (hl h (gR h 319097366 a0))) (g2 : (hc h (gR h 335874582 a0)) = 66 ∧ inA (gI h 344263188 a0) (hl h (gR h 335874582 a0))) : FA cf 12593234 5 [vR a0, vI a1, a2] [vI s0] h = if a1 < (gI h 361040404 a0) then FA cf 12593234 50 [vR a0, vI a1, vI s0] [] (qJ (qR h (gR h 319097366 a0) (gI h 344263188 a0) (gR h 3607101442 0)) (gR h 335874582 a0) (gI h 344263188 a0) 0) else FA cf 12593234 36 [vR a0, vI a1, vI s0] [] (qJ (qR h (gR h 319097366 a0) (gI h 344263188 a0) (gR h 3607101442 0)) (gR h 335874582 a0) (gI h 344263188 a0) 0) := ((FA_ex cf 12593234 17 _ _ _ _).trans rfl : FA cf 12593234 5 [vR a0, vI a1, a2] [vI s0] h = gd (inT 5 5 (hc h a0)) (gd (inT 5 5 (hc h a0)) (gd (inT 71 75 (hc h (gR h 319097366 a0)) ∧ (hc h (gR h 319097366 a0)) ≠ 72 ∧ okE h (hc h (gR h 319097366 a0)) (gR h 3607101442 0) ∧ inA (gI h 344263188 a0) (hl h (gR h 319097366 a0))) (gd (inT 5 5 (hc h a0)) (gd (inT 5 5 (hc h a0)) (gd ((hc h (gR h 335874582 a0)) = 66 ∧ inA (gI h 344263188 a0) (hl h (gR h 335874582 a0))) (gd (inT 5 5 (hc h a0)) (if a1 < (gI h 361040404 a0) then FA cf 12593234 50 [vR a0, vI a1, vI s0] [] (qJ (qR h (gR h 319097366 a0) (gI h 344263188 a0) (gR h 3607101442 0)) (gR h 335874582 a0) (gI h 344263188 a0) 0) else FA cf 12593234 36 [vR a0, vI a1, vI s0] [] (qJ (qR h (gR h 319097366 a0) (gI h 344263188 a0) (gR h 3607101442 0)) (gR h 335874582 a0) (gI h 344263188 a0) 0))))))))).trans ((gd_t g0).trans ((gd_t g0).trans ((gd_t g1).trans ((gd_t g0).trans ((gd_t g0).trans ((gd_t g2).trans ((gd_t g0))))))))
theorem c_X2_token_36 (cf : Nat → List PV → PH → Rs) (a0 : Nat) (a1 : Int) (a2 : Int) (h : PH) (g0 : inT 5 5 (hc h a0)) (g1 : inT 71 75 (hc h (gR h 319097366 a0)) ∧ (hc h (gR h 319097366 a0)) ≠ 72 ∧ okE h (hc h (gR h 319097366 a0)) (gR h 3598712834 0) ∧ inA (gI h 344263188 a0) (hl h (gR h 319097366 a0))) : FA cf 12593234 36 [vR a0, vI a1, vI a2] [] h = some (.inl (some (vI a1)), (qR h (gR h 319097366 a0) (gI h 344263188 a0) (gR h 3598712834 0))) := ((FA_ex cf 12593234 8 _ _ _ _).trans rfl : FA cf 12593234 36 [vR a0, vI a1, vI a2] [] h = gd (inT 5 5 (hc h a0)) (gd (inT 5 5 (hc h a0)) (gd (inT 71 75 (hc h (gR h 319097366 a0)) ∧ (hc h (gR h 319097366 a0)) ≠ 72 ∧ okE h (hc h (gR h 319097366 a0)) (gR h 3598712834 0) ∧ inA (gI h 344263188 a0) (hl h (gR h 319097366 a0))) (some (.inl (some (vI a1)), (qR h (gR h 319097366 a0) (gI h 344263188 a0) (gR h 3598712834 0))))))).trans ((gd_t g0).trans ((gd_t g0).trans ((gd_t g1))))
theorem c_X2_token_50 (cf : Nat → List PV → PH → Rs) (a0 : Nat) (a1 : Int) (a2 : Int) (h : PH) : FA cf 12593234 50 [vR a0, vI a1, vI a2] [] h = bnd (cf 12845059 [vI a2, vI 65, vI 90] h) (fun v h' => FA cf 12593234 58 [vR a0, vI a1, vI a2] (pu v []) h') := (FA_ex cf 12593234 4 _ _ _ _).trans rfl
theorem c_X2_token_58 (cf : Nat → List PV → PH → Rs) (a0 : Nat) (a1 : Int) (a2 : Int) (s0 : Int) (h : PH) : FA cf 12593234 58 [vR a0, vI a1, vI a2] [vI s0] h = if s0 = 0 then FA cf 12593234 67 [vR a0, vI a1, vI a2] [] h else FA cf 12593234 61 [vR a0, vI a1, vI a2] [] h := (FA_ex cf 12593234 1 _ _ _ _).trans rfl
theorem c_X2_token_61 (cf : Nat → List PV → PH → Rs) (a0 : Nat) (a1 : Int) (a2 : Int) (h : PH) (g0 : inT 5 5 (hc h a0)) : FA cf 12593234 61 [vR a0, vI a1, vI a2] [] h = bnd (cf 13117522 [vR a0, vI a1] h) (fun v h' => FA cf 12593234 66 [vR a0, vI a1, vI a2] (pu v []) h') := ((FA_ex cf 12593234 3 _ _ _ _).trans rfl : FA cf 12593234 61 [vR a0, vI a1, vI a2] [] h = gd (inT 5 5 (hc h a0)) (bnd (cf 13117522 [vR a0, vI a1] h) (fun v h' => FA cf 12593234 66 [vR a0, vI a1, vI a2] (pu v []) h'))).trans ((gd_t g0))
theorem c_X2_token_66 (cf : Nat → List PV → PH → Rs) (a0 : Nat) (a1 : Int) (a2 : Int) (s0 : Int) (h : PH) : FA cf 12593234 66 [vR a0, vI a1, vI a2] [vI s0] h = some (.inl (some (vI s0)), h) := (FA_ex cf 12593234 1 _ _ _ _).trans rfl
theorem c_X2_token_67 (cf : Nat → List PV → PH → Rs) (a0 : Nat) (a1 : Int) (a2 : Int) (h : PH) : FA cf 12593234 67 [vR a0, vI a1, vI a2] [] h = bnd (cf 12845059 [vI a2, vI 97, vI 122] h) (fun v h' => FA cf 12593234 75 [vR a0, vI a1, vI a2] (pu v []) h') := (FA_ex cf 12593234 4 _ _ _ _).trans rfl
theorem c_X2_token_75 (cf : Nat → List PV → PH → Rs) (a0 : Nat) (a1 : Int) (a2 : Int) (s0 : Int) (h : PH) : FA cf 12593234 75 [vR a0, vI a1, vI a2] [vI s0] h = if s0 = 0 then FA cf 12593234 84 [vR a0, vI a1, vI a2] [] h else FA cf 12593234 78 [vR a0, vI a1, vI a2] [] h := (FA_ex cf 12593234 1 _ _ _ _).trans rfl
theorem c_X2_token_78 (cf : Nat → List PV → PH → Rs) (a0 : Nat) (a1 : Int) (a2 : Int) (h : PH) (g0 : inT 5 5 (hc h a0)) : FA cf 12593234 78 [vR a0, vI a1, vI a2] [] h = bnd (cf 13379666 [vR a0, vI a1] h) (fun v h' => FA cf 12593234 83 [vR a0, vI a1, vI a2] (pu v []) h') := ((FA_ex cf 12593234 3 _ _ _ _).trans rfl : FA cf 12593234 78 [vR a0, vI a1, vI a2] [] h = gd (inT 5 5 (hc h a0)) (bnd (cf 13379666 [vR a0, vI a1] h) (fun v h' => FA cf 12593234 83 [vR a0, vI a1, vI a2] (pu v []) h'))).trans ((gd_t g0))
theorem c_X2_token_83 (cf : Nat → List PV → PH → Rs) (a0 : Nat) (a1 : Int) (a2 : Int) (s0 : Int) (h : PH) : FA cf 12593234 83 [vR a0, vI a1, vI a2] [vI s0] h = some (.inl (some (vI s0)), h) := (FA_ex cf 12593234 1 _ _ _ _).trans rfl
theorem c_X2_token_84 (cf : Nat → List PV → PH → Rs) (a0 : Nat) (a1 : Int) (a2 : Int) (h : PH) : FA cf 12593234 84 [vR a0, vI a1, vI a2] [] h = bnd (cf 12845059 [vI a2, vI 48, vI 57] h) (fun v h' => FA cf 12593234 92 [vR a0, vI a1, vI a2] (pu v []) h') := (FA_ex cf 12593234 4 _ _ _ _).trans rfl
theorem c_X2_token_92 (cf : Nat → List PV → PH → Rs) (a0 : Nat) (a1 : Int) (a2 : Int) (s0 : Int) (h : PH) : FA cf 12593234 92 [vR a0, vI a1, vI a2] [vI s0] h = if s0 = 0 then FA cf 12593234 101 [vR a0, vI a1, vI a2] [] h else FA cf 12593234 95 [vR a0, vI a1, vI a2] [] h := (FA_ex cf 12593234 1 _ _ _ _).trans rfl
theorem c_X2_token_95 (cf : Nat → List PV → PH → Rs) (a0 : Nat) (a1 : Int) (a2 : Int) (h : PH) (g0 : inT 5 5 (hc h a0)) : FA cf 12593234 95 [vR a0, vI a1, vI a2] [] h = bnd (cf 13641810 [vR a0, vI a1] h) (fun v h' => FA cf 12593234 100 [vR a0, vI a1, vI a2] (pu v []) h') := ((FA_ex cf 12593234 3 _ _ _ _).trans rfl : FA cf 12593234 95 [vR a0, vI a1, vI a2] [] h = gd (inT 5 5 (hc h a0)) (bnd (cf 13641810 [vR a0, vI a1] h) (fun v h' => FA cf 12593234 100 [vR a0, vI a1, vI a2] (pu v []) h'))).trans ((gd_t g0))
theorem c_X2_token_100 (cf : Nat → List PV → PH → Rs) (a0 : Nat) (a1 : Int) (a2 : Int) (s0 : Int) (h : PH) : FA cf 12593234 100 [vR a0, vI a1, vI a2] [vI s0] h = some (.inl (some (vI s0)), h) := (FA_ex cf 12593234 1 _ _ _ _).trans rfl
theorem c_X2_token_101 (cf : Nat → List PV → PH → Rs) (a0 : Nat) (a1 : Int) (a2 : Int) (h : PH) (g0 : inT 5 5 (hc h a0)) : FA cf 12593234 101 [vR a0, vI a1, vI a2] [] h = bnd (cf 13903955 [vR a0, vI a1, vI a2] h) (fun v h' => FA cf 12593234 107 [vR a0, vI a1, vI a2] (pu v []) h') := ((FA_ex cf 12593234 4 _ _ _ _).trans rfl : FA cf 12593234 101 [vR a0, vI a1, vI a2] [] h = gd (inT 5 5 (hc h a0)) (bnd (cf 13903955 [vR a0, vI a1, vI a2] h) (fun v h' => FA cf 12593234 107 [vR a0, vI a1, vI a2] (pu v []) h'))).trans ((gd_t g0))
theorem c_X2_token_107 (cf : Nat → List PV → PH → Rs) (a0 : Nat) (a1 : Int) (a2 : Int) (s0 : Int) (h : PH) : FA cf 12593234 107 [vR a0, vI a1, vI a2] [vI s0] h = some (.inl (some (vI s0)), h) := (FA_ex cf 12593234 1 _ _ _ _).trans rfl
theorem e_X2_bold (d : Nat) (a0 : Nat) (a1 : Int) (h : PH) : F (d + 1) 13117522 [vR a0, vI a1] h = FA (F d) 13117522 0 [vR a0, vI a1, vX, vX, vX, vX, vX] [] h := rfl
theorem c_X2_bold_0 (cf : Nat → List PV → PH → Rs) (a0 : Nat) (a1 : Int) (a2 : PV) (a3 : PV) (a4 : PV) (a5 : PV) (a6 : PV) (h : PH) : FA cf 13117522 0 [vR a0, vI a1, a2, a3, a4, a5, a6] [] h = FA cf 13117522 4 [vR a0, vI a1, vI 0, vJ 0, vX, a5, a6] [] h := (FA_ex cf 13117522 4 _ _ _ _).trans rfl
theorem c_X2_bold_4 (cf : Nat → List PV → PH → Rs) (a0 : Nat) (a1 : Int) (a2 : Int) (a3 : Int) (a5 : PV) (a6 : PV) (h : PH) (g0 : inT 5 5 (hc h a0)) : FA cf 13117522 4 [vR a0, vI a1, vI a2, vJ a3, vX, a5, a6] [] h = bnd (cf 12331090 [vR a0, vI (w32 (a1 + a2))] h) (fun v h' => FA cf 13117522 11 [vR a0, vI a1, vI a2, vJ a3, vX, a5, a6] (pu v []) h') := ((FA_ex cf 13117522 5 _ _ _ _).trans rfl : FA cf 13117522 4 [vR a0, vI a1, vI a2, vJ a3, vX, a5, a6] [] h = gd (inT 5 5 (hc h a0)) (bnd (cf 12331090 [vR a0, vI (w32 (a1 + a2))] h) (fun v h' => FA cf 13117522 11 [vR a0, vI a1, vI a2, vJ a3, vX, a5, a6] (pu v []) h'))).trans ((gd_t g0))
theorem c_X2_bold_11 (cf : Nat → List PV → PH → Rs) (a0 : Nat) (a1 : Int) (a2 : Int) (a3 : Int) (a5 : PV) (a6 : PV) (s0 : Int) (h : PH) : FA cf 13117522 11 [vR a0, vI a1, vI a2, vJ a3, vX, a5, a6] [vI s0] h = bnd (cf 12845059 [vI s0, vI 65, vI 90] h) (fun v h' => FA cf 13117522 18 [vR a0, vI a1, vI a2, vJ a3, vX, a5, a6] (pu v []) h') := (FA_ex cf 13117522 3 _ _ _ _).trans rfl
theorem c_X2_bold_18 (cf : Nat → List PV → PH → Rs) (a0 : Nat) (a1 : Int) (a2 : Int) (a3 : Int) (a5 : PV) (a6 : PV) (s0 : Int) (h : PH) : FA cf 13117522 18 [vR a0, vI a1, vI a2, vJ a3, vX, a5, a6] [vI s0] h = if s0 = 0 then FA cf 13117522 49 [vR a0, vI a1, vI a2, vJ a3, vX, a5, a6] [] h else FA cf 13117522 21 [vR a0, vI a1, vI a2, vJ a3, vX, a5, a6] [] h := (FA_ex cf 13117522 1 _ _ _ _).trans rfl
theorem c_X2_bold_21 (cf : Nat → List PV → PH → Rs) (a0 : Nat) (a1 : Int) (a2 : Int) (a3 : Int) (a5 : PV) (a6 : PV) (h : PH) : FA cf 13117522 21 [vR a0, vI a1, vI a2, vJ a3, vX, a5, a6] [] h = if a2 < 8 then FA cf 13117522 27 [vR a0, vI a1, vI a2, vJ a3, vX, a5, a6] [] h else FA cf 13117522 43 [vR a0, vI a1, vI a2, vJ a3, vX, a5, a6] [] h := (FA_ex cf 13117522 3 _ _ _ _).trans rfl
theorem c_X2_bold_27 (cf : Nat → List PV → PH → Rs) (a0 : Nat) (a1 : Int) (a2 : Int) (a3 : Int) (a5 : PV) (a6 : PV) (h : PH) (g0 : inT 5 5 (hc h a0)) : FA cf 13117522 27 [vR a0, vI a1, vI a2, vJ a3, vX, a5, a6] [] h = bnd (cf 12331090 [vR a0, vI (w32 (a1 + a2))] h) (fun v h' => FA cf 13117522 35 [vR a0, vI a1, vI a2, vJ a3, vX, a5, a6] (pu v [vJ a3]) h') := ((FA_ex cf 13117522 6 _ _ _ _).trans rfl : FA cf 13117522 27 [vR a0, vI a1, vI a2, vJ a3, vX, a5, a6] [] h = gd (inT 5 5 (hc h a0)) (bnd (cf 12331090 [vR a0, vI (w32 (a1 + a2))] h) (fun v h' => FA cf 13117522 35 [vR a0, vI a1, vI a2, vJ a3, vX, a5, a6] (pu v [vJ a3]) h'))).trans ((gd_t g0))
theorem c_X2_bold_35 (cf : Nat → List PV → PH → Rs) (a0 : Nat) (a1 : Int) (a2 : Int) (a3 : Int) (a5 : PV) (a6 : PV) (s0 : Int) (s1 : Int) (h : PH) : FA cf 13117522 35 [vR a0, vI a1, vI a2, vJ a3, vX, a5, a6] [vI s0, vJ s1] h = FA cf 13117522 43 [vR a0, vI a1, vI a2, vJ (lor s1 (lshl s0 (w32 (8 * a2)))), vX, a5, a6] [] h := (FA_ex cf 13117522 7 _ _ _ _).trans rfl
theorem c_X2_bold_43 (cf : Nat → List PV → PH → Rs) (a0 : Nat) (a1 : Int) (a2 : Int) (a3 : Int) (a5 : PV) (a6 : PV) (h : PH) : FA cf 13117522 43 [vR a0, vI a1, vI a2, vJ a3, vX, a5, a6] [] h = FA cf 13117522 4 [vR a0, vI a1, vI (w32 (a2 + 1)), vJ a3, vX, a5, a6] [] h := (FA_ex cf 13117522 2 _ _ _ _).trans rfl
theorem c_X2_bold_49 (cf : Nat → List PV → PH → Rs) (a0 : Nat) (a1 : Int) (a2 : Int) (a3 : Int) (a5 : PV) (a6 : PV) (h : PH) : FA cf 13117522 49 [vR a0, vI a1, vI a2, vJ a3, vX, a5, a6] [] h = if 8 < a2 then FA cf 13117522 55 [vR a0, vI a1, vI a2, vJ a3, vX, a5, a6] [] h else FA cf 13117522 57 [vR a0, vI a1, vI a2, vJ a3, vX, a5, a6] [] h := (FA_ex cf 13117522 3 _ _ _ _).trans rfl
theorem c_X2_bold_55 (cf : Nat → List PV → PH → Rs) (a0 : Nat) (a1 : Int) (a2 : Int) (a3 : Int) (a5 : PV) (a6 : PV) (h : PH) : FA cf 13117522 55 [vR a0, vI a1, vI a2, vJ a3, vX, a5, a6] [] h = some (.inl (some (vI a1)), h) := (FA_ex cf 13117522 2 _ _ _ _).trans rfl
theorem c_X2_bold_57 (cf : Nat → List PV → PH → Rs) (a0 : Nat) (a1 : Int) (a2 : Int) (a3 : Int) (a5 : PV) (a6 : PV) (h : PH) : FA cf 13117522 57 [vR a0, vI a1, vI a2, vJ a3, vX, a5, a6] [] h = FA cf 13117522 63 [vR a0, vI a1, vI a2, vJ a3, vX, vI 0, vI 0] [] h := (FA_ex cf 13117522 4 _ _ _ _).trans rfl
theorem c_X2_bold_63 (cf : Nat → List PV → PH → Rs) (a0 : Nat) (a1 : Int) (a2 : Int) (a3 : Int) (a5 : Int) (a6 : Int) (h : PH) (g0 : inT 5 5 (hc h a0)) : FA cf 13117522 63 [vR a0, vI a1, vI a2, vJ a3, vX, vI a5, vI a6] [] h = if a6 < (gI h 310708756 a0) then FA cf 13117522 72 [vR a0, vI a1, vI a2, vJ a3, vX, vI a5, vI a6] [] h else FA cf 13117522 102 [vR a0, vI a1, vI a2, vJ a3, vX, vI a5, vI a6] [] h := ((FA_ex cf 13117522 4 _ _ _ _).trans rfl : FA cf 13117522 63 [vR a0, vI a1, vI a2, vJ a3, vX, vI a5, vI a6] [] h = gd (inT 5 5 (hc h a0)) (if a6 < (gI h 310708756 a0) then FA cf 13117522 72 [vR a0, vI a1, vI a2, vJ a3, vX, vI a5, vI a6] [] h else FA cf 13117522 102 [vR a0, vI a1, vI a2, vJ a3, vX, vI a5, vI a6] [] h)).trans ((gd_t g0))
theorem c_X2_bold_72 (cf : Nat → List PV → PH → Rs) (a0 : Nat) (a1 : Int) (a2 : Int) (a3 : Int) (a5 : Int) (a6 : Int) (h : PH) : FA cf 13117522 72 [vR a0, vI a1, vI a2, vJ a3, vX, vI a5, vI a6] [] h = if a5 = 0 then FA cf 13117522 77 [vR a0, vI a1, vI a2, vJ a3, vX, vI a5, vI a6] [] h else FA cf 13117522 89 [vR a0, vI a1, vI a2, vJ a3, vX, vI a5, vI a6] [] h := (FA_ex cf 13117522 2 _ _ _ _).trans rfl
theorem c_X2_bold_77 (cf : Nat → List PV → PH → Rs) (a0 : Nat) (a1 : Int) (a2 : Int) (a3 : Int) (a5 : Int) (a6 : Int) (h : PH) (g0 : inT 5 5 (hc h a0)) (g1 : (hc h (gR h 302320150 a0)) = 66 ∧ inA a6 (hl h (gR h 302320150 a0))) : FA cf 13117522 77 [vR a0, vI a1, vI a2, vJ a3, vX, vI a5, vI a6] [] h = if (lcm (eJ h (gR h 302320150 a0) a6) a3) = 0 then FA cf 13117522 89 [vR a0, vI a1, vI a2, vJ a3, vX, vI a5, vI a6] [] h else FA cf 13117522 93 [vR a0, vI a1, vI a2, vJ a3, vX, vI a5, vI a6] [] h := ((FA_ex cf 13117522 7 _ _ _ _).trans rfl : FA cf 13117522 77 [vR a0, vI a1, vI a2, vJ a3, vX, vI a5, vI a6] [] h = gd (inT 5 5 (hc h a0)) (gd ((hc h (gR h 302320150 a0)) = 66 ∧ inA a6 (hl h (gR h 302320150 a0))) (if (lcm (eJ h (gR h 302320150 a0) a6) a3) = 0 then FA cf 13117522 89 [vR a0, vI a1, vI a2, vJ a3, vX, vI a5, vI a6] [] h else FA cf 13117522 93 [vR a0, vI a1, vI a2, vJ a3, vX, vI a5, vI a6] [] h))).trans ((gd_t g0).trans ((gd_t g1)))
theorem c_X2_bold_89 (cf : Nat → List PV → PH → Rs) (a0 : Nat) (a1 : Int) (a2 : Int) (a3 : Int) (a5 : Int) (a6 : Int) (h : PH) : FA cf 13117522 89 [vR a0, vI a1, vI a2, vJ a3, vX, vI a5, vI a6] [] h = FA cf 13117522 94 [vR a0, vI a1, vI a2, vJ a3, vX, vI a5, vI a6] [vI 1] h := (FA_ex cf 13117522 2 _ _ _ _).trans rfl
theorem c_X2_bold_93 (cf : Nat → List PV → PH → Rs) (a0 : Nat) (a1 : Int) (a2 : Int) (a3 : Int) (a5 : Int) (a6 : Int) (h : PH) : FA cf 13117522 93 [vR a0, vI a1, vI a2, vJ a3, vX, vI a5, vI a6] [] h = FA cf 13117522 94 [vR a0, vI a1, vI a2, vJ a3, vX, vI a5, vI a6] [vI 0] h := (FA_ex cf 13117522 1 _ _ _ _).trans rfl
theorem c_X2_bold_94 (cf : Nat → List PV → PH → Rs) (a0 : Nat) (a1 : Int) (a2 : Int) (a3 : Int) (a5 : Int) (a6 : Int) (s0 : Int) (h : PH) : FA cf 13117522 94 [vR a0, vI a1, vI a2, vJ a3, vX, vI a5, vI a6] [vI s0] h = FA cf 13117522 63 [vR a0, vI a1, vI a2, vJ a3, vX, vI s0, vI (w32 (a6 + 1))] [] h := (FA_ex cf 13117522 3 _ _ _ _).trans rfl
theorem c_X2_bold_102 (cf : Nat → List PV → PH → Rs) (a0 : Nat) (a1 : Int) (a2 : Int) (a3 : Int) (a5 : Int) (a6 : Int) (h : PH) (g0 : inT 5 5 (hc h a0)) : FA cf 13117522 102 [vR a0, vI a1, vI a2, vJ a3, vX, vI a5, vI a6] [] h = if a5 = 0 then FA cf 13117522 121 [vR a0, vI a1, vI a2, vJ a3, vX, vI a5, vI a6] [vI (gI h 344263188 a0), vR (gR h 319097366 a0)] h else FA cf 13117522 115 [vR a0, vI a1, vI a2, vJ a3, vX, vI a5, vI a6] [vI (gI h 344263188 a0), vR (gR h 319097366 a0)] h := ((FA_ex cf 13117522 6 _ _ _ _).trans rfl : FA cf 13117522 102 [vR a0, vI a1, vI a2, vJ a3, vX, vI a5, vI a6] [] h = gd (inT 5 5 (hc h a0)) (gd (inT 5 5 (hc h a0)) (if a5 = 0 then FA cf 13117522 121 [vR a0, vI a1, vI a2, vJ a3, vX, vI a5, vI a6] [vI (gI h 344263188 a0), vR (gR h 319097366 a0)] h else FA cf 13117522 115 [vR a0, vI a1, vI a2, vJ a3, vX, vI a5, vI a6] [vI (gI h 344263188 a0), vR (gR h 319097366 a0)] h))).trans ((gd_t g0).trans ((gd_t g0)))
theorem c_X2_bold_115 (cf : Nat → List PV → PH → Rs) (a0 : Nat) (a1 : Int) (a2 : Int) (a3 : Int) (a5 : Int) (a6 : Int) (s0 : Int) (s1 : Nat) (h : PH) : FA cf 13117522 115 [vR a0, vI a1, vI a2, vJ a3, vX, vI a5, vI a6] [vI s0, vR s1] h = FA cf 13117522 124 [vR a0, vI a1, vI a2, vJ a3, vX, vI a5, vI a6] [vR (gR h 3615490050 0), vI s0, vR s1] h := (FA_ex cf 13117522 2 _ _ _ _).trans rfl
theorem c_X2_bold_121 (cf : Nat → List PV → PH → Rs) (a0 : Nat) (a1 : Int) (a2 : Int) (a3 : Int) (a5 : Int) (a6 : Int) (s0 : Int) (s1 : Nat) (h : PH) : FA cf 13117522 121 [vR a0, vI a1, vI a2, vJ a3, vX, vI a5, vI a6] [vI s0, vR s1] h = FA cf 13117522 124 [vR a0, vI a1, vI a2, vJ a3, vX, vI a5, vI a6] [vR (gR h 3623878658 0), vI s0, vR s1] h := (FA_ex cf 13117522 1 _ _ _ _).trans rfl
theorem c_X2_bold_124 (cf : Nat → List PV → PH → Rs) (a0 : Nat) (a1 : Int) (a2 : Int) (a3 : Int) (a5 : Int) (a6 : Int) (s0 : Nat) (s1 : Int) (s2 : Nat) (h : PH) (g0 : inT 71 75 (hc h s2) ∧ (hc h s2) ≠ 72 ∧ okE h (hc h s2) s0 ∧ inA s1 (hl h s2)) (g1 : inT 5 5 (hc h a0)) (g2 : (hc h (gR h 335874582 a0)) = 66 ∧ inA (gI h 344263188 a0) (hl h (gR h 335874582 a0))) : FA cf 13117522 124 [vR a0, vI a1, vI a2, vJ a3, vX, vI a5, vI a6] [vR s0, vI s1, vR s2] h = some (.inl (some (vI (w32 (a1 + a2)))), (qJ (qR h s2 s1 s0) (gR h 335874582 a0) (gI h 344263188 a0) a3)) := ((FA_ex cf 13117522 11 _ _ _ _).trans rfl : FA cf 13117522 124 [vR a0, vI a1, vI a2, vJ a3, vX, vI a5, vI a6] [vR s0, vI s1, vR s2] h = gd (inT 71 75 (hc h s2) ∧ (hc h s2) ≠ 72 ∧ okE h (hc h s2) s0 ∧ inA s1 (hl h s2)) (gd (inT 5 5 (hc h a0)) (gd (inT 5 5 (hc h a0)) (gd ((hc h (gR h 335874582 a0)) = 66 ∧ inA (gI h 344263188 a0) (hl h (gR h 335874582 a0))) (some (.inl (some (vI (w32 (a1 + a2)))), (qJ (qR h s2 s1 s0) (gR h 335874582 a0) (gI h 344263188 a0) a3))))))).trans ((gd_t g0).trans ((gd_t g1).trans ((gd_t g1).trans ((gd_t g2)))))
theorem e_X2_tag (d : Nat) (a0 : Nat) (a1 : Int) (h : PH) : F (d + 1) 13379666 [vR a0, vI a1] h = FA (F d) 13379666 0 [vR a0, vI a1, vX, vX, vX] [] h := rfl
theorem c_X2_tag_0 (cf : Nat → List PV → PH → Rs) (a0 : Nat) (a1 : Int) (a2 : PV) (a3 : PV) (a4 : PV) (h : PH) : FA cf 13379666 0 [vR a0, vI a1, a2, a3, a4] [] h = FA cf 13379666 4 [vR a0, vI a1, vI 0, vJ 0, vX] [] h := (FA_ex cf 13379666 4 _ _ _ _).trans rfl
theorem c_X2_tag_4 (cf : Nat → List PV → PH → Rs) (a0 : Nat) (a1 : Int) (a2 : Int) (a3 : Int) (h : PH) (g0 : inT 5 5 (hc h a0)) : FA cf 13379666 4 [vR a0, vI a1, vI a2, vJ a3, vX] [] h = bnd (cf 12331090 [vR a0, vI (w32 (a1 + a2))] h) (fun v h' => FA cf 13379666 11 [vR a0, vI a1, vI a2, vJ a3, vX] (pu v []) h') := ((FA_ex cf 13379666 5 _ _ _ _).trans rfl : FA cf 13379666 4 [vR a0, vI a1, vI a2, vJ a3, vX] [] h = gd (inT 5 5 (hc h a0)) (bnd (cf 12331090 [vR a0, vI (w32 (a1 + a2))] h) (fun v h' => FA cf 13379666 11 [vR a0, vI a1, vI a2, vJ a3, vX] (pu v []) h'))).trans ((gd_t g0))
theorem c_X2_tag_11 (cf : Nat → List PV → PH → Rs) (a0 : Nat) (a1 : Int) (a2 : Int) (a3 : Int) (s0 : Int) (h : PH) : FA cf 13379666 11 [vR a0, vI a1, vI a2, vJ a3, vX] [vI s0] h = bnd (cf 12845059 [vI s0, vI 97, vI 122] h) (fun v h' => FA cf 13379666 18 [vR a0, vI a1, vI a2, vJ a3, vX] (pu v []) h') := (FA_ex cf 13379666 3 _ _ _ _).trans rfl
theorem c_X2_tag_18 (cf : Nat → List PV → PH → Rs) (a0 : Nat) (a1 : Int) (a2 : Int) (a3 : Int) (s0 : Int) (h : PH) : FA cf 13379666 18 [vR a0, vI a1, vI a2, vJ a3, vX] [vI s0] h = if s0 = 0 then FA cf 13379666 21 [vR a0, vI a1, vI a2, vJ a3, vX] [] h else FA cf 13379666 38 [vR a0, vI a1, vI a2, vJ a3, vX] [] h := (FA_ex cf 13379666 1 _ _ _ _).trans rfl
theorem c_X2_tag_21 (cf : Nat → List PV → PH → Rs) (a0 : Nat) (a1 : Int) (a2 : Int) (a3 : Int) (h : PH) (g0 : inT 5 5 (hc h a0)) : FA cf 13379666 21 [vR a0, vI a1, vI a2, vJ a3, vX] [] h = bnd (cf 12331090 [vR a0, vI (w32 (a1 + a2))] h) (fun v h' => FA cf 13379666 28 [vR a0, vI a1, vI a2, vJ a3, vX] (pu v []) h') := ((FA_ex cf 13379666 5 _ _ _ _).trans rfl : FA cf 13379666 21 [vR a0, vI a1, vI a2, vJ a3, vX] [] h = gd (inT 5 5 (hc h a0)) (bnd (cf 12331090 [vR a0, vI (w32 (a1 + a2))] h) (fun v h' => FA cf 13379666 28 [vR a0, vI a1, vI a2, vJ a3, vX] (pu v []) h'))).trans ((gd_t g0))
theorem c_X2_tag_28 (cf : Nat → List PV → PH → Rs) (a0 : Nat) (a1 : Int) (a2 : Int) (a3 : Int) (s0 : Int) (h : PH) : FA cf 13379666 28 [vR a0, vI a1, vI a2, vJ a3, vX] [vI s0] h = bnd (cf 12845059 [vI s0, vI 48, vI 57] h) (fun v h' => FA cf 13379666 35 [vR a0, vI a1, vI a2, vJ a3, vX] (pu v []) h') := (FA_ex cf 13379666 3 _ _ _ _).trans rfl
theorem c_X2_tag_35 (cf : Nat → List PV → PH → Rs) (a0 : Nat) (a1 : Int) (a2 : Int) (a3 : Int) (s0 : Int) (h : PH) : FA cf 13379666 35 [vR a0, vI a1, vI a2, vJ a3, vX] [vI s0] h = if s0 = 0 then FA cf 13379666 66 [vR a0, vI a1, vI a2, vJ a3, vX] [] h else FA cf 13379666 38 [vR a0, vI a1, vI a2, vJ a3, vX] [] h := (FA_ex cf 13379666 1 _ _ _ _).trans rfl
theorem c_X2_tag_38 (cf : Nat → List PV → PH → Rs) (a0 : Nat) (a1 : Int) (a2 : Int) (a3 : Int) (h : PH) : FA cf 13379666 38 [vR a0, vI a1, vI a2, vJ a3, vX] [] h = if a2 < 8 then FA cf 13379666 44 [vR a0, vI a1, vI a2, vJ a3, vX] [] h else FA cf 13379666 60 [vR a0, vI a1, vI a2, vJ a3, vX] [] h := (FA_ex cf 13379666 3 _ _ _ _).trans rfl
theorem c_X2_tag_44 (cf : Nat → List PV → PH → Rs) (a0 : Nat) (a1 : Int) (a2 : Int) (a3 : Int) (h : PH) (g0 : inT 5 5 (hc h a0)) : FA cf 13379666 44 [vR a0, vI a1, vI a2, vJ a3, vX] [] h = bnd (cf 12331090 [vR a0, vI (w32 (a1 + a2))] h) (fun v h' => FA cf 13379666 52 [vR a0, vI a1, vI a2, vJ a3, vX] (pu v [vJ a3]) h') := ((FA_ex cf 13379666 6 _ _ _ _).trans rfl : FA cf 13379666 44 [vR a0, vI a1, vI a2, vJ a3, vX] [] h = gd (inT 5 5 (hc h a0)) (bnd (cf 12331090 [vR a0, vI (w32 (a1 + a2))] h) (fun v h' => FA cf 13379666 52 [vR a0, vI a1, vI a2, vJ a3, vX] (pu v [vJ a3]) h'))).trans ((gd_t g0))
theorem c_X2_tag_52 (cf : Nat → List PV → PH → Rs) (a0 : Nat) (a1 : Int) (a2 : Int) (a3 : Int) (s0 : Int) (s1 : Int) (h : PH) : FA cf 13379666 52 [vR a0, vI a1, vI a2, vJ a3, vX] [vI s0, vJ s1] h = FA cf 13379666 60 [vR a0, vI a1, vI a2, vJ (lor s1 (lshl s0 (w32 (8 * a2)))), vX] [] h := (FA_ex cf 13379666 7 _ _ _ _).trans rfl
theorem c_X2_tag_60 (cf : Nat → List PV → PH → Rs) (a0 : Nat) (a1 : Int) (a2 : Int) (a3 : Int) (h : PH) : FA cf 13379666 60 [vR a0, vI a1, vI a2, vJ a3, vX] [] h = FA cf 13379666 4 [vR a0, vI a1, vI (w32 (a2 + 1)), vJ a3, vX] [] h := (FA_ex cf 13379666 2 _ _ _ _).trans rfl
theorem c_X2_tag_66 (cf : Nat → List PV → PH → Rs) (a0 : Nat) (a1 : Int) (a2 : Int) (a3 : Int) (h : PH) : FA cf 13379666 66 [vR a0, vI a1, vI a2, vJ a3, vX] [] h = if 8 < a2 then FA cf 13379666 72 [vR a0, vI a1, vI a2, vJ a3, vX] [] h else FA cf 13379666 74 [vR a0, vI a1, vI a2, vJ a3, vX] [] h := (FA_ex cf 13379666 3 _ _ _ _).trans rfl
theorem c_X2_tag_72 (cf : Nat → List PV → PH → Rs) (a0 : Nat) (a1 : Int) (a2 : Int) (a3 : Int) (h : PH) : FA cf 13379666 72 [vR a0, vI a1, vI a2, vJ a3, vX] [] h = some (.inl (some (vI a1)), h) := (FA_ex cf 13379666 2 _ _ _ _).trans rfl
theorem c_X2_tag_74 (cf : Nat → List PV → PH → Rs) (a0 : Nat) (a1 : Int) (a2 : Int) (a3 : Int) (h : PH) (g0 : inT 5 5 (hc h a0)) (g1 : inT 71 75 (hc h (gR h 319097366 a0)) ∧ (hc h (gR h 319097366 a0)) ≠ 72 ∧ okE h (hc h (gR h 319097366 a0)) (gR h 3632267266 0) ∧ inA (gI h 344263188 a0) (hl h (gR h 319097366 a0))) (g2 : (hc h (gR h 335874582 a0)) = 66 ∧ inA (gI h 344263188 a0) (hl h (gR h 335874582 a0))) : FA cf 13379666 74 [vR a0, vI a1, vI a2, vJ a3, vX] [] h = some (.inl (some (vI (w32 (a1 + a2)))), (qJ (qR h (gR h 319097366 a0) (gI h 344263188 a0) (gR h 3632267266 0)) (gR h 335874582 a0) (gI h 344263188 a0) a3)) := ((FA_ex cf 13379666 16 _ _ _ _).trans rfl : FA cf 13379666 74 [vR a0, vI a1, vI a2, vJ a3, vX] [] h = gd (inT 5 5 (hc h a0)) (gd (inT 5 5 (hc h a0)) (gd (inT 71 75 (hc h (gR h 319097366 a0)) ∧ (hc h (gR h 319097366 a0)) ≠ 72 ∧ okE h (hc h (gR h 319097366 a0)) (gR h 3632267266 0) ∧ inA (gI h 344263188 a0) (hl h (gR h 319097366 a0))) (gd (inT 5 5 (hc h a0)) (gd (inT 5 5 (hc h a0)) (gd ((hc h (gR h 335874582 a0)) = 66 ∧ inA (gI h 344263188 a0) (hl h (gR h 335874582 a0))) (some (.inl (some (vI (w32 (a1 + a2)))), (qJ (qR h (gR h 319097366 a0) (gI h 344263188 a0) (gR h 3632267266 0)) (gR h 335874582 a0) (gI h 344263188 a0) a3))))))))).trans ((gd_t g0).trans ((gd_t g0).trans ((gd_t g1).trans ((gd_t g0).trans ((gd_t g0).trans ((gd_t g2)))))))
theorem e_X2_number (d : Nat) (a0 : Nat) (a1 : Int) (h : PH) : F (d + 1) 13641810 [vR a0, vI a1] h = FA (F d) 13641810 0 [vR a0, vI a1, vX, vX, vX] [] h := rfl
theorem c_X2_number_0 (cf : Nat → List PV → PH → Rs) (a0 : Nat) (a1 : Int) (a2 : PV) (a3 : PV) (a4 : PV) (h : PH) : FA cf 13641810 0 [vR a0, vI a1, a2, a3, a4] [] h = FA cf 13641810 4 [vR a0, vI a1, vI 0, vJ 0, vX] [] h := (FA_ex cf 13641810 4 _ _ _ _).trans rfl
theorem c_X2_number_4 (cf : Nat → List PV → PH → Rs) (a0 : Nat) (a1 : Int) (a2 : Int) (a3 : Int) (h : PH) (g0 : inT 5 5 (hc h a0)) : FA cf 13641810 4 [vR a0, vI a1, vI a2, vJ a3, vX] [] h = bnd (cf 12331090 [vR a0, vI (w32 (a1 + a2))] h) (fun v h' => FA cf 13641810 11 [vR a0, vI a1, vI a2, vJ a3, vX] (pu v []) h') := ((FA_ex cf 13641810 5 _ _ _ _).trans rfl : FA cf 13641810 4 [vR a0, vI a1, vI a2, vJ a3, vX] [] h = gd (inT 5 5 (hc h a0)) (bnd (cf 12331090 [vR a0, vI (w32 (a1 + a2))] h) (fun v h' => FA cf 13641810 11 [vR a0, vI a1, vI a2, vJ a3, vX] (pu v []) h'))).trans ((gd_t g0))
theorem c_X2_number_11 (cf : Nat → List PV → PH → Rs) (a0 : Nat) (a1 : Int) (a2 : Int) (a3 : Int) (s0 : Int) (h : PH) : FA cf 13641810 11 [vR a0, vI a1, vI a2, vJ a3, vX] [vI s0] h = bnd (cf 12845059 [vI s0, vI 48, vI 57] h) (fun v h' => FA cf 13641810 18 [vR a0, vI a1, vI a2, vJ a3, vX] (pu v []) h') := (FA_ex cf 13641810 3 _ _ _ _).trans rfl
theorem c_X2_number_18 (cf : Nat → List PV → PH → Rs) (a0 : Nat) (a1 : Int) (a2 : Int) (a3 : Int) (s0 : Int) (h : PH) : FA cf 13641810 18 [vR a0, vI a1, vI a2, vJ a3, vX] [vI s0] h = if s0 = 0 then FA cf 13641810 52 [vR a0, vI a1, vI a2, vJ a3, vX] [] h else FA cf 13641810 21 [vR a0, vI a1, vI a2, vJ a3, vX] [] h := (FA_ex cf 13641810 1 _ _ _ _).trans rfl
theorem c_X2_number_21 (cf : Nat → List PV → PH → Rs) (a0 : Nat) (a1 : Int) (a2 : Int) (a3 : Int) (h : PH) : FA cf 13641810 21 [vR a0, vI a1, vI a2, vJ a3, vX] [] h = if a2 < 10 then FA cf 13641810 27 [vR a0, vI a1, vI a2, vJ a3, vX] [] h else FA cf 13641810 46 [vR a0, vI a1, vI a2, vJ a3, vX] [] h := (FA_ex cf 13641810 3 _ _ _ _).trans rfl
theorem c_X2_number_27 (cf : Nat → List PV → PH → Rs) (a0 : Nat) (a1 : Int) (a2 : Int) (a3 : Int) (h : PH) (g0 : inT 5 5 (hc h a0)) : FA cf 13641810 27 [vR a0, vI a1, vI a2, vJ a3, vX] [] h = bnd (cf 12331090 [vR a0, vI (w32 (a1 + a2))] h) (fun v h' => FA cf 13641810 39 [vR a0, vI a1, vI a2, vJ a3, vX] (pu v [vJ (w64 ((10) * a3))]) h') := ((FA_ex cf 13641810 8 _ _ _ _).trans rfl : FA cf 13641810 27 [vR a0, vI a1, vI a2, vJ a3, vX] [] h = gd (inT 5 5 (hc h a0)) (bnd (cf 12331090 [vR a0, vI (w32 (a1 + a2))] h) (fun v h' => FA cf 13641810 39 [vR a0, vI a1, vI a2, vJ a3, vX] (pu v [vJ (w64 ((10) * a3))]) h'))).trans ((gd_t g0))
theorem c_X2_number_39 (cf : Nat → List PV → PH → Rs) (a0 : Nat) (a1 : Int) (a2 : Int) (a3 : Int) (s0 : Int) (s1 : Int) (h : PH) : FA cf 13641810 39 [vR a0, vI a1, vI a2, vJ a3, vX] [vI s0, vJ s1] h = FA cf 13641810 46 [vR a0, vI a1, vI a2, vJ (w64 ((w64 (s1 + s0)) - (48))), vX] [] h := (FA_ex cf 13641810 5 _ _ _ _).trans rfl
theorem c_X2_number_46 (cf : Nat → List PV → PH → Rs) (a0 : Nat) (a1 : Int) (a2 : Int) (a3 : Int) (h : PH) : FA cf 13641810 46 [vR a0, vI a1, vI a2, vJ a3, vX] [] h = FA cf 13641810 4 [vR a0, vI a1, vI (w32 (a2 + 1)), vJ a3, vX] [] h := (FA_ex cf 13641810 2 _ _ _ _).trans rfl
theorem c_X2_number_52 (cf : Nat → List PV → PH → Rs) (a0 : Nat) (a1 : Int) (a2 : Int) (a3 : Int) (h : PH) : FA cf 13641810 52 [vR a0, vI a1, vI a2, vJ a3, vX] [] h = if 10 < a2 then FA cf 13641810 66 [vR a0, vI a1, vI a2, vJ a3, vX] [] h else FA cf 13641810 58 [vR a0, vI a1, vI a2, vJ a3, vX] [] h := (FA_ex cf 13641810 3 _ _ _ _).trans rfl
theorem c_X2_number_58 (cf : Nat → List PV → PH → Rs) (a0 : Nat) (a1 : Int) (a2 : Int) (a3 : Int) (h : PH) : FA cf 13641810 58 [vR a0, vI a1, vI a2, vJ a3, vX] [] h = if 0 < (lcm a3 (2147483647)) then FA cf 13641810 66 [vR a0, vI a1, vI a2, vJ a3, vX] [] h else FA cf 13641810 68 [vR a0, vI a1, vI a2, vJ a3, vX] [] h := (FA_ex cf 13641810 4 _ _ _ _).trans rfl
theorem c_X2_number_66 (cf : Nat → List PV → PH → Rs) (a0 : Nat) (a1 : Int) (a2 : Int) (a3 : Int) (h : PH) : FA cf 13641810 66 [vR a0, vI a1, vI a2, vJ a3, vX] [] h = some (.inl (some (vI a1)), h) := (FA_ex cf 13641810 2 _ _ _ _).trans rfl
theorem c_X2_number_68 (cf : Nat → List PV → PH → Rs) (a0 : Nat) (a1 : Int) (a2 : Int) (a3 : Int) (h : PH) (g0 : inT 5 5 (hc h a0)) (g1 : inT 71 75 (hc h (gR h 319097366 a0)) ∧ (hc h (gR h 319097366 a0)) ≠ 72 ∧ okE h (hc h (gR h 319097366 a0)) (gR h 3640655874 0) ∧ inA (gI h 344263188 a0) (hl h (gR h 319097366 a0))) (g2 : (hc h (gR h 335874582 a0)) = 66 ∧ inA (gI h 344263188 a0) (hl h (gR h 335874582 a0))) : FA cf 13641810 68 [vR a0, vI a1, vI a2, vJ a3, vX] [] h = some (.inl (some (vI (w32 (a1 + a2)))), (qJ (qR h (gR h 319097366 a0) (gI h 344263188 a0) (gR h 3640655874 0)) (gR h 335874582 a0) (gI h 344263188 a0) a3)) := ((FA_ex cf 13641810 16 _ _ _ _).trans rfl : FA cf 13641810 68 [vR a0, vI a1, vI a2, vJ a3, vX] [] h = gd (inT 5 5 (hc h a0)) (gd (inT 5 5 (hc h a0)) (gd (inT 71 75 (hc h (gR h 319097366 a0)) ∧ (hc h (gR h 319097366 a0)) ≠ 72 ∧ okE h (hc h (gR h 319097366 a0)) (gR h 3640655874 0) ∧ inA (gI h 344263188 a0) (hl h (gR h 319097366 a0))) (gd (inT 5 5 (hc h a0)) (gd (inT 5 5 (hc h a0)) (gd ((hc h (gR h 335874582 a0)) = 66 ∧ inA (gI h 344263188 a0) (hl h (gR h 335874582 a0))) (some (.inl (some (vI (w32 (a1 + a2)))), (qJ (qR h (gR h 319097366 a0) (gI h 344263188 a0) (gR h 3640655874 0)) (gR h 335874582 a0) (gI h 344263188 a0) a3))))))))).trans ((gd_t g0).trans ((gd_t g0).trans ((gd_t g1).trans ((gd_t g0).trans ((gd_t g0).trans ((gd_t g2)))))))
theorem e_X2_sign (d : Nat) (a0 : Nat) (a1 : Int) (a2 : Int) (h : PH) : F (d + 1) 13903955 [vR a0, vI a1, vI a2] h = FA (F d) 13903955 0 [vR a0, vI a1, vI a2, vX, vX, vX, vX, vX] [] h := rfl
theorem c_X2_sign_0 (cf : Nat → List PV → PH → Rs) (a0 : Nat) (a1 : Int) (a2 : Int) (a3 : PV) (a4 : PV) (a5 : PV) (a6 : PV) (a7 : PV) (h : PH) (g0 : inT 5 5 (hc h a0)) : FA cf 13903955 0 [vR a0, vI a1, vI a2, a3, a4, a5, a6, a7] [] h = bnd (cf 12331090 [vR a0, vI (w32 (a1 + 1))] h) (fun v h' => FA cf 13903955 7 [vR a0, vI a1, vI a2, a3, a4, a5, a6, a7] (pu v []) h') := ((FA_ex cf 13903955 5 _ _ _ _).trans rfl : FA cf 13903955 0 [vR a0, vI a1, vI a2, a3, a4, a5, a6, a7] [] h = gd (inT 5 5 (hc h a0)) (bnd (cf 12331090 [vR a0, vI (w32 (a1 + 1))] h) (fun v h' => FA cf 13903955 7 [vR a0, vI a1, vI a2, a3, a4, a5, a6, a7] (pu v []) h'))).trans ((gd_t g0))
theorem c_X2_sign_7 (cf : Nat → List PV → PH → Rs) (a0 : Nat) (a1 : Int) (a2 : Int) (a3 : PV) (a4 : PV) (a5 : PV) (a6 : PV) (a7 : PV) (s0 : Int) (h : PH) : FA cf 13903955 7 [vR a0, vI a1, vI a2, a3, a4, a5, a6, a7] [vI s0] h = if a2 = 58 then FA cf 13903955 14 [vR a0, vI a1, vI a2, vI s0, a4, a5, a6, a7] [] h else FA cf 13903955 24 [vR a0, vI a1, vI a2, vI s0, a4, a5, a6, a7] [] h := (FA_ex cf 13903955 4 _ _ _ _).trans rfl
theorem c_X2_sign_14 (cf : Nat → List PV → PH → Rs) (a0 : Nat) (a1 : Int) (a2 : Int) (a3 : Int) (a4 : PV) (a5 : PV) (a6 : PV) (a7 : PV) (h : PH) : FA cf 13903955 14 [vR a0, vI a1, vI a2, vI a3, a4, a5, a6, a7] [] h = if a3 = 61 then FA cf 13903955 20 [vR a0, vI a1, vI a2, vI a3, a4, a5, a6, a7] [] h else FA cf 13903955 24 [vR a0, vI a1, vI a2, vI a3, a4, a5, a6, a7] [] h := (FA_ex cf 13903955 3 _ _ _ _).trans rfl
theorem c_X2_sign_20 (cf : Nat → List PV → PH → Rs) (a0 : Nat) (a1 : Int) (a2 : Int) (a3 : Int) (a4 : PV) (a5 : PV) (a6 : PV) (a7 : PV) (h : PH) : FA cf 13903955 20 [vR a0, vI a1, vI a2, vI a3, a4, a5, a6, a7] [] h = FA cf 13903955 25 [vR a0, vI a1, vI a2, vI a3, a4, a5, a6, a7] [vI 1] h := (FA_ex cf 13903955 2 _ _ _ _).trans rfl
theorem c_X2_sign_24 (cf : Nat → List PV → PH → Rs) (a0 : Nat) (a1 : Int) (a2 : Int) (a3 : Int) (a4 : PV) (a5 : PV) (a6 : PV) (a7 : PV) (h : PH) : FA cf 13903955 24 [vR a0, vI a1, vI a2, vI a3, a4, a5, a6, a7] [] h = FA cf 13903955 25 [vR a0, vI a1, vI a2, vI a3, a4, a5, a6, a7] [vI 0] h := (FA_ex cf 13903955 1 _ _ _ _).trans rfl
theorem c_X2_sign_25 (cf : Nat → List PV → PH → Rs) (a0 : Nat) (a1 : Int) (a2 : Int) (a3 : Int) (a4 : PV) (a5 : PV) (a6 : PV) (a7 : PV) (s0 : Int) (h : PH) : FA cf 13903955 25 [vR a0, vI a1, vI a2, vI a3, a4, a5, a6, a7] [vI s0] h = if s0 = 0 then FA cf 13903955 32 [vR a0, vI a1, vI a2, vI a3, vI s0, a5, a6, a7] [] h else FA cf 13903955 56 [vR a0, vI a1, vI a2, vI a3, vI s0, a5, a6, a7] [] h := (FA_ex cf 13903955 3 _ _ _ _).trans rfl
theorem c_X2_sign_32 (cf : Nat → List PV → PH → Rs) (a0 : Nat) (a1 : Int) (a2 : Int) (a3 : Int) (a4 : Int) (a5 : PV) (a6 : PV) (a7 : PV) (h : PH) : FA cf 13903955 32 [vR a0, vI a1, vI a2, vI a3, vI a4, a5, a6, a7] [] h = if a3 = 61 then FA cf 13903955 38 [vR a0, vI a1, vI a2, vI a3, vI a4, a5, a6, a7] [] h else FA cf 13903955 60 [vR a0, vI a1, vI a2, vI a3, vI a4, a5, a6, a7] [] h := (FA_ex cf 13903955 3 _ _ _ _).trans rfl
theorem c_X2_sign_38 (cf : Nat → List PV → PH → Rs) (a0 : Nat) (a1 : Int) (a2 : Int) (a3 : Int) (a4 : Int) (a5 : PV) (a6 : PV) (a7 : PV) (h : PH) : FA cf 13903955 38 [vR a0, vI a1, vI a2, vI a3, vI a4, a5, a6, a7] [] h = if a2 = 47 then FA cf 13903955 56 [vR a0, vI a1, vI a2, vI a3, vI a4, a5, a6, a7] [] h else FA cf 13903955 44 [vR a0, vI a1, vI a2, vI a3, vI a4, a5, a6, a7] [] h := (FA_ex cf 13903955 3 _ _ _ _).trans rfl
theorem c_X2_sign_44 (cf : Nat → List PV → PH → Rs) (a0 : Nat) (a1 : Int) (a2 : Int) (a3 : Int) (a4 : Int) (a5 : PV) (a6 : PV) (a7 : PV) (h : PH) : FA cf 13903955 44 [vR a0, vI a1, vI a2, vI a3, vI a4, a5, a6, a7] [] h = if a2 = 60 then FA cf 13903955 56 [vR a0, vI a1, vI a2, vI a3, vI a4, a5, a6, a7] [] h else FA cf 13903955 50 [vR a0, vI a1, vI a2, vI a3, vI a4, a5, a6, a7] [] h := (FA_ex cf 13903955 3 _ _ _ _).trans rfl
theorem c_X2_sign_50 (cf : Nat → List PV → PH → Rs) (a0 : Nat) (a1 : Int) (a2 : Int) (a3 : Int) (a4 : Int) (a5 : PV) (a6 : PV) (a7 : PV) (h : PH) : FA cf 13903955 50 [vR a0, vI a1, vI a2, vI a3, vI a4, a5, a6, a7] [] h = if a2 = 62 then FA cf 13903955 56 [vR a0, vI a1, vI a2, vI a3, vI a4, a5, a6, a7] [] h else FA cf 13903955 60 [vR a0, vI a1, vI a2, vI a3, vI a4, a5, a6, a7] [] h := (FA_ex cf 13903955 3 _ _ _ _).trans rfl
theorem c_X2_sign_56 (cf : Nat → List PV → PH → Rs) (a0 : Nat) (a1 : Int) (a2 : Int) (a3 : Int) (a4 : Int) (a5 : PV) (a6 : PV) (a7 : PV) (h : PH) : FA cf 13903955 56 [vR a0, vI a1, vI a2, vI a3, vI a4, a5, a6, a7] [] h = FA cf 13903955 61 [vR a0, vI a1, vI a2, vI a3, vI a4, a5, a6, a7] [vI 1] h := (FA_ex cf 13903955 2 _ _ _ _).trans rfl
theorem c_X2_sign_60 (cf : Nat → List PV → PH → Rs) (a0 : Nat) (a1 : Int) (a2 : Int) (a3 : Int) (a4 : Int) (a5 : PV) (a6 : PV) (a7 : PV) (h : PH) : FA cf 13903955 60 [vR a0, vI a1, vI a2, vI a3, vI a4, a5, a6, a7] [] h = FA cf 13903955 61 [vR a0, vI a1, vI a2, vI a3, vI a4, a5, a6, a7] [vI 0] h := (FA_ex cf 13903955 1 _ _ _ _).trans rfl
theorem c_X2_sign_61 (cf : Nat → List PV → PH → Rs) (a0 : Nat) (a1 : Int) (a2 : Int) (a3 : Int) (a4 : Int) (a5 : PV) (a6 : PV) (a7 : PV) (s0 : Int) (h : PH) : FA cf 13903955 61 [vR a0, vI a1, vI a2, vI a3, vI a4, a5, a6, a7] [vI s0] h = if a2 = 40 then FA cf 13903955 105 [vR a0, vI a1, vI a2, vI a3, vI a4, vI s0, a6, a7] [] h else FA cf 13903955 69 [vR a0, vI a1, vI a2, vI a3, vI a4, vI s0, a6, a7] [] h := (FA_ex cf 13903955 4 _ _ _ _).trans rfl
theorem c_X2_sign_69 (cf : Nat → List PV → PH → Rs) (a0 : Nat) (a1 : Int) (a2 : Int) (a3 : Int) (a4 : Int) (a5 : Int) (a6 : PV) (a7 : PV) (h : PH) : FA cf 13903955 69 [vR a0, vI a1, vI a2, vI a3, vI a4, vI a5, a6, a7] [] h = if a2 = 41 then FA cf 13903955 105 [vR a0, vI a1, vI a2, vI a3, vI a4, vI a5, a6, a7] [] h else FA cf 13903955 75 [vR a0, vI a1, vI a2, vI a3, vI a4, vI a5, a6, a7] [] h := (FA_ex cf 13903955 3 _ _ _ _).trans rfl
theorem c_X2_sign_75 (cf : Nat → List PV → PH → Rs) (a0 : Nat) (a1 : Int) (a2 : Int) (a3 : Int) (a4 : Int) (a5 : Int) (a6 : PV) (a7 : PV) (h : PH) : FA cf 13903955 75 [vR a0, vI a1, vI a2, vI a3, vI a4, vI a5, a6, a7] [] h = if a2 = 91 then FA cf 13903955 105 [vR a0, vI a1, vI a2, vI a3, vI a4, vI a5, a6, a7] [] h else FA cf 13903955 81 [vR a0, vI a1, vI a2, vI a3, vI a4, vI a5, a6, a7] [] h := (FA_ex cf 13903955 3 _ _ _ _).trans rfl
theorem c_X2_sign_81 (cf : Nat → List PV → PH → Rs) (a0 : Nat) (a1 : Int) (a2 : Int) (a3 : Int) (a4 : Int) (a5 : Int) (a6 : PV) (a7 : PV) (h : PH) : FA cf 13903955 81 [vR a0, vI a1, vI a2, vI a3, vI a4, vI a5, a6, a7] [] h = if a2 = 93 then FA cf 13903955 105 [vR a0, vI a1, vI a2, vI a3, vI a4, vI a5, a6, a7] [] h else FA cf 13903955 87 [vR a0, vI a1, vI a2, vI a3, vI a4, vI a5, a6, a7] [] h := (FA_ex cf 13903955 3 _ _ _ _).trans rfl
theorem c_X2_sign_87 (cf : Nat → List PV → PH → Rs) (a0 : Nat) (a1 : Int) (a2 : Int) (a3 : Int) (a4 : Int) (a5 : Int) (a6 : PV) (a7 : PV) (h : PH) : FA cf 13903955 87 [vR a0, vI a1, vI a2, vI a3, vI a4, vI a5, a6, a7] [] h = if a2 = 44 then FA cf 13903955 105 [vR a0, vI a1, vI a2, vI a3, vI a4, vI a5, a6, a7] [] h else FA cf 13903955 93 [vR a0, vI a1, vI a2, vI a3, vI a4, vI a5, a6, a7] [] h := (FA_ex cf 13903955 3 _ _ _ _).trans rfl
theorem c_X2_sign_93 (cf : Nat → List PV → PH → Rs) (a0 : Nat) (a1 : Int) (a2 : Int) (a3 : Int) (a4 : Int) (a5 : Int) (a6 : PV) (a7 : PV) (h : PH) : FA cf 13903955 93 [vR a0, vI a1, vI a2, vI a3, vI a4, vI a5, a6, a7] [] h = if a2 = 59 then FA cf 13903955 105 [vR a0, vI a1, vI a2, vI a3, vI a4, vI a5, a6, a7] [] h else FA cf 13903955 99 [vR a0, vI a1, vI a2, vI a3, vI a4, vI a5, a6, a7] [] h := (FA_ex cf 13903955 3 _ _ _ _).trans rfl
theorem c_X2_sign_99 (cf : Nat → List PV → PH → Rs) (a0 : Nat) (a1 : Int) (a2 : Int) (a3 : Int) (a4 : Int) (a5 : Int) (a6 : PV) (a7 : PV) (h : PH) : FA cf 13903955 99 [vR a0, vI a1, vI a2, vI a3, vI a4, vI a5, a6, a7] [] h = if a2 = 58 then FA cf 13903955 105 [vR a0, vI a1, vI a2, vI a3, vI a4, vI a5, a6, a7] [] h else FA cf 13903955 109 [vR a0, vI a1, vI a2, vI a3, vI a4, vI a5, a6, a7] [] h := (FA_ex cf 13903955 3 _ _ _ _).trans rfl
theorem c_X2_sign_105 (cf : Nat → List PV → PH → Rs) (a0 : Nat) (a1 : Int) (a2 : Int) (a3 : Int) (a4 : Int) (a5 : Int) (a6 : PV) (a7 : PV) (h : PH) : FA cf 13903955 105 [vR a0, vI a1, vI a2, vI a3, vI a4, vI a5, a6, a7] [] h = FA cf 13903955 110 [vR a0, vI a1, vI a2, vI a3, vI a4, vI a5, a6, a7] [vI 1] h := (FA_ex cf 13903955 2 _ _ _ _).trans rfl
theorem c_X2_sign_109 (cf : Nat → List PV → PH → Rs) (a0 : Nat) (a1 : Int) (a2 : Int) (a3 : Int) (a4 : Int) (a5 : Int) (a6 : PV) (a7 : PV) (h : PH) : FA cf 13903955 109 [vR a0, vI a1, vI a2, vI a3, vI a4, vI a5, a6, a7] [] h = FA cf 13903955 110 [vR a0, vI a1, vI a2, vI a3, vI a4, vI a5, a6, a7] [vI 0] h := (FA_ex cf 13903955 1 _ _ _ _).trans rfl
theorem c_X2_sign_110 (cf : Nat → List PV → PH → Rs) (a0 : Nat) (a1 : Int) (a2 : Int) (a3 : Int) (a4 : Int) (a5 : Int) (a6 : PV) (a7 : PV) (s0 : Int) (h : PH) : FA cf 13903955 110 [vR a0, vI a1, vI a2, vI a3, vI a4, vI a5, a6, a7] [vI s0] h = if a2 = 43 then FA cf 13903955 178 [vR a0, vI a1, vI a2, vI a3, vI a4, vI a5, vI s0, a7] [] h else FA cf 13903955 118 [vR a0, vI a1, vI a2, vI a3, vI a4, vI a5, vI s0, a7] [] h := (FA_ex cf 13903955 4 _ _ _ _).trans rfl
theorem c_X2_sign_118 (cf : Nat → List PV → PH → Rs) (a0 : Nat) (a1 : Int) (a2 : Int) (a3 : Int) (a4 : Int) (a5 : Int) (a6 : Int) (a7 : PV) (h : PH) : FA cf 13903955 118 [vR a0, vI a1, vI a2, vI a3, vI a4, vI a5, vI a6, a7] [] h = if a2 = 45 then FA cf 13903955 178 [vR a0, vI a1, vI a2, vI a3, vI a4, vI a5, vI a6, a7] [] h else FA cf 13903955 124 [vR a0, vI a1, vI a2, vI a3, vI a4, vI a5, vI a6, a7] [] h := (FA_ex cf 13903955 3 _ _ _ _).trans rfl
theorem c_X2_sign_124 (cf : Nat → List PV → PH → Rs) (a0 : Nat) (a1 : Int) (a2 : Int) (a3 : Int) (a4 : Int) (a5 : Int) (a6 : Int) (a7 : PV) (h : PH) : FA cf 13903955 124 [vR a0, vI a1, vI a2, vI a3, vI a4, vI a5, vI a6, a7] [] h = if a2 = 42 then FA cf 13903955 178 [vR a0, vI a1, vI a2, vI a3, vI a4, vI a5, vI a6, a7] [] h else FA cf 13903955 130 [vR a0, vI a1, vI a2, vI a3, vI a4, vI a5, vI a6, a7] [] h := (FA_ex cf 13903955 3 _ _ _ _).trans rfl
theorem c_X2_sign_130 (cf : Nat → List PV → PH → Rs) (a0 : Nat) (a1 : Int) (a2 : Int) (a3 : Int) (a4 : Int) (a5 : Int) (a6 : Int) (a7 : PV) (h : PH) : FA cf 13903955 130 [vR a0, vI a1, vI a2, vI a3, vI a4, vI a5, vI a6, a7] [] h = if a2 = 47 then FA cf 13903955 178 [vR a0, vI a1, vI a2, vI a3, vI a4, vI a5, vI a6, a7] [] h else FA cf 13903955 136 [vR a0, vI a1, vI a2, vI a3, vI a4, vI a5, vI a6, a7] [] h := (FA_ex cf 13903955 3 _ _ _ _).trans rfl
theorem c_X2_sign_136 (cf : Nat → List PV → PH → Rs) (a0 : Nat) (a1 : Int) (a2 : Int) (a3 : Int) (a4 : Int) (a5 : Int) (a6 : Int) (a7 : PV) (h : PH) : FA cf 13903955 136 [vR a0, vI a1, vI a2, vI a3, vI a4, vI a5, vI a6, a7] [] h = if a2 = 37 then FA cf 13903955 178 [vR a0, vI a1, vI a2, vI a3, vI a4, vI a5, vI a6, a7] [] h else FA cf 13903955 142 [vR a0, vI a1, vI a2, vI a3, vI a4, vI a5, vI a6, a7] [] h := (FA_ex cf 13903955 3 _ _ _ _).trans rfl
theorem c_X2_sign_142 (cf : Nat → List PV → PH → Rs) (a0 : Nat) (a1 : Int) (a2 : Int) (a3 : Int) (a4 : Int) (a5 : Int) (a6 : Int) (a7 : PV) (h : PH) : FA cf 13903955 142 [vR a0, vI a1, vI a2, vI a3, vI a4, vI a5, vI a6, a7] [] h = if a2 = 38 then FA cf 13903955 178 [vR a0, vI a1, vI a2, vI a3, vI a4, vI a5, vI a6, a7] [] h else FA cf 13903955 148 [vR a0, vI a1, vI a2, vI a3, vI a4, vI a5, vI a6, a7] [] h := (FA_ex cf 13903955 3 _ _ _ _).trans rfl
theorem c_X2_sign_148 (cf : Nat → List PV → PH → Rs) (a0 : Nat) (a1 : Int) (a2 : Int) (a3 : Int) (a4 : Int) (a5 : Int) (a6 : Int) (a7 : PV) (h : PH) : FA cf 13903955 148 [vR a0, vI a1, vI a2, vI a3, vI a4, vI a5, vI a6, a7] [] h = if a2 = 33 then FA cf 13903955 178 [vR a0, vI a1, vI a2, vI a3, vI a4, vI a5, vI a6, a7] [] h else FA cf 13903955 154 [vR a0, vI a1, vI a2, vI a3, vI a4, vI a5, vI a6, a7] [] h := (FA_ex cf 13903955 3 _ _ _ _).trans rfl
theorem c_X2_sign_154 (cf : Nat → List PV → PH → Rs) (a0 : Nat) (a1 : Int) (a2 : Int) (a3 : Int) (a4 : Int) (a5 : Int) (a6 : Int) (a7 : PV) (h : PH) : FA cf 13903955 154 [vR a0, vI a1, vI a2, vI a3, vI a4, vI a5, vI a6, a7] [] h = if a2 = 126 then FA cf 13903955 178 [vR a0, vI a1, vI a2, vI a3, vI a4, vI a5, vI a6, a7] [] h else FA cf 13903955 160 [vR a0, vI a1, vI a2, vI a3, vI a4, vI a5, vI a6, a7] [] h := (FA_ex cf 13903955 3 _ _ _ _).trans rfl
theorem c_X2_sign_160 (cf : Nat → List PV → PH → Rs) (a0 : Nat) (a1 : Int) (a2 : Int) (a3 : Int) (a4 : Int) (a5 : Int) (a6 : Int) (a7 : PV) (h : PH) : FA cf 13903955 160 [vR a0, vI a1, vI a2, vI a3, vI a4, vI a5, vI a6, a7] [] h = if a2 = 61 then FA cf 13903955 178 [vR a0, vI a1, vI a2, vI a3, vI a4, vI a5, vI a6, a7] [] h else FA cf 13903955 166 [vR a0, vI a1, vI a2, vI a3, vI a4, vI a5, vI a6, a7] [] h := (FA_ex cf 13903955 3 _ _ _ _).trans rfl
theorem c_X2_sign_166 (cf : Nat → List PV → PH → Rs) (a0 : Nat) (a1 : Int) (a2 : Int) (a3 : Int) (a4 : Int) (a5 : Int) (a6 : Int) (a7 : PV) (h : PH) : FA cf 13903955 166 [vR a0, vI a1, vI a2, vI a3, vI a4, vI a5, vI a6, a7] [] h = if a2 = 60 then FA cf 13903955 178 [vR a0, vI a1, vI a2, vI a3, vI a4, vI a5, vI a6, a7] [] h else FA cf 13903955 172 [vR a0, vI a1, vI a2, vI a3, vI a4, vI a5, vI a6, a7] [] h := (FA_ex cf 13903955 3 _ _ _ _).trans rfl
theorem c_X2_sign_172 (cf : Nat → List PV → PH → Rs) (a0 : Nat) (a1 : Int) (a2 : Int) (a3 : Int) (a4 : Int) (a5 : Int) (a6 : Int) (a7 : PV) (h : PH) : FA cf 13903955 172 [vR a0, vI a1, vI a2, vI a3, vI a4, vI a5, vI a6, a7] [] h = if a2 = 62 then FA cf 13903955 178 [vR a0, vI a1, vI a2, vI a3, vI a4, vI a5, vI a6, a7] [] h else FA cf 13903955 182 [vR a0, vI a1, vI a2, vI a3, vI a4, vI a5, vI a6, a7] [] h := (FA_ex cf 13903955 3 _ _ _ _).trans rfl
theorem c_X2_sign_178 (cf : Nat → List PV → PH → Rs) (a0 : Nat) (a1 : Int) (a2 : Int) (a3 : Int) (a4 : Int) (a5 : Int) (a6 : Int) (a7 : PV) (h : PH) : FA cf 13903955 178 [vR a0, vI a1, vI a2, vI a3, vI a4, vI a5, vI a6, a7] [] h = FA cf 13903955 183 [vR a0, vI a1, vI a2, vI a3, vI a4, vI a5, vI a6, a7] [vI 1] h := (FA_ex cf 13903955 2 _ _ _ _).trans rfl
theorem c_X2_sign_182 (cf : Nat → List PV → PH → Rs) (a0 : Nat) (a1 : Int) (a2 : Int) (a3 : Int) (a4 : Int) (a5 : Int) (a6 : Int) (a7 : PV) (h : PH) : FA cf 13903955 182 [vR a0, vI a1, vI a2, vI a3, vI a4, vI a5, vI a6, a7] [] h = FA cf 13903955 183 [vR a0, vI a1, vI a2, vI a3, vI a4, vI a5, vI a6, a7] [vI 0] h := (FA_ex cf 13903955 1 _ _ _ _).trans rfl
theorem c_X2_sign_183 (cf : Nat → List PV → PH → Rs) (a0 : Nat) (a1 : Int) (a2 : Int) (a3 : Int) (a4 : Int) (a5 : Int) (a6 : Int) (a7 : PV) (s0 : Int) (h : PH) : FA cf 13903955 183 [vR a0, vI a1, vI a2, vI a3, vI a4, vI a5, vI a6, a7] [vI s0] h = if a6 = 0 then FA cf 13903955 190 [vR a0, vI a1, vI a2, vI a3, vI a4, vI a5, vI a6, vI s0] [] h else FA cf 13903955 197 [vR a0, vI a1, vI a2, vI a3, vI a4, vI a5, vI a6, vI s0] [] h := (FA_ex cf 13903955 3 _ _ _ _).trans rfl
theorem c_X2_sign_190 (cf : Nat → List PV → PH → Rs) (a0 : Nat) (a1 : Int) (a2 : Int) (a3 : Int) (a4 : Int) (a5 : Int) (a6 : Int) (a7 : Int) (h : PH) : FA cf 13903955 190 [vR a0, vI a1, vI a2, vI a3, vI a4, vI a5, vI a6, vI a7] [] h = if a7 = 0 then FA cf 13903955 195 [vR a0, vI a1, vI a2, vI a3, vI a4, vI a5, vI a6, vI a7] [] h else FA cf 13903955 197 [vR a0, vI a1, vI a2, vI a3, vI a4, vI a5, vI a6, vI a7] [] h := (FA_ex cf 13903955 2 _ _ _ _).trans rfl
theorem c_X2_sign_195 (cf : Nat → List PV → PH → Rs) (a0 : Nat) (a1 : Int) (a2 : Int) (a3 : Int) (a4 : Int) (a5 : Int) (a6 : Int) (a7 : Int) (h : PH) : FA cf 13903955 195 [vR a0, vI a1, vI a2, vI a3, vI a4, vI a5, vI a6, vI a7] [] h = some (.inl (some (vI a1)), h) := (FA_ex cf 13903955 2 _ _ _ _).trans rfl
theorem c_X2_sign_197 (cf : Nat → List PV → PH → Rs) (a0 : Nat) (a1 : Int) (a2 : Int) (a3 : Int) (a4 : Int) (a5 : Int) (a6 : Int) (a7 : Int) (h : PH) (g0 : inT 5 5 (hc h a0)) : FA cf 13903955 197 [vR a0, vI a1, vI a2, vI a3, vI a4, vI a5, vI a6, vI a7] [] h = if a6 = 0 then FA cf 13903955 216 [vR a0, vI a1, vI a2, vI a3, vI a4, vI a5, vI a6, vI a7] [vI (gI h 344263188 a0), vR (gR h 319097366 a0)] h else FA cf 13903955 210 [vR a0, vI a1, vI a2, vI a3, vI a4, vI a5, vI a6, vI a7] [vI (gI h 344263188 a0), vR (gR h 319097366 a0)] h := ((FA_ex cf 13903955 6 _ _ _ _).trans rfl : FA cf 13903955 197 [vR a0, vI a1, vI a2, vI a3, vI a4, vI a5, vI a6, vI a7] [] h = gd (inT 5 5 (hc h a0)) (gd (inT 5 5 (hc h a0)) (if a6 = 0 then FA cf 13903955 216 [vR a0, vI a1, vI a2, vI a3, vI a4, vI a5, vI a6, vI a7] [vI (gI h 344263188 a0), vR (gR h 319097366 a0)] h else FA cf 13903955 210 [vR a0, vI a1, vI a2, vI a3, vI a4, vI a5, vI a6, vI a7] [vI (gI h 344263188 a0), vR (gR h 319097366 a0)] h))).trans ((gd_t g0).trans ((gd_t g0)))
theorem c_X2_sign_210 (cf : Nat → List PV → PH → Rs) (a0 : Nat) (a1 : Int) (a2 : Int) (a3 : Int) (a4 : Int) (a5 : Int) (a6 : Int) (a7 : Int) (s0 : Int) (s1 : Nat) (h : PH) : FA cf 13903955 210 [vR a0, vI a1, vI a2, vI a3, vI a4, vI a5, vI a6, vI a7] [vI s0, vR s1] h = FA cf 13903955 219 [vR a0, vI a1, vI a2, vI a3, vI a4, vI a5, vI a6, vI a7] [vR (gR h 3649044482 0), vI s0, vR s1] h := (FA_ex cf 13903955 2 _ _ _ _).trans rfl
theorem c_X2_sign_216 (cf : Nat → List PV → PH → Rs) (a0 : Nat) (a1 : Int) (a2 : Int) (a3 : Int) (a4 : Int) (a5 : Int) (a6 : Int) (a7 : Int) (s0 : Int) (s1 : Nat) (h : PH) : FA cf 13903955 216 [vR a0, vI a1, vI a2, vI a3, vI a4, vI a5, vI a6, vI a7] [vI s0, vR s1] h = FA cf 13903955 219 [vR a0, vI a1, vI a2, vI a3, vI a4, vI a5, vI a6, vI a7] [vR (gR h 3657433090 0), vI s0, vR s1] h := (FA_ex cf 13903955 1 _ _ _ _).trans rfl
theorem c_X2_sign_219 (cf : Nat → List PV → PH → Rs) (a0 : Nat) (a1 : Int) (a2 : Int) (a3 : Int) (a4 : Int) (a5 : Int) (a6 : Int) (a7 : Int) (s0 : Nat) (s1 : Int) (s2 : Nat) (h : PH) (g0 : inT 71 75 (hc h s2) ∧ (hc h s2) ≠ 72 ∧ okE h (hc h s2) s0 ∧ inA s1 (hl h s2)) (g1 : inT 5 5 (hc h a0)) : FA cf 13903955 219 [vR a0, vI a1, vI a2, vI a3, vI a4, vI a5, vI a6, vI a7] [vR s0, vI s1, vR s2] h = if a5 = 0 then FA cf 13903955 243 [vR a0, vI a1, vI a2, vI a3, vI a4, vI a5, vI a6, vI a7] [vI (gI h 344263188 a0), vR (gR h 335874582 a0)] (qR h s2 s1 s0) else FA cf 13903955 233 [vR a0, vI a1, vI a2, vI a3, vI a4, vI a5, vI a6, vI a7] [vI (gI h 344263188 a0), vR (gR h 335874582 a0)] (qR h s2 s1 s0) := ((FA_ex cf 13903955 7 _ _ _ _).trans rfl : FA cf 13903955 219 [vR a0, vI a1, vI a2, vI a3, vI a4, vI a5, vI a6, vI a7] [vR s0, vI s1, vR s2] h = gd (inT 71 75 (hc h s2) ∧ (hc h s2) ≠ 72 ∧ okE h (hc h s2) s0 ∧ inA s1 (hl h s2)) (gd (inT 5 5 (hc h a0)) (gd (inT 5 5 (hc h a0)) (if a5 = 0 then FA cf 13903955 243 [vR a0, vI a1, vI a2, vI a3, vI a4, vI a5, vI a6, vI a7] [vI (gI h 344263188 a0), vR (gR h 335874582 a0)] (qR h s2 s1 s0) else FA cf 13903955 233 [vR a0, vI a1, vI a2, vI a3, vI a4, vI a5, vI a6, vI a7] [vI (gI h 344263188 a0), vR (gR h 335874582 a0)] (qR h s2 s1 s0))))).trans ((gd_t g0).trans ((gd_t g1).trans ((gd_t g1))))
theorem c_X2_sign_233 (cf : Nat → List PV → PH → Rs) (a0 : Nat) (a1 : Int) (a2 : Int) (a3 : Int) (a4 : Int) (a5 : Int) (a6 : Int) (a7 : Int) (s0 : Int) (s1 : Nat) (h : PH) : FA cf 13903955 233 [vR a0, vI a1, vI a2, vI a3, vI a4, vI a5, vI a6, vI a7] [vI s0, vR s1] h = FA cf 13903955 245 [vR a0, vI a1, vI a2, vI a3, vI a4, vI a5, vI a6, vI a7] [vJ (ior a2 (ishl a3 8)), vI s0, vR s1] h := (FA_ex cf 13903955 7 _ _ _ _).trans rfl
theorem c_X2_sign_243 (cf : Nat → List PV → PH → Rs) (a0 : Nat) (a1 : Int) (a2 : Int) (a3 : Int) (a4 : Int) (a5 : Int) (a6 : Int) (a7 : Int) (s0 : Int) (s1 : Nat) (h : PH) : FA cf 13903955 243 [vR a0, vI a1, vI a2, vI a3, vI a4, vI a5, vI a6, vI a7] [vI s0, vR s1] h = FA cf 13903955 245 [vR a0, vI a1, vI a2, vI a3, vI a4, vI a5, vI a6, vI a7] [vJ a2, vI s0, vR s1] h := (FA_ex cf 13903955 2 _ _ _ _).trans rfl
theorem c_X2_sign_245 (cf : Nat → List PV → PH → Rs) (a0 : Nat) (a1 : Int) (a2 : Int) (a3 : Int) (a4 : Int) (a5 : Int) (a6 : Int) (a7 : Int) (s0 : Int) (s1 : Int) (s2 : Nat) (h : PH) (g0 : (hc h s2) = 66 ∧ inA s1 (hl h s2)) : FA cf 13903955 245 [vR a0, vI a1, vI a2, vI a3, vI a4, vI a5, vI a6, vI a7] [vJ s0, vI s1, vR s2] h = if a5 = 0 then FA cf 13903955 257 [vR a0, vI a1, vI a2, vI a3, vI a4, vI a5, vI a6, vI a7] [] (qJ h s2 s1 s0) else FA cf 13903955 251 [vR a0, vI a1, vI a2, vI a3, vI a4, vI a5, vI a6, vI a7] [] (qJ h s2 s1 s0) := ((FA_ex cf 13903955 3 _ _ _ _).trans rfl : FA cf 13903955 245 [vR a0, vI a1, vI a2, vI a3, vI a4, vI a5, vI a6, vI a7] [vJ s0, vI s1, vR s2] h = gd ((hc h s2) = 66 ∧ inA s1 (hl h s2)) (if a5 = 0 then FA cf 13903955 257 [vR a0, vI a1, vI a2, vI a3, vI a4, vI a5, vI a6, vI a7] [] (qJ h s2 s1 s0) else FA cf 13903955 251 [vR a0, vI a1, vI a2, vI a3, vI a4, vI a5, vI a6, vI a7] [] (qJ h s2 s1 s0))).trans ((gd_t g0))
theorem c_X2_sign_251 (cf : Nat → List PV → PH → Rs) (a0 : Nat) (a1 : Int) (a2 : Int) (a3 : Int) (a4 : Int) (a5 : Int) (a6 : Int) (a7 : Int) (h : PH) : FA cf 13903955 251 [vR a0, vI a1, vI a2, vI a3, vI a4, vI a5, vI a6, vI a7] [] h = FA cf 13903955 260 [vR a0, vI a1, vI a2, vI a3, vI a4, vI a5, vI a6, vI a7] [vI (w32 (a1 + 2))] h := (FA_ex cf 13903955 4 _ _ _ _).trans rfl
theorem c_X2_sign_257 (cf : Nat → List PV → PH → Rs) (a0 : Nat) (a1 : Int) (a2 : Int) (a3 : Int) (a4 : Int) (a5 : Int) (a6 : Int) (a7 : Int) (h : PH) : FA cf 13903955 257 [vR a0, vI a1, vI a2, vI a3, vI a4, vI a5, vI a6, vI a7] [] h = FA cf 13903955 260 [vR a0, vI a1, vI a2, vI a3, vI a4, vI a5, vI a6, vI a7] [vI (w32 (a1 + 1))] h := (FA_ex cf 13903955 3 _ _ _ _).trans rfl
theorem c_X2_sign_260 (cf : Nat → List PV → PH → Rs) (a0 : Nat) (a1 : Int) (a2 : Int) (a3 : Int) (a4 : Int) (a5 : Int) (a6 : Int) (a7 : Int) (s0 : Int) (h : PH) : FA cf 13903955 260 [vR a0, vI a1, vI a2, vI a3, vI a4, vI a5, vI a6, vI a7] [vI s0] h = some (.inl (some (vI s0)), h) := (FA_ex cf 13903955 1 _ _ _ _).trans rfl
theorem e_X2_read (d : Nat) (a0 : Nat) (a1 : Nat) (a2 : Int) (h : PH) : F (d + 1) 12068947 [vR a0, vR a1, vI a2] h = FA (F d) 12068947 0 [vR a0, vR a1, vI a2, vX, vX] [] h := rfl
theorem c_X2_read_0 (cf : Nat → List PV → PH → Rs) (a0 : Nat) (a1 : Nat) (a2 : Int) (a3 : PV) (a4 : PV) (h : PH) (g0 : inT 5 5 (hc h a0)) : FA cf 12068947 0 [vR a0, vR a1, vI a2, a3, a4] [] h = FA cf 12068947 20 [vR a0, vR a1, vI a2, vI 0, vI 1] [] (pI (pI (pR h 352651798 a0 a1) 361040404 a0 a2) 344263188 a0 0) := ((FA_ex cf 12068947 13 _ _ _ _).trans rfl : FA cf 12068947 0 [vR a0, vR a1, vI a2, a3, a4] [] h = gd (inT 5 5 (hc h a0)) (gd (inT 5 5 (hc h a0)) (gd (inT 5 5 (hc h a0)) (FA cf 12068947 20 [vR a0, vR a1, vI a2, vI 0, vI 1] [] (pI (pI (pR h 352651798 a0 a1) 361040404 a0 a2) 344263188 a0 0))))).trans ((gd_t g0).trans ((gd_t g0).trans ((gd_t g0))))
theorem c_X2_read_20 (cf : Nat → List PV → PH → Rs) (a0 : Nat) (a1 : Nat) (a2 : Int) (a3 : Int) (a4 : Int) (h : PH) : FA cf 12068947 20 [vR a0, vR a1, vI a2, vI a3, vI a4] [] h = if a4 = 0 then FA cf 12068947 107 [vR a0, vR a1, vI a2, vI a3, vI a4] [] h else FA cf 12068947 25 [vR a0, vR a1, vI a2, vI a3, vI a4] [] h := (FA_ex cf 12068947 2 _ _ _ _).trans rfl
theorem c_X2_read_25 (cf : Nat → List PV → PH → Rs) (a0 : Nat) (a1 : Nat) (a2 : Int) (a3 : Int) (a4 : Int) (h : PH) (g0 : inT 5 5 (hc h a0)) : FA cf 12068947 25 [vR a0, vR a1, vI a2, vI a3, vI a4] [] h = bnd (cf 12331090 [vR a0, vI a3] h) (fun v h' => FA cf 12068947 30 [vR a0, vR a1, vI a2, vI a3, vI a4] (pu v []) h') := ((FA_ex cf 12068947 3 _ _ _ _).trans rfl : FA cf 12068947 25 [vR a0, vR a1, vI a2, vI a3, vI a4] [] h = gd (inT 5 5 (hc h a0)) (bnd (cf 12331090 [vR a0, vI a3] h) (fun v h' => FA cf 12068947 30 [vR a0, vR a1, vI a2, vI a3, vI a4] (pu v []) h'))).trans ((gd_t g0))
theorem c_X2_read_30 (cf : Nat → List PV → PH → Rs) (a0 : Nat) (a1 : Nat) (a2 : Int) (a3 : Int) (a4 : Int) (s0 : Int) (h : PH) : FA cf 12068947 30 [vR a0, vR a1, vI a2, vI a3, vI a4] [vI s0] h = if s0 = 32 then FA cf 12068947 35 [vR a0, vR a1, vI a2, vI a3, vI a4] [] h else FA cf 12068947 41 [vR a0, vR a1, vI a2, vI a3, vI a4] [] h := (FA_ex cf 12068947 2 _ _ _ _).trans rfl
theorem c_X2_read_35 (cf : Nat → List PV → PH → Rs) (a0 : Nat) (a1 : Nat) (a2 : Int) (a3 : Int) (a4 : Int) (h : PH) : FA cf 12068947 35 [vR a0, vR a1, vI a2, vI a3, vI a4] [] h = FA cf 12068947 25 [vR a0, vR a1, vI a2, vI (w32 (a3 + 1)), vI a4] [] h := (FA_ex cf 12068947 2 _ _ _ _).trans rfl
theorem c_X2_read_41 (cf : Nat → List PV → PH → Rs) (a0 : Nat) (a1 : Nat) (a2 : Int) (a3 : Int) (a4 : Int) (h : PH) (g0 : inT 5 5 (hc h a0)) (g1 : (hc h (gR h 327485974 a0)) = 65 ∧ inA (gI h 344263188 a0) (hl h (gR h 327485974 a0))) : FA cf 12068947 41 [vR a0, vR a1, vI a2, vI a3, vI a4] [] h = bnd (cf 12593234 [vR a0, vI a3] (qI h (gR h 327485974 a0) (gI h 344263188 a0) a3)) (fun v h' => FA cf 12068947 56 [vR a0, vR a1, vI a2, vI a3, vI a4] (pu v []) h') := ((FA_ex cf 12068947 9 _ _ _ _).trans rfl : FA cf 12068947 41 [vR a0, vR a1, vI a2, vI a3, vI a4] [] h = gd (inT 5 5 (hc h a0)) (gd (inT 5 5 (hc h a0)) (gd ((hc h (gR h 327485974 a0)) = 65 ∧ inA (gI h 344263188 a0) (hl h (gR h 327485974 a0))) (gd (inT 5 5 (hc h a0)) (bnd (cf 12593234 [vR a0, vI a3] (qI h (gR h 327485974 a0) (gI h 344263188 a0) a3)) (fun v h' => FA cf 12068947 56 [vR a0, vR a1, vI a2, vI a3, vI a4] (pu v []) h')))))).trans ((gd_t g0).trans ((gd_t g0).trans ((gd_t g1).trans ((gd_t g0)))))
theorem c_X2_read_56 (cf : Nat → List PV → PH → Rs) (a0 : Nat) (a1 : Nat) (a2 : Int) (a3 : Int) (a4 : Int) (s0 : Int) (h : PH) (g0 : inT 5 5 (hc h a0)) (g1 : (inT 71 77 (hc h (gR h 319097366 a0)) ∨ inT 71 77 (kc h (gR h 319097366 a0))) ∧ inA (gI h 344263188 a0) (hl h (gR h 319097366 a0))) : FA cf 12068947 56 [vR a0, vR a1, vI a2, vI a3, vI a4] [vI s0] h = if (eR h (gR h 319097366 a0) (gI h 344263188 a0)) = (gR h 3598712834 0) then FA cf 12068947 91 [vR a0, vR a1, vI a2, vI s0, vI a4] [] h else FA cf 12068947 72 [vR a0, vR a1, vI a2, vI s0, vI a4] [] h := ((FA_ex cf 12068947 8 _ _ _ _).trans rfl : FA cf 12068947 56 [vR a0, vR a1, vI a2, vI a3, vI a4] [vI s0] h = gd (inT 5 5 (hc h a0)) (gd (inT 5 5 (hc h a0)) (gd ((inT 71 77 (hc h (gR h 319097366 a0)) ∨ inT 71 77 (kc h (gR h 319097366 a0))) ∧ inA (gI h 344263188 a0) (hl h (gR h 319097366 a0))) (if (eR h (gR h 319097366 a0) (gI h 344263188 a0)) = (gR h 3598712834 0) then FA cf 12068947 91 [vR a0, vR a1, vI a2, vI s0, vI a4] [] h else FA cf 12068947 72 [vR a0, vR a1, vI a2, vI s0, vI a4] [] h)))).trans ((gd_t g0).trans ((gd_t g0).trans ((gd_t g1))))
theorem c_X2_read_72 (cf : Nat → List PV → PH → Rs) (a0 : Nat) (a1 : Nat) (a2 : Int) (a3 : Int) (a4 : Int) (h : PH) (g0 : inT 5 5 (hc h a0)) (g1 : (inT 71 77 (hc h (gR h 319097366 a0)) ∨ inT 71 77 (kc h (gR h 319097366 a0))) ∧ inA (gI h 344263188 a0) (hl h (gR h 319097366 a0))) : FA cf 12068947 72 [vR a0, vR a1, vI a2, vI a3, vI a4] [] h = if (eR h (gR h 319097366 a0) (gI h 344263188 a0)) = (gR h 3607101442 0) then FA cf 12068947 91 [vR a0, vR a1, vI a2, vI a3, vI a4] [] h else FA cf 12068947 87 [vR a0, vR a1, vI a2, vI a3, vI a4] [] h := ((FA_ex cf 12068947 7 _ _ _ _).trans rfl : FA cf 12068947 72 [vR a0, vR a1, vI a2, vI a3, vI a4] [] h = gd (inT 5 5 (hc h a0)) (gd (inT 5 5 (hc h a0)) (gd ((inT 71 77 (hc h (gR h 319097366 a0)) ∨ inT 71 77 (kc h (gR h 319097366 a0))) ∧ inA (gI h 344263188 a0) (hl h (gR h 319097366 a0))) (if (eR h (gR h 319097366 a0) (gI h 344263188 a0)) = (gR h 3607101442 0) then FA cf 12068947 91 [vR a0, vR a1, vI a2, vI a3, vI a4] [] h else FA cf 12068947 87 [vR a0, vR a1, vI a2, vI a3, vI a4] [] h)))).trans ((gd_t g0).trans ((gd_t g0).trans ((gd_t g1))))
theorem c_X2_read_87 (cf : Nat → List PV → PH → Rs) (a0 : Nat) (a1 : Nat) (a2 : Int) (a3 : Int) (a4 : Int) (h : PH) : FA cf 12068947 87 [vR a0, vR a1, vI a2, vI a3, vI a4] [] h = FA cf 12068947 92 [vR a0, vR a1, vI a2, vI a3, vI a4] [vI 1] h := (FA_ex cf 12068947 2 _ _ _ _).trans rfl
theorem c_X2_read_91 (cf : Nat → List PV → PH → Rs) (a0 : Nat) (a1 : Nat) (a2 : Int) (a3 : Int) (a4 : Int) (h : PH) : FA cf 12068947 91 [vR a0, vR a1, vI a2, vI a3, vI a4] [] h = FA cf 12068947 92 [vR a0, vR a1, vI a2, vI a3, vI a4] [vI 0] h := (FA_ex cf 12068947 1 _ _ _ _).trans rfl
theorem c_X2_read_92 (cf : Nat → List PV → PH → Rs) (a0 : Nat) (a1 : Nat) (a2 : Int) (a3 : Int) (a4 : Int) (s0 : Int) (h : PH) (g0 : inT 5 5 (hc h a0)) : FA cf 12068947 92 [vR a0, vR a1, vI a2, vI a3, vI a4] [vI s0] h = FA cf 12068947 20 [vR a0, vR a1, vI a2, vI a3, vI s0] [] (pI h 344263188 a0 (w32 ((gI h 344263188 a0) + 1))) := ((FA_ex cf 12068947 8 _ _ _ _).trans rfl : FA cf 12068947 92 [vR a0, vR a1, vI a2, vI a3, vI a4] [vI s0] h = gd (inT 5 5 (hc h a0)) (gd (inT 5 5 (hc h a0)) (FA cf 12068947 20 [vR a0, vR a1, vI a2, vI a3, vI s0] [] (pI h 344263188 a0 (w32 ((gI h 344263188 a0) + 1)))))).trans ((gd_t g0).trans ((gd_t g0)))
theorem c_X2_read_107 (cf : Nat → List PV → PH → Rs) (a0 : Nat) (a1 : Nat) (a2 : Int) (a3 : Int) (a4 : Int) (h : PH) : FA cf 12068947 107 [vR a0, vR a1, vI a2, vI a3, vI a4] [] h = some (.inl none, h) := (FA_ex cf 12068947 1 _ _ _ _).trans rfl
theorem z_X2_sign_7 (cf : Nat → List PV → PH → Rs) (a0 : Nat) (a1 : Int) (a2 : Int) (a3 : PV) (a4 : PV) (a5 : PV) (a6 : PV) (a7 : PV) (s0 : Int) (h : PH) : FA cf 13903955 7 [vR a0, vI a1, vI a2, a3, a4, a5, a6, a7] [vI s0] h = FA cf 13903955 25 [vR a0, vI a1, vI a2, vI s0, a4, a5, a6, a7] [vI (b01 ((a2 = 58) ∧ (s0 = 61)))] h := by
  rw [c_X2_sign_7]
  by_cases c7 : a2 = 58
  · rw [if_pos c7]
    rw [c_X2_sign_14]
    by_cases c14 : s0 = 61
    · rw [if_pos c14]
      rw [c_X2_sign_20, b01_p ⟨c7, c14⟩]
    · rw [if_neg c14]
      rw [c_X2_sign_24, b01_n (fun z => c14 z.2)]
  · rw [if_neg c7]
    rw [c_X2_sign_24, b01_n (fun z => c7 z.1)]
theorem z_X2_sign_25 (cf : Nat → List PV → PH → Rs) (a0 : Nat) (a1 : Int) (a2 : Int) (a3 : Int) (a4 : PV) (a5 : PV) (a6 : PV) (a7 : PV) (s0 : Int) (h : PH) : FA cf 13903955 25 [vR a0, vI a1, vI a2, vI a3, a4, a5, a6, a7] [vI s0] h = FA cf 13903955 61 [vR a0, vI a1, vI a2, vI a3, vI s0, a5, a6, a7] [vI (b01 (¬ (s0 = 0) ∨ ((a3 = 61) ∧ ((a2 = 47) ∨ ((a2 = 60) ∨ (a2 = 62))))))] h := by
  rw [c_X2_sign_25]
  by_cases c25 : s0 = 0
  · rw [if_pos c25]
    rw [c_X2_sign_32]
    by_cases c32 : a3 = 61
    · rw [if_pos c32]
      rw [c_X2_sign_38]
      by_cases c38 : a2 = 47
      · rw [if_pos c38]
        rw [c_X2_sign_56, b01_p (Or.inr ⟨c32, (Or.inl c38)⟩)]
      · rw [if_neg c38]
        rw [c_X2_sign_44]
        by_cases c44 : a2 = 60
        · rw [if_pos c44]
          rw [c_X2_sign_56, b01_p (Or.inr ⟨c32, (Or.inr (Or.inl c44))⟩)]
        · rw [if_neg c44]
          rw [c_X2_sign_50]
          by_cases c50 : a2 = 62
          · rw [if_pos c50]
            rw [c_X2_sign_56, b01_p (Or.inr ⟨c32, (Or.inr (Or.inr c50))⟩)]
          · rw [if_neg c50]
            rw [c_X2_sign_60, b01_n (fun z => z.elim (fun w => w c25) (fun z => (fun z => z.elim c38 (fun z => z.elim c44 c50)) z.2))]
    · rw [if_neg c32]
      rw [c_X2_sign_60, b01_n (fun z => z.elim (fun w => w c25) (fun z => c32 z.1))]
  · rw [if_neg c25]
    rw [c_X2_sign_56, b01_p (Or.inl c25)]
theorem z_X2_sign_61 (cf : Nat → List PV → PH → Rs) (a0 : Nat) (a1 : Int) (a2 : Int) (a3 : Int) (a4 : Int) (a5 : PV) (a6 : PV) (a7 : PV) (s0 : Int) (h : PH) : FA cf 13903955 61 [vR a0, vI a1, vI a2, vI a3, vI a4, a5, a6, a7] [vI s0] h = FA cf 13903955 110 [vR a0, vI a1, vI a2, vI a3, vI a4, vI s0, a6, a7] [vI (b01 ((a2 = 40) ∨ ((a2 = 41) ∨ ((a2 = 91) ∨ ((a2 = 93) ∨ ((a2 = 44) ∨ ((a2 = 59) ∨ (a2 = 58))))))))] h := by
  rw [c_X2_sign_61]
  by_cases c61 : a2 = 40
  · rw [if_pos c61]
    rw [c_X2_sign_105, b01_p (Or.inl c61)]
  · rw [if_neg c61]
    rw [c_X2_sign_69]
    by_cases c69 : a2 = 41
    · rw [if_pos c69]
      rw [c_X2_sign_105, b01_p (Or.inr (Or.inl c69))]
    · rw [if_neg c69]
      rw [c_X2_sign_75]
      by_cases c75 : a2 = 91
      · rw [if_pos c75]
        rw [c_X2_sign_105, b01_p (Or.inr (Or.inr (Or.inl c75)))]
      · rw [if_neg c75]
        rw [c_X2_sign_81]
        by_cases c81 : a2 = 93
        · rw [if_pos c81]
          rw [c_X2_sign_105, b01_p (Or.inr (Or.inr (Or.inr (Or.inl c81))))]
        · rw [if_neg c81]
          rw [c_X2_sign_87]
          by_cases c87 : a2 = 44
          · rw [if_pos c87]
            rw [c_X2_sign_105, b01_p (Or.inr (Or.inr (Or.inr (Or.inr (Or.inl c87)))))]
          · rw [if_neg c87]
            rw [c_X2_sign_93]
            by_cases c93 : a2 = 59
            · rw [if_pos c93]
              rw [c_X2_sign_105, b01_p (Or.inr (Or.inr (Or.inr (Or.inr (Or.inr (Or.inl c93))))))]
            · rw [if_neg c93]
              rw [c_X2_sign_99]
              by_cases c99 : a2 = 58
              · rw [if_pos c99]
                rw [c_X2_sign_105, b01_p (Or.inr (Or.inr (Or.inr (Or.inr (Or.inr (Or.inr c99))))))]
              · rw [if_neg c99]
                rw [c_X2_sign_109, b01_n (fun z => z.elim c61 (fun z => z.elim c69 (fun z => z.elim c75 (fun z => z.elim c81 (fun z => z.elim c87 (fun z => z.elim c93 c99))))))]
theorem z_X2_sign_110 (cf : Nat → List PV → PH → Rs) (a0 : Nat) (a1 : Int) (a2 : Int) (a3 : Int) (a4 : Int) (a5 : Int) (a6 : PV) (a7 : PV) (s0 : Int) (h : PH) : FA cf 13903955 110 [vR a0, vI a1, vI a2, vI a3, vI a4, vI a5, a6, a7] [vI s0] h = FA cf 13903955 183 [vR a0, vI a1, vI a2, vI a3, vI a4, vI a5, vI s0, a7] [vI (b01 ((a2 = 43) ∨ ((a2 = 45) ∨ ((a2 = 42) ∨ ((a2 = 47) ∨ ((a2 = 37) ∨ ((a2 = 38) ∨ ((a2 = 33) ∨ ((a2 = 126) ∨ ((a2 = 61) ∨ ((a2 = 60) ∨ (a2 = 62))))))))))))] h := by
  rw [c_X2_sign_110]
  by_cases c110 : a2 = 43
  · rw [if_pos c110]
    rw [c_X2_sign_178, b01_p (Or.inl c110)]
  · rw [if_neg c110]
    rw [c_X2_sign_118]
    by_cases c118 : a2 = 45
    · rw [if_pos c118]
      rw [c_X2_sign_178, b01_p (Or.inr (Or.inl c118))]
    · rw [if_neg c118]
      rw [c_X2_sign_124]
      by_cases c124 : a2 = 42
      · rw [if_pos c124]
        rw [c_X2_sign_178, b01_p (Or.inr (Or.inr (Or.inl c124)))]
      · rw [if_neg c124]
        rw [c_X2_sign_130]
        by_cases c130 : a2 = 47
        · rw [if_pos c130]
          rw [c_X2_sign_178, b01_p (Or.inr (Or.inr (Or.inr (Or.inl c130))))]
        · rw [if_neg c130]
          rw [c_X2_sign_136]
          by_cases c136 : a2 = 37
          · rw [if_pos c136]
            rw [c_X2_sign_178, b01_p (Or.inr (Or.inr (Or.inr (Or.inr (Or.inl c136)))))]
          · rw [if_neg c136]
            rw [c_X2_sign_142]
            by_cases c142 : a2 = 38
            · rw [if_pos c142]
              rw [c_X2_sign_178, b01_p (Or.inr (Or.inr (Or.inr (Or.inr (Or.inr (Or.inl c142))))))]
            · rw [if_neg c142]
              rw [c_X2_sign_148]
              by_cases c148 : a2 = 33
              · rw [if_pos c148]
                rw [c_X2_sign_178, b01_p (Or.inr (Or.inr (Or.inr (Or.inr (Or.inr (Or.inr (Or.inl c148)))))))]
              · rw [if_neg c148]
                rw [c_X2_sign_154]
                by_cases c154 : a2 = 126
                · rw [if_pos c154]
                  rw [c_X2_sign_178, b01_p (Or.inr (Or.inr (Or.inr (Or.inr (Or.inr (Or.inr (Or.inr (Or.inl c154))))))))]
                · rw [if_neg c154]
                  rw [c_X2_sign_160]
                  by_cases c160 : a2 = 61
                  · rw [if_pos c160]
                    rw [c_X2_sign_178, b01_p (Or.inr (Or.inr (Or.inr (Or.inr (Or.inr (Or.inr (Or.inr (Or.inr (Or.inl c160)))))))))]
                  · rw [if_neg c160]
                    rw [c_X2_sign_166]
                    by_cases c166 : a2 = 60
                    · rw [if_pos c166]
                      rw [c_X2_sign_178, b01_p (Or.inr (Or.inr (Or.inr (Or.inr (Or.inr (Or.inr (Or.inr (Or.inr (Or.inr (Or.inl c166))))))))))]
                    · rw [if_neg c166]
                      rw [c_X2_sign_172]
                      by_cases c172 : a2 = 62
                      · rw [if_pos c172]
                        rw [c_X2_sign_178, b01_p (Or.inr (Or.inr (Or.inr (Or.inr (Or.inr (Or.inr (Or.inr (Or.inr (Or.inr (Or.inr c172))))))))))]
                      · rw [if_neg c172]
                        rw [c_X2_sign_182, b01_n (fun z => z.elim c110 (fun z => z.elim c118 (fun z => z.elim c124 (fun z => z.elim c130 (fun z => z.elim c136 (fun z => z.elim c142 (fun z => z.elim c148 (fun z => z.elim c154 (fun z => z.elim c160 (fun z => z.elim c166 c172))))))))))]
def ufn {α : Type} (f : Int → α) (i : Int) (v : α) : Int → α := fun j => if j = i then v else f j
theorem ufn_s {α : Type} {f : Int → α} {i : Int} {v : α} : ufn f i v i = v := if_pos rfl
theorem ufn_o {α : Type} {f : Int → α} {i j : Int} {v : α} (h : j ≠ i) : ufn f i v j = f j := if_neg h
theorem ufn_2 {α : Type} {f : Int → α} {i : Int} {v w : α} : ufn (ufn f i v) i w = ufn f i w := by
  funext j
  unfold ufn
  by_cases h : j = i
  · rw [if_pos h, if_pos h]
  · rw [if_neg h, if_neg h, if_neg h]
/-- the heap h, with the lexer's rows and count -/
def LH (h : PH) (lx kd pl wo : Nat) (K : Int → Nat) (P W : Int → Int) (n : Int) : PH := (hc h, hl h, (fun f r => if f = 344263188 ∧ r = lx then n else gI h f r), gJ h, gR h, (fun r j => if r = pl then P j else eI h r j), (fun r j => if r = wo then W j else eJ h r j), (fun r j => if r = kd then K j else eR h r j), hn h, hs h, hk h)
section LHL
variable {h : PH} {lx kd pl wo : Nat} {K : Int → Nat} {P W : Int → Int} {n : Int}
theorem gI_LHc : gI (LH h lx kd pl wo K P W n) 344263188 lx = n := if_pos ⟨rfl, rfl⟩
theorem gI_LHo {f r : Nat} (e : f ≠ 344263188) : gI (LH h lx kd pl wo K P W n) f r = gI h f r := if_neg (fun z => e z.1)
theorem gR_LH {f r : Nat} : gR (LH h lx kd pl wo K P W n) f r = gR h f r := rfl
theorem hc_LH {r : Nat} : hc (LH h lx kd pl wo K P W n) r = hc h r := rfl
theorem hl_LH {r : Nat} : hl (LH h lx kd pl wo K P W n) r = hl h r := rfl
theorem eI_LHp {j : Int} : eI (LH h lx kd pl wo K P W n) pl j = P j := if_pos rfl
theorem eI_LHo {r : Nat} {j : Int} (e : r ≠ pl) : eI (LH h lx kd pl wo K P W n) r j = eI h r j := if_neg e
theorem eJ_LHw {j : Int} : eJ (LH h lx kd pl wo K P W n) wo j = W j := if_pos rfl
theorem eJ_LHo {r : Nat} {j : Int} (e : r ≠ wo) : eJ (LH h lx kd pl wo K P W n) r j = eJ h r j := if_neg e
theorem eR_LHk {j : Int} : eR (LH h lx kd pl wo K P W n) kd j = K j := if_pos rfl
theorem pI_LH {v : Int} : pI (LH h lx kd pl wo K P W n) 344263188 lx v = LH h lx kd pl wo K P W v := by
  have e : up2 (gI (LH h lx kd pl wo K P W n)) 344263188 lx v = (fun f r => if f = 344263188 ∧ r = lx then v else gI h f r) := by
    funext f r
    unfold up2
    by_cases z : f = 344263188 ∧ r = lx
    · rw [if_pos z, if_pos z]
    · rw [if_neg z, if_neg z]; exact if_neg z
  unfold pI
  rw [e]
  rfl
theorem qI_LH {i v : Int} : qI (LH h lx kd pl wo K P W n) pl i v = LH h lx kd pl wo K (ufn P i v) W n := by
  have e : ue2 (eI (LH h lx kd pl wo K P W n)) pl i v = (fun r j => if r = pl then ufn P i v j else eI h r j) := by
    funext r j
    unfold ue2 ufn
    by_cases z : r = pl
    · subst z
      rw [if_pos rfl]
      by_cases w : j = i
      · rw [if_pos ⟨rfl, w⟩, if_pos w]
      · rw [if_neg (fun q => w q.2), if_neg w]; exact if_pos rfl
    · rw [if_neg (fun q => z q.1), if_neg z]; exact if_neg z
  unfold qI
  rw [e]
  rfl
theorem qJ_LH {i v : Int} : qJ (LH h lx kd pl wo K P W n) wo i v = LH h lx kd pl wo K P (ufn W i v) n := by
  have e : ue2 (eJ (LH h lx kd pl wo K P W n)) wo i v = (fun r j => if r = wo then ufn W i v j else eJ h r j) := by
    funext r j
    unfold ue2 ufn
    by_cases z : r = wo
    · subst z
      rw [if_pos rfl]
      by_cases w : j = i
      · rw [if_pos ⟨rfl, w⟩, if_pos w]
      · rw [if_neg (fun q => w q.2), if_neg w]; exact if_pos rfl
    · rw [if_neg (fun q => z q.1), if_neg z]; exact if_neg z
  unfold qJ
  rw [e]
  rfl
theorem qR_LH {i : Int} {v : Nat} : qR (LH h lx kd pl wo K P W n) kd i v = LH h lx kd pl wo (ufn K i v) P W n := by
  have e : ue2 (eR (LH h lx kd pl wo K P W n)) kd i v = (fun r j => if r = kd then ufn K i v j else eR h r j) := by
    funext r j
    unfold ue2 ufn
    by_cases z : r = kd
    · subst z
      rw [if_pos rfl]
      by_cases w : j = i
      · rw [if_pos ⟨rfl, w⟩, if_pos w]
      · rw [if_neg (fun q => w q.2), if_neg w]; exact if_pos rfl
    · rw [if_neg (fun q => z q.1), if_neg z]; exact if_neg z
  unfold qR
  rw [e]
  rfl
end LHL
/-- x's kept words, in its own order -/
def KXL : List Int := [1162104653, 20559, 1330205264, 5525065, 1196314444, 1280266050, 1145655126, 4605266, 1129271888, 92648171000915, 336337653333, 4411212, 1346454856, 17999, 21321, 1414419273, 1346980691, 4999502, 1163219540, 297750249798, 336236856642, 4476485, 17993, 1313163348, 1163086917, 18758, 1163084099, 20041, 1313163351, 5526863, 1128354629, 5394246, 1297044038, 22850, 20308, 297632614487, 20292, 17487, 362090680912, 4347724, 4345941]
theorem kx_mem : (∀ w ∈ KXL, w ∈ KWL) ∧ (∀ w ∈ KWL, w ∈ KXL) ∧ KXL.length = 41 := by decide
theorem kix_mem {w : Int} : ∀ (l : List Int) (i : Int), 0 ≤ i → (0 ≤ kix w i l ↔ w ∈ l)
  | [], i, hi => by unfold kix; simp
  | x :: l, i, hi => by
    unfold kix
    by_cases e : x = w
    · rw [if_pos e]; simp [e, hi]
    · rw [if_neg e, kix_mem l (i + 1) (by omega)]
      simp [show ¬ w = x from fun z => e z.symm]
/-- what is fixed of the lexer -/
def LexB (h : PH) (lx kp kd pl wo tx : Nat) (T : Int → Int) (L : Int) : Prop :=
  hc h lx = 5 ∧ (gR h 302320150 lx = kp ∧ hc h kp = 66 ∧ hl h kp = 48 ∧ kp ≠ wo ∧ gI h 310708756 lx = 41 ∧ ∀ k : Nat, k < 41 → eJ h kp k = KXL.getD k 0) ∧
  (gR h 319097366 lx = kd ∧ hc h kd = 73 ∧ hl h kd = 482) ∧ (gR h 327485974 lx = pl ∧ hc h pl = 65 ∧ hl h pl = 482) ∧ (gR h 335874582 lx = wo ∧ hc h wo = 66 ∧ hl h wo = 482) ∧
  (gR h 352651798 lx = tx ∧ gI h 361040404 lx = L ∧ hc h tx = 67 ∧ hl h tx = 480 ∧ 0 ≤ L ∧ L ≤ 480 ∧ ∀ j : Int, 0 ≤ j → j < L → eI h tx j = w8 (T j) ∧ 1 ≤ T j ∧ T j < 256) ∧ ConH h
theorem iand255 : ∀ c : Fin 256, iand (w8 (c.val : Int)) 255 = (c.val : Int) := by decide +kernel
def atX (T : Int → Int) (L k : Int) : Int := if k < L then T k else 0
theorem tokF_ne : ∀ f ∈ tokF, ∀ g ∈ tokF, f = g ∨ (f, g) ∈ tokN ∨ (g, f) ∈ tokN := by decide +kernel
theorem tk_ne {h : PH} (C : ConH h) {f g : Nat} (hf : f ∈ tokF) (hg : g ∈ tokF) (e : f ≠ g) : gR h f 0 ≠ gR h g 0 := by
  rcases tokF_ne f hf g hg with z | z | z
  · exact absurd z e
  · exact C.2.2.1.2 (f, g) z
  · exact fun q => C.2.2.1.2 (g, f) z q.symm
theorem f_isIn (d : Nat) (c lo hi : Int) (h : PH) : F (d + 1) 12845059 [vI c, vI lo, vI hi] h = some (.inl (some (vI (b01 (lo ≤ c ∧ c ≤ hi)))), h) := by
  rw [e_X2_isIn, c_X2_isIn_0]
  by_cases h1 : c < lo
  · rw [if_pos h1, c_X2_isIn_14, c_X2_isIn_15 _ _ _ _ _ _ (Or.inl rfl), b01_n (by omega)]
  · rw [if_neg h1, c_X2_isIn_5]
    by_cases h2 : hi < c
    · rw [if_pos h2, c_X2_isIn_14, c_X2_isIn_15 _ _ _ _ _ _ (Or.inl rfl), b01_n (by omega)]
    · rw [if_neg h2, c_X2_isIn_10, c_X2_isIn_15 _ _ _ _ _ _ (Or.inr rfl), b01_p (by omega)]
/-- kinds and worth of x's tokens by the model's -/
def mkL : List Int := [40, 41, 91, 93, 44, 59, 58, 300]
def xkF (kd is : Int) : Nat := if kd = 0 then 3598712834 else if kd = 6 then 3607101442 else if kd = 1 then 3615490050 else if kd = 2 then 3623878658 else if kd = 3 then 3632267266 else if kd = 4 then 3640655874 else if is ∈ mkL then 3649044482 else 3657433090
def xw (is : Int) : Int := if is = 300 then 15674 else if is = 301 then 15663 else if is = 302 then 15676 else if is = 303 then 15678 else is
def xwo (kd is w : Int) : Int := if kd = 1 ∨ kd = 2 ∨ kd = 3 then w else if kd = 4 then is else if kd = 5 then xw is else 0
theorem xkF_in (kd is : Int) : xkF kd is ∈ tokF := by
  unfold xkF
  repeat' split
  all_goals decide
theorem b01_c {p q : Prop} {x : Decidable p} {y : Decidable q} (h : p ↔ q) : @b01 p x = @b01 q y := by
  by_cases z : p
  · rw [b01_p z, b01_p (h.mp z)]
  · rw [b01_n z, b01_n (fun w => z (h.mpr w))]
theorem lcm_eq (x y : Int) : lcm x y = 0 ↔ x = y := by unfold lcm; split <;> (try split) <;> omega
section XL
variable {h : PH} {lx kp kd pl wo tx : Nat} {T : Int → Int} {L : Int} {K : Int → Nat} {P W : Int → Int} {n : Int}
theorem LexB.g (B : LexB h lx kp kd pl wo tx T L) : inT 5 5 (hc (LH h lx kd pl wo K P W n) lx) := i11 B.1
theorem f_at (d : Nat) (B : LexB h lx kp kd pl wo tx T L) {k : Int} (h0 : 0 ≤ k) : F (d + 1) 12331090 [vR lx, vI k] (LH h lx kd pl wo K P W n) = some (.inl (some (vI (atX T L k))), LH h lx kd pl wo K P W n) := by
  have B' := B
  obtain ⟨b1, b2, b3, b4, b5, ⟨t1, t2, t3, t4, t5, t6, t7⟩, C⟩ := B'
  rw [e_X2_at, c_X2_at_0 _ _ _ _ B.g, gI_LHo (by decide), t2]
  unfold atX
  by_cases q : k < L
  · have hne : tx ≠ pl := fun z => by rw [z, b4.2.1] at t3; exact absurd t3 (by decide)
    obtain ⟨u1, u2, u3⟩ := t7 k h0 q
    have := iand255 ⟨(T k).toNat, by omega⟩
    rw [show (((⟨(T k).toNat, by omega⟩ : Fin 256).val : Nat) : Int) = T k from by show ((T k).toNat : Int) = T k; omega] at this
    rw [if_pos q, if_pos q, c_X2_at_8 _ _ _ _ B.g ⟨Or.inl (by rw [gR_LH, hc_LH, t1, t3]; decide), by rw [gR_LH, hl_LH, t1, t4]; constructor <;> omega⟩, gR_LH, hc_LH, t1, t3, if_neg (by decide), eI_LHo hne, u1, this, c_X2_at_22]
  · rw [if_neg q, if_neg q, c_X2_at_21, c_X2_at_22]
theorem xl_G (d : Nat) (B : LexB h lx kp kd pl wo tx T L) {p : Int} {a5 a6 : PV} (hp : 0 ≤ p) : ∀ (k : Nat) (i : Nat), (L - (p + i)).toNat = k → p + i ≤ L → (∀ j : Nat, j < i → isG (T (p + j))) → FA (F (d + 1)) 13117522 4 [vR lx, vI p, vI i, vJ (pk T p (min i 8)), vX, a5, a6] [] (LH h lx kd pl wo K P W n) = FA (F (d + 1)) 13117522 49 [vR lx, vI p, vI ((i + rl cG T L (p + i) : Nat) : Int), vJ (pk T p (min (i + rl cG T L (p + i)) 8)), vX, a5, a6] [] (LH h lx kd pl wo K P W n) := by
  obtain ⟨t5, t6⟩ : 0 ≤ L ∧ L ≤ 480 := ⟨B.2.2.2.2.2.1.2.2.2.2.1, B.2.2.2.2.2.1.2.2.2.2.2.1⟩
  intro k
  induction k with
  | zero =>
    intro i e h1 hj
    rw [rl_n (by omega), c_X2_bold_4 _ _ _ _ _ _ _ _ B.g, w32_id (by omega) (by omega), f_at d B (by omega), bnd_v, pu_s, c_X2_bold_11, f_isIn, bnd_v, pu_s, c_X2_bold_18]
    unfold atX
    rw [if_neg (by omega : ¬ p + (i : Int) < L), if_pos (b01_0.mpr (by decide))]
    rfl
  | succ k ih =>
    intro i e h1 hj
    rw [c_X2_bold_4 _ _ _ _ _ _ _ _ B.g, w32_id (by omega) (by omega), f_at d B (by omega), bnd_v, pu_s, c_X2_bold_11, f_isIn, bnd_v, pu_s, c_X2_bold_18]
    have ea : atX T L (p + i) = T (p + i) := if_pos (by omega)
    rw [ea]
    by_cases q : isG (T (p + i))
    · have hj' : ∀ j : Nat, j < i + 1 → isG (T (p + j)) := fun j hh => by
        rcases Nat.lt_or_ge j i with z | z
        · exact hj j z
        · have : j = i := by omega
          subst this
          exact q
      have e4 : p + (i : Int) + 1 = p + ((i + 1 : Nat) : Int) := by omega
      have e5 : i + (rl cG T L (p + (i : Int) + 1) + 1) = (i + 1) + rl cG T L (p + ((i + 1 : Nat) : Int)) := by rw [e4]; omega
      rw [if_neg (fun z => b01_0.mp z q), c_X2_bold_21, rl_s ⟨by omega, by unfold cG; simpa using q⟩, e5]
      by_cases q8 : (i : Int) < 8
      · have hr := pk_rng (f := T) (n := i) (p := p) (fun j hh => by have := hj j hh; omega)
        have e6 : pk T p (min (i + 1) 8) = pk T p i + T (p + i) * 256 ^ i := by rw [show min (i + 1) 8 = i + 1 by omega, pk_top]
        rw [if_pos q8, c_X2_bold_27 _ _ _ _ _ _ _ _ B.g, w32_id (by omega) (by omega), f_at d B (by omega), bnd_v, pu_s, ea, c_X2_bold_35, c_X2_bold_43, w32_1 (by omega), show min i 8 = i by omega, lor_top hr.1 hr.2 (by omega) (by omega) (by omega), ← e6]
        exact ih (i + 1) (by omega) (by omega) hj'
      · rw [if_neg q8, c_X2_bold_43, w32_1 (by omega), show min i 8 = min (i + 1) 8 by omega]
        exact ih (i + 1) (by omega) (by omega) hj'
    · rw [if_pos (b01_0.mpr q), rl_n (by unfold cG; intro z; exact q (by simpa using z.2))]
      rfl
theorem xl_S (d : Nat) (B : LexB h lx kp kd pl wo tx T L) {p : Int} (hp : 0 ≤ p) : ∀ (k : Nat) (i : Nat), (L - (p + i)).toNat = k → p + i ≤ L → (∀ j : Nat, j < i → isS (T (p + j)) ∨ isD (T (p + j))) → FA (F (d + 1)) 13379666 4 [vR lx, vI p, vI i, vJ (pk T p (min i 8)), vX] [] (LH h lx kd pl wo K P W n) = FA (F (d + 1)) 13379666 66 [vR lx, vI p, vI ((i + rl cS T L (p + i) : Nat) : Int), vJ (pk T p (min (i + rl cS T L (p + i)) 8)), vX] [] (LH h lx kd pl wo K P W n) := by
  obtain ⟨t5, t6⟩ : 0 ≤ L ∧ L ≤ 480 := ⟨B.2.2.2.2.2.1.2.2.2.2.1, B.2.2.2.2.2.1.2.2.2.2.2.1⟩
  intro k
  induction k with
  | zero =>
    intro i e h1 hj
    rw [rl_n (by omega), c_X2_tag_4 _ _ _ _ _ _ B.g, w32_id (by omega) (by omega), f_at d B (by omega), bnd_v, pu_s, c_X2_tag_11, f_isIn, bnd_v, pu_s, c_X2_tag_18]
    have ea : atX T L (p + i) = 0 := if_neg (by omega)
    rw [ea, if_pos (b01_0.mpr (by decide)), c_X2_tag_21 _ _ _ _ _ _ B.g, w32_id (by omega) (by omega), f_at d B (by omega), bnd_v, pu_s, ea, c_X2_tag_28, f_isIn, bnd_v, pu_s, c_X2_tag_35, if_pos (b01_0.mpr (by decide))]
    rfl
  | succ k ih =>
    intro i e h1 hj
    have ea : atX T L (p + i) = T (p + i) := if_pos (by omega)
    have e4 : p + (i : Int) + 1 = p + ((i + 1 : Nat) : Int) := by omega
    have e5 : i + (rl cS T L (p + (i : Int) + 1) + 1) = (i + 1) + rl cS T L (p + ((i + 1 : Nat) : Int)) := by rw [e4]; omega
    have step : (isS (T (p + i)) ∨ isD (T (p + i))) → FA (F (d + 1)) 13379666 38 [vR lx, vI p, vI i, vJ (pk T p (min i 8)), vX] [] (LH h lx kd pl wo K P W n) = FA (F (d + 1)) 13379666 66 [vR lx, vI p, vI ((i + rl cS T L (p + i) : Nat) : Int), vJ (pk T p (min (i + rl cS T L (p + i)) 8)), vX] [] (LH h lx kd pl wo K P W n) := by
      intro q
      have hj' : ∀ j : Nat, j < i + 1 → isS (T (p + j)) ∨ isD (T (p + j)) := fun j hh => by
        rcases Nat.lt_or_ge j i with z | z
        · exact hj j z
        · have : j = i := by omega
          subst this
          exact q
      rw [c_X2_tag_38, rl_s ⟨by omega, by unfold cS; simpa using q⟩, e5]
      by_cases q8 : (i : Int) < 8
      · have hr := pk_rng (f := T) (n := i) (p := p) (fun j hh => by have := hj j hh; omega)
        have e6 : pk T p (min (i + 1) 8) = pk T p i + T (p + i) * 256 ^ i := by rw [show min (i + 1) 8 = i + 1 by omega, pk_top]
        rw [if_pos q8, c_X2_tag_44 _ _ _ _ _ _ B.g, w32_id (by omega) (by omega), f_at d B (by omega), bnd_v, pu_s, ea, c_X2_tag_52, c_X2_tag_60, w32_1 (by omega), show min i 8 = i by omega, lor_top hr.1 hr.2 (by omega) (by omega) (by omega), ← e6]
        exact ih (i + 1) (by omega) (by omega) hj'
      · rw [if_neg q8, c_X2_tag_60, w32_1 (by omega), show min i 8 = min (i + 1) 8 by omega]
        exact ih (i + 1) (by omega) (by omega) hj'
    rw [c_X2_tag_4 _ _ _ _ _ _ B.g, w32_id (by omega) (by omega), f_at d B (by omega), bnd_v, pu_s, c_X2_tag_11, f_isIn, bnd_v, pu_s, c_X2_tag_18, ea]
    by_cases q : isS (T (p + i))
    · rw [if_neg (fun z => b01_0.mp z q)]
      exact step (Or.inl q)
    · rw [if_pos (b01_0.mpr q), c_X2_tag_21 _ _ _ _ _ _ B.g, w32_id (by omega) (by omega), f_at d B (by omega), bnd_v, pu_s, ea, c_X2_tag_28, f_isIn, bnd_v, pu_s, c_X2_tag_35]
      by_cases r : isD (T (p + i))
      · rw [if_neg (fun z => b01_0.mp z r)]
        exact step (Or.inr r)
      · rw [if_pos (b01_0.mpr r), rl_n (by unfold cS; intro z; have := of_decide_eq_true z.2; omega)]
        rfl
theorem xl_D (d : Nat) (B : LexB h lx kp kd pl wo tx T L) {p : Int} (hp : 0 ≤ p) : ∀ (k : Nat) (i : Nat), (L - (p + i)).toNat = k → p + i ≤ L → (∀ j : Nat, j < i → isD (T (p + j))) → FA (F (d + 1)) 13641810 4 [vR lx, vI p, vI i, vJ (dv T p (min i 10)), vX] [] (LH h lx kd pl wo K P W n) = FA (F (d + 1)) 13641810 52 [vR lx, vI p, vI ((i + rl cD T L (p + i) : Nat) : Int), vJ (dv T p (min (i + rl cD T L (p + i)) 10)), vX] [] (LH h lx kd pl wo K P W n) := by
  obtain ⟨t5, t6⟩ : 0 ≤ L ∧ L ≤ 480 := ⟨B.2.2.2.2.2.1.2.2.2.2.1, B.2.2.2.2.2.1.2.2.2.2.2.1⟩
  intro k
  induction k with
  | zero =>
    intro i e h1 hj
    have ea : atX T L (p + i) = 0 := if_neg (by omega)
    rw [rl_n (by omega), c_X2_number_4 _ _ _ _ _ _ B.g, w32_id (by omega) (by omega), f_at d B (by omega), bnd_v, pu_s, c_X2_number_11, f_isIn, bnd_v, pu_s, c_X2_number_18, ea, if_pos (b01_0.mpr (by decide))]
    rfl
  | succ k ih =>
    intro i e h1 hj
    have ea : atX T L (p + i) = T (p + i) := if_pos (by omega)
    rw [c_X2_number_4 _ _ _ _ _ _ B.g, w32_id (by omega) (by omega), f_at d B (by omega), bnd_v, pu_s, c_X2_number_11, f_isIn, bnd_v, pu_s, c_X2_number_18, ea]
    by_cases q : isD (T (p + i))
    · have hj' : ∀ j : Nat, j < i + 1 → isD (T (p + j)) := fun j hh => by
        rcases Nat.lt_or_ge j i with z | z
        · exact hj j z
        · have : j = i := by omega
          subst this
          exact q
      have e4 : p + (i : Int) + 1 = p + ((i + 1 : Nat) : Int) := by omega
      have e5 : i + (rl cD T L (p + (i : Int) + 1) + 1) = (i + 1) + rl cD T L (p + ((i + 1 : Nat) : Int)) := by rw [e4]; omega
      rw [if_neg (fun z => b01_0.mp z q), c_X2_number_21, rl_s ⟨by omega, by unfold cD; simpa using q⟩, e5]
      by_cases q8 : (i : Int) < 10
      · have hr := dv_rng (T := T) (n := i) (p := p) hj
        have e7 : (10 : Int) ^ i ≤ 10 ^ 10 := by
          have : (10 : Nat) ^ i ≤ 10 ^ 10 := Nat.pow_le_pow_right (by decide) (by omega)
          exact_mod_cast this
        have e6 : dv T p (min (i + 1) 10) = 10 * dv T p i + T (p + i) - 48 := by rw [show min (i + 1) 10 = i + 1 by omega]; rfl
        rw [if_pos q8, c_X2_number_27 _ _ _ _ _ _ B.g, w32_id (by omega) (by omega), f_at d B (by omega), bnd_v, pu_s, ea, c_X2_number_39, c_X2_number_46, w32_1 (by omega), show min i 10 = i by omega, w64_id (x := 10 * dv T p i) (by omega) (by omega), w64_id (x := 10 * dv T p i + T (p + i)) (by omega) (by omega), w64_id (by omega) (by omega), ← e6]
        exact ih (i + 1) (by omega) (by omega) hj'
      · rw [if_neg q8, c_X2_number_46, w32_1 (by omega), show min i 10 = min (i + 1) 10 by omega]
        exact ih (i + 1) (by omega) (by omega) hj'
    · rw [if_pos (b01_0.mpr q), rl_n (by unfold cD; intro z; exact q (by simpa using z.2))]
      rfl
/-- is it a kept word -/
theorem xl_kept (cf : Nat → List PV → PH → Rs) (B : LexB h lx kp kd pl wo tx T L) {p a2 w : Int} : ∀ (k i : Nat), i + k = 41 → FA cf 13117522 63 [vR lx, vI p, vI a2, vJ w, vX, vI (b01 (∃ j : Nat, j < i ∧ KXL.getD j 0 = w)), vI i] [] (LH h lx kd pl wo K P W n) = FA cf 13117522 102 [vR lx, vI p, vI a2, vJ w, vX, vI (b01 (w ∈ KXL)), vI 41] [] (LH h lx kd pl wo K P W n) := by
  have B' := B
  obtain ⟨b1, ⟨c1, c2, c3, c4, c5, c6⟩, b3⟩ := B'
  have hw : gI (LH h lx kd pl wo K P W n) 310708756 lx = 41 := by rw [gI_LHo (by decide)]; exact c5
  intro k
  induction k with
  | zero =>
    intro i e
    have : i = 41 := by omega
    subst this
    rw [c_X2_bold_63 _ _ _ _ _ _ _ _ B.g, hw, if_neg (by decide)]
    have e2 : b01 (∃ j : Nat, j < 41 ∧ KXL.getD j 0 = w) = b01 (w ∈ KXL) := b01_c (by
      constructor
      · intro ⟨j, h1, h2⟩
        have hl : j < KXL.length := by rw [kx_mem.2.2]; exact h1
        rw [List.getD_eq_getElem?_getD, List.getElem?_eq_getElem hl] at h2
        rw [← h2]
        exact List.getElem_mem hl
      · intro z
        obtain ⟨j, h1, h2⟩ := List.getElem_of_mem z
        refine ⟨j, by rw [kx_mem.2.2] at h1; exact h1, ?_⟩
        rw [List.getD_eq_getElem?_getD, List.getElem?_eq_getElem h1]
        exact h2)
    rw [e2]
    rfl
  | succ k ih =>
    intro i e
    rw [c_X2_bold_63 _ _ _ _ _ _ _ _ B.g, hw, if_pos (by omega), c_X2_bold_72]
    have nx : ∀ q : Prop, ∀ _ : Decidable q, (q ↔ ∃ j : Nat, j < i + 1 ∧ KXL.getD j 0 = w) → FA cf 13117522 94 [vR lx, vI p, vI a2, vJ w, vX, vI (b01 (∃ j : Nat, j < i ∧ KXL.getD j 0 = w)), vI i] [vI (b01 q)] (LH h lx kd pl wo K P W n) = FA cf 13117522 102 [vR lx, vI p, vI a2, vJ w, vX, vI (b01 (w ∈ KXL)), vI 41] [] (LH h lx kd pl wo K P W n) := by
      intro q _ hq
      rw [c_X2_bold_94, w32_1 (by omega), b01_c hq]
      exact ih (i + 1) (by omega)
    by_cases q : ∃ j : Nat, j < i ∧ KXL.getD j 0 = w
    · rw [if_neg (fun z => b01_0.mp z q), c_X2_bold_89]
      have := nx True inferInstance ⟨fun _ => by obtain ⟨j, h1, h2⟩ := q; exact ⟨j, by omega, h2⟩, fun _ => trivial⟩
      rw [b01_p trivial] at this
      exact this
    · rw [if_pos (b01_0.mpr q), c_X2_bold_77 _ _ _ _ _ _ _ _ B.g ⟨by rw [gR_LH, hc_LH, c1, c2], by rw [gR_LH, hl_LH, c1, c3]; constructor <;> omega⟩, gR_LH, c1, eJ_LHo c4, c6 i (by omega)]
      by_cases r : KXL.getD i 0 = w
      · rw [if_pos ((lcm_eq _ _).mpr r), c_X2_bold_89]
        have := nx True inferInstance ⟨fun _ => ⟨i, by omega, r⟩, fun _ => trivial⟩
        rw [b01_p trivial] at this
        exact this
      · rw [if_neg (fun z => r ((lcm_eq _ _).mp z)), c_X2_bold_93]
        have := nx False inferInstance ⟨fun z => z.elim, fun ⟨j, h1, h2⟩ => by
          rcases Nat.lt_or_ge j i with z | z
          · exact q ⟨j, z, h2⟩
          · have : j = i := by omega
            subst this
            exact r h2⟩
        rw [b01_n (fun z => z)] at this
        exact this
/-- the rows take a token -/
theorem st_ok (B : LexB h lx kp kd pl wo tx T L) (hn0 : 0 ≤ n) (hn1 : n < 482) {f : Nat} (hf : f ∈ tokF) : inT 71 75 (hc (LH h lx kd pl wo K P W n) kd) ∧ (hc (LH h lx kd pl wo K P W n) kd) ≠ 72 ∧ okE (LH h lx kd pl wo K P W n) (hc (LH h lx kd pl wo K P W n) kd) (gR h f 0) ∧ inA n (hl (LH h lx kd pl wo K P W n) kd) := by
  obtain ⟨b1, b2, ⟨k1, k2, k3⟩, b4, b5, b6, C⟩ := B
  rw [hc_LH, k2, hl_LH, k3]
  exact ⟨by decide, by decide, Or.inr (Or.inr (Or.inl ⟨rfl, C.2.2.1.1 f hf⟩)), hn0, hn1⟩
theorem wt_ok (B : LexB h lx kp kd pl wo tx T L) (hn0 : 0 ≤ n) (hn1 : n < 482) : (hc (LH h lx kd pl wo K P W n) wo) = 66 ∧ inA n (hl (LH h lx kd pl wo K P W n) wo) := by
  obtain ⟨b1, b2, b3, b4, ⟨k1, k2, k3⟩, b6, C⟩ := B
  rw [hc_LH, k2, hl_LH, k3]
  exact ⟨rfl, hn0, hn1⟩
theorem f_bold (d : Nat) (B : LexB h lx kp kd pl wo tx T L) (hn0 : 0 ≤ n) (hn1 : n < 482) {p : Int} (hp : 0 ≤ p) (hp1 : p < L) : F (d + 2) 13117522 [vR lx, vI p] (LH h lx kd pl wo K P W n) = if 8 < rl cG T L p then some (.inl (some (vI p)), LH h lx kd pl wo K P W n) else some (.inl (some (vI (p + rl cG T L p))), LH h lx kd pl wo (ufn K n (gR h (if 0 ≤ kix (pk T p (rl cG T L p)) 0 KWL then 3615490050 else 3623878658) 0)) P (ufn W n (pk T p (rl cG T L p))) n) := by
  have hL : L ≤ 480 := B.2.2.2.2.2.1.2.2.2.2.2.1
  have e1 := xl_G (K := K) (P := P) (W := W) (n := n) (a5 := vX) (a6 := vX) d B hp _ 0 rfl (by omega) (fun j hj => absurd hj (by omega))
  rw [show p + ((0 : Nat) : Int) = p by omega] at e1
  have e1 : FA (F (d + 1)) 13117522 4 [vR lx, vI p, vI 0, vJ 0, vX, vX, vX] [] (LH h lx kd pl wo K P W n) = _ := e1
  have hle := rl_le (c := cG) (T := T) (L := L) _ p rfl (by omega)
  rw [show 0 + rl cG T L p = rl cG T L p by omega] at e1
  rw [e_X2_bold, c_X2_bold_0, e1, c_X2_bold_49]
  generalize rl cG T L p = N at *
  by_cases q : 8 < N
  · rw [if_pos (by omega), if_pos q, c_X2_bold_55]
  · have e2 := xl_kept (K := K) (P := P) (W := W) (n := n) (F (d + 1)) B (p := p) (a2 := N) (w := pk T p N) 41 0 (by omega)
    rw [b01_n (fun z => by obtain ⟨j, h1, _⟩ := z; omega)] at e2
    rw [if_neg (by omega), if_neg q, show min N 8 = N by omega, c_X2_bold_57]
    have e2 : FA (F (d + 1)) 13117522 63 [vR lx, vI p, vI N, vJ (pk T p N), vX, vI 0, vI 0] [] (LH h lx kd pl wo K P W n) = _ := e2
    have k1 := B.2.2.1.1
    have w1 := B.2.2.2.2.1.1
    have km : 0 ≤ kix (pk T p N) 0 KWL ↔ pk T p N ∈ KXL := by
      rw [kix_mem KWL 0 (by omega)]
      exact ⟨fun z => kx_mem.2.1 _ z, fun z => kx_mem.1 _ z⟩
    rw [e2, c_X2_bold_102 _ _ _ _ _ _ _ _ B.g, gI_LHc, gR_LH, k1]
    by_cases r : pk T p N ∈ KXL
    · rw [if_neg (fun z => b01_0.mp z r), if_pos (km.mpr r), c_X2_bold_115, gR_LH, c_X2_bold_124 _ _ _ _ _ _ _ _ _ _ _ (st_ok B hn0 hn1 (by decide)) B.g (by rw [gR_LH, w1, gI_LHc]; exact wt_ok B hn0 hn1), w32_id (by omega) (by omega), gR_LH, gI_LHc, w1, qR_LH, qJ_LH]
    · rw [if_pos (b01_0.mpr r), if_neg (fun z => r (km.mp z)), c_X2_bold_121, gR_LH, c_X2_bold_124 _ _ _ _ _ _ _ _ _ _ _ (st_ok B hn0 hn1 (by decide)) B.g (by rw [gR_LH, w1, gI_LHc]; exact wt_ok B hn0 hn1), w32_id (by omega) (by omega), gR_LH, gI_LHc, w1, qR_LH, qJ_LH]
theorem f_xtag (d : Nat) (B : LexB h lx kp kd pl wo tx T L) (hn0 : 0 ≤ n) (hn1 : n < 482) {p : Int} (hp : 0 ≤ p) (hp1 : p < L) : F (d + 2) 13379666 [vR lx, vI p] (LH h lx kd pl wo K P W n) = if 8 < rl cS T L p then some (.inl (some (vI p)), LH h lx kd pl wo K P W n) else some (.inl (some (vI (p + rl cS T L p))), LH h lx kd pl wo (ufn K n (gR h 3632267266 0)) P (ufn W n (pk T p (rl cS T L p))) n) := by
  have hL : L ≤ 480 := B.2.2.2.2.2.1.2.2.2.2.2.1
  have e1 := xl_S (K := K) (P := P) (W := W) (n := n) d B hp _ 0 rfl (by omega) (fun j hj => absurd hj (by omega))
  rw [show p + ((0 : Nat) : Int) = p by omega] at e1
  have e1 : FA (F (d + 1)) 13379666 4 [vR lx, vI p, vI 0, vJ 0, vX] [] (LH h lx kd pl wo K P W n) = _ := e1
  have hle := rl_le (c := cS) (T := T) (L := L) _ p rfl (by omega)
  rw [show 0 + rl cS T L p = rl cS T L p by omega] at e1
  rw [e_X2_tag, c_X2_tag_0, e1, c_X2_tag_66]
  generalize rl cS T L p = N at *
  have k1 := B.2.2.1.1
  have w1 := B.2.2.2.2.1.1
  by_cases q : 8 < N
  · rw [if_pos (by omega), if_pos q, c_X2_tag_72]
  · rw [if_neg (by omega), if_neg q, show min N 8 = N by omega, c_X2_tag_74 _ _ _ _ _ _ B.g (by rw [gR_LH, k1, gI_LHc]; exact st_ok B hn0 hn1 (by decide)) (by rw [gR_LH, w1, gI_LHc]; exact wt_ok B hn0 hn1), w32_id (by omega) (by omega)]
    simp only [gR_LH, gI_LHc, k1, w1, qR_LH, qJ_LH]
theorem f_xnumber (d : Nat) (B : LexB h lx kp kd pl wo tx T L) (hn0 : 0 ≤ n) (hn1 : n < 482) {p : Int} (hp : 0 ≤ p) (hp1 : p < L) : F (d + 2) 13641810 [vR lx, vI p] (LH h lx kd pl wo K P W n) = if rl cD T L p ≤ 10 ∧ dv T p (rl cD T L p) ≤ 2147483647 then some (.inl (some (vI (p + rl cD T L p))), LH h lx kd pl wo (ufn K n (gR h 3640655874 0)) P (ufn W n (dv T p (rl cD T L p))) n) else some (.inl (some (vI p)), LH h lx kd pl wo K P W n) := by
  have hL : L ≤ 480 := B.2.2.2.2.2.1.2.2.2.2.2.1
  have e1 := xl_D (K := K) (P := P) (W := W) (n := n) d B hp _ 0 rfl (by omega) (fun j hj => absurd hj (by omega))
  rw [show p + ((0 : Nat) : Int) = p by omega] at e1
  have e1 : FA (F (d + 1)) 13641810 4 [vR lx, vI p, vI 0, vJ 0, vX] [] (LH h lx kd pl wo K P W n) = _ := e1
  have hle := rl_le (c := cD) (T := T) (L := L) _ p rfl (by omega)
  rw [show 0 + rl cD T L p = rl cD T L p by omega] at e1
  rw [e_X2_number, c_X2_number_0, e1, c_X2_number_52]
  generalize rl cD T L p = N at *
  have k1 := B.2.2.1.1
  have w1 := B.2.2.2.2.1.1
  by_cases q : 10 < N
  · rw [if_pos (by omega), if_neg (by omega), c_X2_number_66]
  · rw [if_neg (by omega), show min N 10 = N by omega, c_X2_number_58]
    by_cases r : 2147483647 < dv T p N
    · rw [if_pos ((lcm_gt _ _).mpr r), if_neg (by omega), c_X2_number_66]
    · rw [if_neg (fun z => r ((lcm_gt _ _).mp z)), if_pos (by omega), c_X2_number_68 _ _ _ _ _ _ B.g (by rw [gR_LH, k1, gI_LHc]; exact st_ok B hn0 hn1 (by decide)) (by rw [gR_LH, w1, gI_LHc]; exact wt_ok B hn0 hn1), w32_id (by omega) (by omega)]
      simp only [gR_LH, gI_LHc, k1, w1, qR_LH, qJ_LH]
theorem x2w : ior 58 (ishl 61 8) = 15674 ∧ ior 47 (ishl 61 8) = 15663 ∧ ior 60 (ishl 61 8) = 15676 ∧ ior 62 (ishl 61 8) = 15678 := by decide +kernel
theorem f_xsign (d : Nat) (B : LexB h lx kp kd pl wo tx T L) (hn0 : 0 ≤ n) (hn1 : n < 482) {p : Int} (hp : 0 ≤ p) (hp1 : p < L) : F (d + 2) 13903955 [vR lx, vI p, vI (T p)] (LH h lx kd pl wo K P W n) = if T p ∈ sgL then some (.inl (some (vI (if isTwo T L p then p + 2 else p + 1))), LH h lx kd pl wo (ufn K n (gR h (xkF 5 (if isTwo T L p then two (T p) else T p)) 0)) P (ufn W n (xw (if isTwo T L p then two (T p) else T p))) n) else some (.inl (some (vI p)), LH h lx kd pl wo K P W n) := by
  have hL : L ≤ 480 := B.2.2.2.2.2.1.2.2.2.2.2.1
  have k1 := B.2.2.1.1
  have w1 := B.2.2.2.2.1.1
  rw [e_X2_sign, c_X2_sign_0 _ _ _ _ _ _ _ _ _ _ B.g, w32_id (by omega) (by omega), f_at d B (by omega), bnd_v, pu_s, z_X2_sign_7, z_X2_sign_25, z_X2_sign_61, z_X2_sign_110, c_X2_sign_183]
  have h2 : (¬ (b01 (T p = 58 ∧ atX T L (p + 1) = 61) = 0) ∨ (atX T L (p + 1) = 61 ∧ (T p = 47 ∨ (T p = 60 ∨ T p = 62)))) ↔ isTwo T L p := by
    rw [b01_0]
    unfold atX isTwo
    by_cases z : p + 1 < L
    · rw [if_pos z]; omega
    · rw [if_neg z]; omega
  have hm : (b01 (T p = 40 ∨ (T p = 41 ∨ (T p = 91 ∨ (T p = 93 ∨ (T p = 44 ∨ (T p = 59 ∨ T p = 58))))))) = b01 (T p ∈ mkL) := b01_c (by unfold mkL; simp; have := B.2.2.2.2.2.1.2.2.2.2.2.2 p hp hp1; omega)
  have hb := B.2.2.2.2.2.1.2.2.2.2.2.2 p hp hp1
  have hs : b01 (T p = 43 ∨ (T p = 45 ∨ (T p = 42 ∨ (T p = 47 ∨ (T p = 37 ∨ (T p = 38 ∨ (T p = 33 ∨ (T p = 126 ∨ (T p = 61 ∨ (T p = 60 ∨ T p = 62)))))))))) = b01 (T p ∈ sgL ∧ ¬ T p ∈ mkL) := b01_c (by unfold mkL sgL; simp; omega)
  have hsub : T p ∈ mkL → T p ∈ sgL := by unfold mkL sgL; simp; omega
  rw [hm, hs, b01_c h2]
  have fin : ∀ (f : Nat) (u v : Int), f ∈ tokF → FA (F (d + 1)) 13903955 219 [vR lx, vI p, vI (T p), vI (atX T L (p + 1)), vI u, vI (b01 (isTwo T L p)), vI (b01 (T p ∈ mkL)), vI v] [vR (gR h f 0), vI n, vR kd] (LH h lx kd pl wo K P W n) = some (.inl (some (vI (if isTwo T L p then p + 2 else p + 1))), LH h lx kd pl wo (ufn K n (gR h f 0)) P (ufn W n (xw (if isTwo T L p then two (T p) else T p))) n) := by
    intro f u v hf
    rw [c_X2_sign_219 _ _ _ _ _ _ _ _ _ _ _ _ _ (st_ok B hn0 hn1 hf) B.g, qR_LH, gI_LHc, gR_LH, w1]
    by_cases q : isTwo T L p
    · have ea : atX T L (p + 1) = 61 := by unfold atX; rw [if_pos q.1.1]; exact q.1.2
      have ew : ior (T p) (ishl (atX T L (p + 1)) 8) = xw (two (T p)) := by
        rw [ea]
        rcases q.2 with z | z | z | z <;> rw [z]
        · exact x2w.1
        · exact x2w.2.1
        · exact x2w.2.2.1
        · exact x2w.2.2.2
      rw [if_neg (fun z => b01_0.mp z q), c_X2_sign_233, c_X2_sign_245 _ _ _ _ _ _ _ _ _ _ _ _ _ (wt_ok B hn0 hn1), if_neg (fun z => b01_0.mp z q), c_X2_sign_251, c_X2_sign_260, qJ_LH, ew, if_pos q, if_pos q, w32_id (by omega) (by omega)]
    · have ew : xw (T p) = T p := by unfold xw; rw [if_neg (by omega), if_neg (by omega), if_neg (by omega), if_neg (by omega)]
      rw [if_pos (b01_0.mpr q), c_X2_sign_243, c_X2_sign_245 _ _ _ _ _ _ _ _ _ _ _ _ _ (wt_ok B hn0 hn1), if_pos (b01_0.mpr q), c_X2_sign_257, c_X2_sign_260, qJ_LH, if_neg q, if_neg q, ew, w32_id (by omega) (by omega)]
  by_cases qm : T p ∈ mkL
  · have hk : xkF 5 (if isTwo T L p then two (T p) else T p) = 3649044482 := by
      unfold xkF
      rw [if_neg (by decide), if_neg (by decide), if_neg (by decide), if_neg (by decide), if_neg (by decide), if_neg (by decide)]
      by_cases q : isTwo T L p
      · have : T p = 58 := by
          have q2 := q.2
          unfold mkL at qm
          simp at qm
          omega
        rw [if_pos q, this]
        rfl
      · rw [if_neg q, if_pos qm]
    rw [if_neg (fun z => b01_0.mp z qm), c_X2_sign_197 _ _ _ _ _ _ _ _ _ _ B.g, if_neg (fun z => b01_0.mp z qm), gI_LHc, gR_LH, k1, c_X2_sign_210, gR_LH, fin _ _ _ (by decide), if_pos (hsub qm), hk]
  · rw [if_pos (b01_0.mpr qm), c_X2_sign_190]
    by_cases qs : T p ∈ sgL
    · have hk : xkF 5 (if isTwo T L p then two (T p) else T p) = 3657433090 := by
        unfold xkF
        rw [if_neg (by decide), if_neg (by decide), if_neg (by decide), if_neg (by decide), if_neg (by decide), if_neg (by decide)]
        by_cases q : isTwo T L p
        · have q2 := q.2
          have : T p ≠ 58 := fun z => qm (by rw [z]; decide)
          rw [if_pos q, if_neg]
          unfold two mkL
          rw [if_neg this]
          split
          · decide
          · split <;> decide
        · rw [if_neg q, if_neg qm]
      rw [if_neg (fun z => b01_0.mp z ⟨qs, qm⟩), c_X2_sign_197 _ _ _ _ _ _ _ _ _ _ B.g, if_pos (b01_0.mpr qm), gI_LHc, gR_LH, k1, c_X2_sign_216, gR_LH, fin _ _ _ (by decide), if_pos qs, hk]
    · rw [if_pos (b01_0.mpr (fun z => qs z.1)), c_X2_sign_195, if_neg qs]
/-- a token -/
theorem f_xtoken (d : Nat) (B : LexB h lx kp kd pl wo tx T L) (hn0 : 0 ≤ n) (hn1 : n < 482) {p : Int} (hp : 0 ≤ p) (hp1 : p < L) : F (d + 3) 12593234 [vR lx, vI p] (LH h lx kd pl wo K P W n) = some (.inl (some (vI (if (lexAt T L p).1 = 6 then p else (lexAt T L p).2.2.2))), LH h lx kd pl wo (ufn K n (gR h (xkF (lexAt T L p).1 (lexAt T L p).2.1) 0)) P (ufn W n (xwo (lexAt T L p).1 (lexAt T L p).2.1 (lexAt T L p).2.2.1)) n) := by
  have k1 := B.2.2.1.1
  have w1 := B.2.2.2.2.1.1
  have s1 := B.2.2.2.2.2.1.2.1
  have ea : atX T L p = T p := if_pos hp1
  rw [e_X2_token, c_X2_token_0 _ _ _ _ _ B.g, f_at (d + 1) B hp, bnd_v, pu_s, ea, c_X2_token_5 _ _ _ _ _ _ B.g (by rw [gR_LH, k1, gI_LHc]; exact st_ok B hn0 hn1 (by decide)) (by rw [gR_LH, w1, gI_LHc]; exact wt_ok B hn0 hn1)]
  simp only [gR_LH, gI_LHc, k1, w1, qR_LH, qJ_LH]
  rw [gI_LHo (by decide), s1, if_pos hp1, c_X2_token_50, f_isIn, bnd_v, pu_s, c_X2_token_58]
  unfold lexAt
  by_cases qG : isG (T p)
  · rw [if_neg (fun z => b01_0.mp z qG), c_X2_token_61 _ _ _ _ _ B.g, f_bold d B hn0 hn1 hp hp1, if_pos qG]
    by_cases q : 8 < rl cG T L p
    · simp only [if_pos q, bnd_v, pu_s]
      rw [c_X2_token_66]
      rfl
    · simp only [if_neg q, bnd_v, pu_s, ufn_2]
      rw [c_X2_token_66]
      by_cases r : 0 ≤ kix (pk T p (rl cG T L p)) 0 KWL
      · simp only [if_pos r]
        rfl
      · simp only [if_neg r]
        rfl
  rw [if_pos (b01_0.mpr qG), c_X2_token_67, f_isIn, bnd_v, pu_s, c_X2_token_75, if_neg qG]
  by_cases qS : isS (T p)
  · rw [if_neg (fun z => b01_0.mp z qS), c_X2_token_78 _ _ _ _ _ B.g, f_xtag d B hn0 hn1 hp hp1, if_pos qS]
    by_cases q : 8 < rl cS T L p
    · simp only [if_pos q, bnd_v, pu_s]
      rw [c_X2_token_83]
      rfl
    · simp only [if_neg q, bnd_v, pu_s, ufn_2]
      rw [c_X2_token_83]
      rfl
  rw [if_pos (b01_0.mpr qS), c_X2_token_84, f_isIn, bnd_v, pu_s, c_X2_token_92, if_neg qS]
  by_cases qD : isD (T p)
  · rw [if_neg (fun z => b01_0.mp z qD), c_X2_token_95 _ _ _ _ _ B.g, f_xnumber d B hn0 hn1 hp hp1, if_pos qD]
    by_cases q : rl cD T L p ≤ 10 ∧ dv T p (rl cD T L p) ≤ 2147483647
    · simp only [if_pos q, bnd_v, pu_s, ufn_2]
      rw [c_X2_token_100]
      rfl
    · simp only [if_neg q, bnd_v, pu_s]
      rw [c_X2_token_100]
      rfl
  rw [if_pos (b01_0.mpr qD), c_X2_token_101 _ _ _ _ _ B.g, f_xsign d B hn0 hn1 hp hp1, if_neg qD]
  by_cases q : T p ∈ sgL
  · simp only [if_pos q, bnd_v, pu_s, ufn_2]
    rw [c_X2_token_107]
    rfl
  · simp only [if_neg q, bnd_v, pu_s]
    rw [c_X2_token_107]
    rfl
theorem f_xtokenE (d : Nat) (B : LexB h lx kp kd pl wo tx T L) (hn0 : 0 ≤ n) (hn1 : n < 482) (hL : 0 ≤ L) : F (d + 3) 12593234 [vR lx, vI L] (LH h lx kd pl wo K P W n) = some (.inl (some (vI L)), LH h lx kd pl wo (ufn K n (gR h 3598712834 0)) P (ufn W n 0) n) := by
  have k1 := B.2.2.1.1
  have w1 := B.2.2.2.2.1.1
  have s1 := B.2.2.2.2.2.1.2.1
  rw [e_X2_token, c_X2_token_0 _ _ _ _ _ B.g, f_at (d + 1) B hL, bnd_v, pu_s, c_X2_token_5 _ _ _ _ _ _ B.g (by rw [gR_LH, k1, gI_LHc]; exact st_ok B hn0 hn1 (by decide)) (by rw [gR_LH, w1, gI_LHc]; exact wt_ok B hn0 hn1)]
  simp only [gR_LH, gI_LHc, k1, w1, qR_LH, qJ_LH]
  rw [gI_LHo (by decide), s1, if_neg (by omega), c_X2_token_36 _ _ _ _ _ B.g (by rw [gR_LH, k1, gI_LHc]; exact st_ok B hn0 hn1 (by decide))]
  simp only [gR_LH, gI_LHc, k1, w1, qR_LH, ufn_2]
end XL
