/-! x's PARSER: questions about tokens -/
set_option maxRecDepth 100000
theorem e_X11_isModeTag (d : Nat) (a0 : Nat) (a1 : Int) (h : PH) : F (d + 1) 104669762 [vR a0, vI a1] h = FA (F d) 104669762 0 [vR a0, vI a1, vX, vX] [] h := rfl
theorem c_X11_isModeTag_0 (cf : Nat → List PV → PH → Rs) (a0 : Nat) (a1 : Int) (a2 : PV) (a3 : PV) (h : PH) (g0 : inT 36 36 (hc h a0)) : FA cf 104669762 0 [vR a0, vI a1, a2, a3] [] h = bnd (cf 103096898 [vR a0, vI a1] h) (fun v h' => FA cf 104669762 5 [vR a0, vI a1, a2, a3] (pu v []) h') := ((FA_ex cf 104669762 3 _ _ _ _).trans rfl : FA cf 104669762 0 [vR a0, vI a1, a2, a3] [] h = gd (inT 36 36 (hc h a0)) (bnd (cf 103096898 [vR a0, vI a1] h) (fun v h' => FA cf 104669762 5 [vR a0, vI a1, a2, a3] (pu v []) h'))).trans ((gd_t g0))
theorem c_X11_isModeTag_5 (cf : Nat → List PV → PH → Rs) (a0 : Nat) (a1 : Int) (a2 : PV) (a3 : PV) (s0 : Nat) (h : PH) : FA cf 104669762 5 [vR a0, vI a1, a2, a3] [vR s0] h = if s0 = (gR h 3623878658 0) then FA cf 104669762 13 [vR a0, vI a1, a2, a3] [] h else FA cf 104669762 11 [vR a0, vI a1, a2, a3] [] h := (FA_ex cf 104669762 2 _ _ _ _).trans rfl
theorem c_X11_isModeTag_11 (cf : Nat → List PV → PH → Rs) (a0 : Nat) (a1 : Int) (a2 : PV) (a3 : PV) (h : PH) : FA cf 104669762 11 [vR a0, vI a1, a2, a3] [] h = some (.inl (some (vI 0)), h) := ((FA_ex cf 104669762 2 _ _ _ _).trans rfl : FA cf 104669762 11 [vR a0, vI a1, a2, a3] [] h = gd ((0 : Int) = 0 ∨ (0 : Int) = 1) (some (.inl (some (vI 0)), h))).trans ((gd_t (by decide)))
theorem c_X11_isModeTag_13 (cf : Nat → List PV → PH → Rs) (a0 : Nat) (a1 : Int) (a2 : PV) (a3 : PV) (h : PH) : FA cf 104669762 13 [vR a0, vI a1, a2, a3] [] h = FA cf 104669762 17 [vR a0, vI a1, vI 0, vI 1] [] h := (FA_ex cf 104669762 4 _ _ _ _).trans rfl
theorem c_X11_isModeTag_17 (cf : Nat → List PV → PH → Rs) (a0 : Nat) (a1 : Int) (a2 : Int) (a3 : Int) (h : PH) (g0 : inT 36 36 (hc h a0)) (g1 : inT 5 5 (hc h (gR h 1277446290 a0))) : FA cf 104669762 17 [vR a0, vI a1, vI a2, vI a3] [] h = if a3 < (gI h 344263188 (gR h 1277446290 a0)) then FA cf 104669762 28 [vR a0, vI a1, vI a2, vI a3] [] h else FA cf 104669762 89 [vR a0, vI a1, vI a2, vI a3] [] h := ((FA_ex cf 104669762 5 _ _ _ _).trans rfl : FA cf 104669762 17 [vR a0, vI a1, vI a2, vI a3] [] h = gd (inT 36 36 (hc h a0)) (gd (inT 5 5 (hc h (gR h 1277446290 a0))) (if a3 < (gI h 344263188 (gR h 1277446290 a0)) then FA cf 104669762 28 [vR a0, vI a1, vI a2, vI a3] [] h else FA cf 104669762 89 [vR a0, vI a1, vI a2, vI a3] [] h))).trans ((gd_t g0).trans ((gd_t g1)))
theorem c_X11_isModeTag_28 (cf : Nat → List PV → PH → Rs) (a0 : Nat) (a1 : Int) (a2 : Int) (a3 : Int) (h : PH) : FA cf 104669762 28 [vR a0, vI a1, vI a2, vI a3] [] h = if a2 = 0 then FA cf 104669762 32 [vR a0, vI a1, vI a2, vI a3] [] h else FA cf 104669762 89 [vR a0, vI a1, vI a2, vI a3] [] h := (FA_ex cf 104669762 2 _ _ _ _).trans rfl
theorem c_X11_isModeTag_32 (cf : Nat → List PV → PH → Rs) (a0 : Nat) (a1 : Int) (a2 : Int) (a3 : Int) (h : PH) (g0 : inT 36 36 (hc h a0)) : FA cf 104669762 32 [vR a0, vI a1, vI a2, vI a3] [] h = bnd (cf 103096898 [vR a0, vI a3] h) (fun v h' => FA cf 104669762 37 [vR a0, vI a1, vI a2, vI a3] (pu v []) h') := ((FA_ex cf 104669762 3 _ _ _ _).trans rfl : FA cf 104669762 32 [vR a0, vI a1, vI a2, vI a3] [] h = gd (inT 36 36 (hc h a0)) (bnd (cf 103096898 [vR a0, vI a3] h) (fun v h' => FA cf 104669762 37 [vR a0, vI a1, vI a2, vI a3] (pu v []) h'))).trans ((gd_t g0))
theorem c_X11_isModeTag_37 (cf : Nat → List PV → PH → Rs) (a0 : Nat) (a1 : Int) (a2 : Int) (a3 : Int) (s0 : Nat) (h : PH) : FA cf 104669762 37 [vR a0, vI a1, vI a2, vI a3] [vR s0] h = if s0 = (gR h 3623878658 0) then FA cf 104669762 43 [vR a0, vI a1, vI a2, vI a3] [] h else FA cf 104669762 81 [vR a0, vI a1, vI a2, vI a3] [] h := (FA_ex cf 104669762 2 _ _ _ _).trans rfl
theorem c_X11_isModeTag_43 (cf : Nat → List PV → PH → Rs) (a0 : Nat) (a1 : Int) (a2 : Int) (a3 : Int) (h : PH) (g0 : inT 36 36 (hc h a0)) : FA cf 104669762 43 [vR a0, vI a1, vI a2, vI a3] [] h = bnd (cf 102834755 [vR a0, vI (w32 (a3 - 1)), vR (gR h 3674210306 0)] h) (fun v h' => FA cf 104669762 52 [vR a0, vI a1, vI a2, vI a3] (pu v []) h') := ((FA_ex cf 104669762 6 _ _ _ _).trans rfl : FA cf 104669762 43 [vR a0, vI a1, vI a2, vI a3] [] h = gd (inT 36 36 (hc h a0)) (bnd (cf 102834755 [vR a0, vI (w32 (a3 - 1)), vR (gR h 3674210306 0)] h) (fun v h' => FA cf 104669762 52 [vR a0, vI a1, vI a2, vI a3] (pu v []) h'))).trans ((gd_t g0))
theorem c_X11_isModeTag_52 (cf : Nat → List PV → PH → Rs) (a0 : Nat) (a1 : Int) (a2 : Int) (a3 : Int) (s0 : Int) (h : PH) : FA cf 104669762 52 [vR a0, vI a1, vI a2, vI a3] [vI s0] h = if s0 = 0 then FA cf 104669762 81 [vR a0, vI a1, vI a2, vI a3] [] h else FA cf 104669762 55 [vR a0, vI a1, vI a2, vI a3] [] h := (FA_ex cf 104669762 1 _ _ _ _).trans rfl
theorem c_X11_isModeTag_55 (cf : Nat → List PV → PH → Rs) (a0 : Nat) (a1 : Int) (a2 : Int) (a3 : Int) (h : PH) (g0 : inT 36 36 (hc h a0)) (g1 : inT 5 5 (hc h (gR h 1277446290 a0))) (g2 : (hc h (gR h 335874582 (gR h 1277446290 a0))) = 66 ∧ inA a3 (hl h (gR h 335874582 (gR h 1277446290 a0)))) (g3 : (hc h (gR h 335874582 (gR h 1277446290 a0))) = 66 ∧ inA a1 (hl h (gR h 335874582 (gR h 1277446290 a0)))) : FA cf 104669762 55 [vR a0, vI a1, vI a2, vI a3] [] h = if (lcm (eJ h (gR h 335874582 (gR h 1277446290 a0)) a3) (eJ h (gR h 335874582 (gR h 1277446290 a0)) a1)) = 0 then FA cf 104669762 77 [vR a0, vI a1, vI a2, vI a3] [] h else FA cf 104669762 81 [vR a0, vI a1, vI a2, vI a3] [] h := ((FA_ex cf 104669762 12 _ _ _ _).trans rfl : FA cf 104669762 55 [vR a0, vI a1, vI a2, vI a3] [] h = gd (inT 36 36 (hc h a0)) (gd (inT 5 5 (hc h (gR h 1277446290 a0))) (gd ((hc h (gR h 335874582 (gR h 1277446290 a0))) = 66 ∧ inA a3 (hl h (gR h 335874582 (gR h 1277446290 a0)))) (gd (inT 36 36 (hc h a0)) (gd (inT 5 5 (hc h (gR h 1277446290 a0))) (gd ((hc h (gR h 335874582 (gR h 1277446290 a0))) = 66 ∧ inA a1 (hl h (gR h 335874582 (gR h 1277446290 a0)))) (if (lcm (eJ h (gR h 335874582 (gR h 1277446290 a0)) a3) (eJ h (gR h 335874582 (gR h 1277446290 a0)) a1)) = 0 then FA cf 104669762 77 [vR a0, vI a1, vI a2, vI a3] [] h else FA cf 104669762 81 [vR a0, vI a1, vI a2, vI a3] [] h))))))).trans ((gd_t g0).trans ((gd_t g1).trans ((gd_t g2).trans ((gd_t g0).trans ((gd_t g1).trans ((gd_t g3)))))))
theorem c_X11_isModeTag_77 (cf : Nat → List PV → PH → Rs) (a0 : Nat) (a1 : Int) (a2 : Int) (a3 : Int) (h : PH) : FA cf 104669762 77 [vR a0, vI a1, vI a2, vI a3] [] h = FA cf 104669762 82 [vR a0, vI a1, vI a2, vI a3] [vI 1] h := (FA_ex cf 104669762 2 _ _ _ _).trans rfl
theorem c_X11_isModeTag_81 (cf : Nat → List PV → PH → Rs) (a0 : Nat) (a1 : Int) (a2 : Int) (a3 : Int) (h : PH) : FA cf 104669762 81 [vR a0, vI a1, vI a2, vI a3] [] h = FA cf 104669762 82 [vR a0, vI a1, vI a2, vI a3] [vI 0] h := (FA_ex cf 104669762 1 _ _ _ _).trans rfl
theorem c_X11_isModeTag_82 (cf : Nat → List PV → PH → Rs) (a0 : Nat) (a1 : Int) (a2 : Int) (a3 : Int) (s0 : Int) (h : PH) : FA cf 104669762 82 [vR a0, vI a1, vI a2, vI a3] [vI s0] h = FA cf 104669762 17 [vR a0, vI a1, vI s0, vI (w32 (a3 + 1))] [] h := (FA_ex cf 104669762 3 _ _ _ _).trans rfl
theorem c_X11_isModeTag_89 (cf : Nat → List PV → PH → Rs) (a0 : Nat) (a1 : Int) (a2 : Int) (a3 : Int) (h : PH) (g0 : (a2 : Int) = 0 ∨ (a2 : Int) = 1) : FA cf 104669762 89 [vR a0, vI a1, vI a2, vI a3] [] h = some (.inl (some (vI a2)), h) := ((FA_ex cf 104669762 2 _ _ _ _).trans rfl : FA cf 104669762 89 [vR a0, vI a1, vI a2, vI a3] [] h = gd ((a2 : Int) = 0 ∨ (a2 : Int) = 1) (some (.inl (some (vI a2)), h))).trans ((gd_t g0))
theorem e_X11_isOperation (d : Nat) (a0 : Nat) (a1 : Int) (h : PH) : F (d + 1) 110699074 [vR a0, vI a1] h = FA (F d) 110699074 0 [vR a0, vI a1] [] h := rfl
theorem c_X11_isOperation_0 (cf : Nat → List PV → PH → Rs) (a0 : Nat) (a1 : Int) (h : PH) (g0 : inT 36 36 (hc h a0)) : FA cf 110699074 0 [vR a0, vI a1] [] h = bnd (cf 103096898 [vR a0, vI a1] h) (fun v h' => FA cf 110699074 5 [vR a0, vI a1] (pu v []) h') := ((FA_ex cf 110699074 3 _ _ _ _).trans rfl : FA cf 110699074 0 [vR a0, vI a1] [] h = gd (inT 36 36 (hc h a0)) (bnd (cf 103096898 [vR a0, vI a1] h) (fun v h' => FA cf 110699074 5 [vR a0, vI a1] (pu v []) h'))).trans ((gd_t g0))
theorem c_X11_isOperation_5 (cf : Nat → List PV → PH → Rs) (a0 : Nat) (a1 : Int) (s0 : Nat) (h : PH) : FA cf 110699074 5 [vR a0, vI a1] [vR s0] h = if s0 = (gR h 3657433090 0) then FA cf 110699074 30 [vR a0, vI a1] [] h else FA cf 110699074 11 [vR a0, vI a1] [] h := (FA_ex cf 110699074 2 _ _ _ _).trans rfl
theorem c_X11_isOperation_11 (cf : Nat → List PV → PH → Rs) (a0 : Nat) (a1 : Int) (h : PH) (g0 : inT 36 36 (hc h a0)) : FA cf 110699074 11 [vR a0, vI a1] [] h = bnd (cf 103096898 [vR a0, vI a1] h) (fun v h' => FA cf 110699074 16 [vR a0, vI a1] (pu v []) h') := ((FA_ex cf 110699074 3 _ _ _ _).trans rfl : FA cf 110699074 11 [vR a0, vI a1] [] h = gd (inT 36 36 (hc h a0)) (bnd (cf 103096898 [vR a0, vI a1] h) (fun v h' => FA cf 110699074 16 [vR a0, vI a1] (pu v []) h'))).trans ((gd_t g0))
theorem c_X11_isOperation_16 (cf : Nat → List PV → PH → Rs) (a0 : Nat) (a1 : Int) (s0 : Nat) (h : PH) : FA cf 110699074 16 [vR a0, vI a1] [vR s0] h = if s0 = (gR h 3623878658 0) then FA cf 110699074 22 [vR a0, vI a1] [] h else FA cf 110699074 34 [vR a0, vI a1] [] h := (FA_ex cf 110699074 2 _ _ _ _).trans rfl
theorem c_X11_isOperation_22 (cf : Nat → List PV → PH → Rs) (a0 : Nat) (a1 : Int) (h : PH) (g0 : inT 36 36 (hc h a0)) : FA cf 110699074 22 [vR a0, vI a1] [] h = bnd (cf 104669762 [vR a0, vI a1] h) (fun v h' => FA cf 110699074 27 [vR a0, vI a1] (pu v []) h') := ((FA_ex cf 110699074 3 _ _ _ _).trans rfl : FA cf 110699074 22 [vR a0, vI a1] [] h = gd (inT 36 36 (hc h a0)) (bnd (cf 104669762 [vR a0, vI a1] h) (fun v h' => FA cf 110699074 27 [vR a0, vI a1] (pu v []) h'))).trans ((gd_t g0))
theorem c_X11_isOperation_27 (cf : Nat → List PV → PH → Rs) (a0 : Nat) (a1 : Int) (s0 : Int) (h : PH) : FA cf 110699074 27 [vR a0, vI a1] [vI s0] h = if s0 = 0 then FA cf 110699074 30 [vR a0, vI a1] [] h else FA cf 110699074 34 [vR a0, vI a1] [] h := (FA_ex cf 110699074 1 _ _ _ _).trans rfl
theorem c_X11_isOperation_30 (cf : Nat → List PV → PH → Rs) (a0 : Nat) (a1 : Int) (h : PH) : FA cf 110699074 30 [vR a0, vI a1] [] h = FA cf 110699074 35 [vR a0, vI a1] [vI 1] h := (FA_ex cf 110699074 2 _ _ _ _).trans rfl
theorem c_X11_isOperation_34 (cf : Nat → List PV → PH → Rs) (a0 : Nat) (a1 : Int) (h : PH) : FA cf 110699074 34 [vR a0, vI a1] [] h = FA cf 110699074 35 [vR a0, vI a1] [vI 0] h := (FA_ex cf 110699074 1 _ _ _ _).trans rfl
theorem c_X11_isOperation_35 (cf : Nat → List PV → PH → Rs) (a0 : Nat) (a1 : Int) (s0 : Int) (h : PH) (g0 : (s0 : Int) = 0 ∨ (s0 : Int) = 1) : FA cf 110699074 35 [vR a0, vI a1] [vI s0] h = some (.inl (some (vI s0)), h) := ((FA_ex cf 110699074 1 _ _ _ _).trans rfl : FA cf 110699074 35 [vR a0, vI a1] [vI s0] h = gd ((s0 : Int) = 0 ∨ (s0 : Int) = 1) (some (.inl (some (vI s0)), h))).trans ((gd_t g0))
theorem e_X11_sign (d : Nat) (a0 : Nat) (a1 : Int) (h : PH) : F (d + 1) 111485506 [vR a0, vI a1] h = FA (F d) 111485506 0 [vR a0, vI a1] [] h := rfl
theorem c_X11_sign_0 (cf : Nat → List PV → PH → Rs) (a0 : Nat) (a1 : Int) (h : PH) (g0 : inT 36 36 (hc h a0)) : FA cf 111485506 0 [vR a0, vI a1] [] h = bnd (cf 103096898 [vR a0, vI a1] h) (fun v h' => FA cf 111485506 5 [vR a0, vI a1] (pu v []) h') := ((FA_ex cf 111485506 3 _ _ _ _).trans rfl : FA cf 111485506 0 [vR a0, vI a1] [] h = gd (inT 36 36 (hc h a0)) (bnd (cf 103096898 [vR a0, vI a1] h) (fun v h' => FA cf 111485506 5 [vR a0, vI a1] (pu v []) h'))).trans ((gd_t g0))
theorem c_X11_sign_5 (cf : Nat → List PV → PH → Rs) (a0 : Nat) (a1 : Int) (s0 : Nat) (h : PH) : FA cf 111485506 5 [vR a0, vI a1] [vR s0] h = if s0 = (gR h 3657433090 0) then FA cf 111485506 11 [vR a0, vI a1] [] h else FA cf 111485506 23 [vR a0, vI a1] [] h := (FA_ex cf 111485506 2 _ _ _ _).trans rfl
theorem c_X11_sign_11 (cf : Nat → List PV → PH → Rs) (a0 : Nat) (a1 : Int) (h : PH) (g0 : inT 36 36 (hc h a0)) (g1 : inT 5 5 (hc h (gR h 1277446290 a0))) (g2 : (hc h (gR h 335874582 (gR h 1277446290 a0))) = 66 ∧ inA a1 (hl h (gR h 335874582 (gR h 1277446290 a0)))) : FA cf 111485506 11 [vR a0, vI a1] [] h = FA cf 111485506 35 [vR a0, vI a1] [vJ (eJ h (gR h 335874582 (gR h 1277446290 a0)) a1)] h := ((FA_ex cf 111485506 6 _ _ _ _).trans rfl : FA cf 111485506 11 [vR a0, vI a1] [] h = gd (inT 36 36 (hc h a0)) (gd (inT 5 5 (hc h (gR h 1277446290 a0))) (gd ((hc h (gR h 335874582 (gR h 1277446290 a0))) = 66 ∧ inA a1 (hl h (gR h 335874582 (gR h 1277446290 a0)))) (FA cf 111485506 35 [vR a0, vI a1] [vJ (eJ h (gR h 335874582 (gR h 1277446290 a0)) a1)] h)))).trans ((gd_t g0).trans ((gd_t g1).trans ((gd_t g2))))
theorem c_X11_sign_23 (cf : Nat → List PV → PH → Rs) (a0 : Nat) (a1 : Int) (h : PH) (g0 : inT 36 36 (hc h a0)) (g1 : inT 5 5 (hc h (gR h 1277446290 a0))) (g2 : (hc h (gR h 335874582 (gR h 1277446290 a0))) = 66 ∧ inA a1 (hl h (gR h 335874582 (gR h 1277446290 a0)))) : FA cf 111485506 23 [vR a0, vI a1] [] h = bnd (cf 5767169 [vJ (eJ h (gR h 335874582 (gR h 1277446290 a0)) a1)] h) (fun v h' => FA cf 111485506 35 [vR a0, vI a1] (pu v []) h') := ((FA_ex cf 111485506 6 _ _ _ _).trans rfl : FA cf 111485506 23 [vR a0, vI a1] [] h = gd (inT 36 36 (hc h a0)) (gd (inT 5 5 (hc h (gR h 1277446290 a0))) (gd ((hc h (gR h 335874582 (gR h 1277446290 a0))) = 66 ∧ inA a1 (hl h (gR h 335874582 (gR h 1277446290 a0)))) (bnd (cf 5767169 [vJ (eJ h (gR h 335874582 (gR h 1277446290 a0)) a1)] h) (fun v h' => FA cf 111485506 35 [vR a0, vI a1] (pu v []) h'))))).trans ((gd_t g0).trans ((gd_t g1).trans ((gd_t g2))))
theorem c_X11_sign_35 (cf : Nat → List PV → PH → Rs) (a0 : Nat) (a1 : Int) (s0 : Int) (h : PH) : FA cf 111485506 35 [vR a0, vI a1] [vJ s0] h = some (.inl (some (vJ s0)), h) := (FA_ex cf 111485506 1 _ _ _ _).trans rfl
theorem e_X11_isMonadic (d : Nat) (a0 : Nat) (a1 : Int) (h : PH) : F (d + 1) 112009794 [vR a0, vI a1] h = FA (F d) 112009794 0 [vR a0, vI a1, vX, vX] [] h := rfl
theorem c_X11_isMonadic_0 (cf : Nat → List PV → PH → Rs) (a0 : Nat) (a1 : Int) (a2 : PV) (a3 : PV) (h : PH) (g0 : inT 36 36 (hc h a0)) (g1 : inT 5 5 (hc h (gR h 1277446290 a0))) (g2 : (hc h (gR h 335874582 (gR h 1277446290 a0))) = 66 ∧ inA a1 (hl h (gR h 335874582 (gR h 1277446290 a0)))) : FA cf 112009794 0 [vR a0, vI a1, a2, a3] [] h = bnd (cf 110699074 [vR a0, vI a1] h) (fun v h' => FA cf 112009794 15 [vR a0, vI a1, vJ (eJ h (gR h 335874582 (gR h 1277446290 a0)) a1), vX] (pu v []) h') := ((FA_ex cf 112009794 9 _ _ _ _).trans rfl : FA cf 112009794 0 [vR a0, vI a1, a2, a3] [] h = gd (inT 36 36 (hc h a0)) (gd (inT 5 5 (hc h (gR h 1277446290 a0))) (gd ((hc h (gR h 335874582 (gR h 1277446290 a0))) = 66 ∧ inA a1 (hl h (gR h 335874582 (gR h 1277446290 a0)))) (gd (inT 36 36 (hc h a0)) (bnd (cf 110699074 [vR a0, vI a1] h) (fun v h' => FA cf 112009794 15 [vR a0, vI a1, vJ (eJ h (gR h 335874582 (gR h 1277446290 a0)) a1), vX] (pu v []) h')))))).trans ((gd_t g0).trans ((gd_t g1).trans ((gd_t g2).trans ((gd_t g0)))))
theorem c_X11_isMonadic_15 (cf : Nat → List PV → PH → Rs) (a0 : Nat) (a1 : Int) (a2 : Int) (s0 : Int) (h : PH) : FA cf 112009794 15 [vR a0, vI a1, vJ a2, vX] [vI s0] h = if s0 = 0 then FA cf 112009794 57 [vR a0, vI a1, vJ a2, vX] [] h else FA cf 112009794 18 [vR a0, vI a1, vJ a2, vX] [] h := (FA_ex cf 112009794 1 _ _ _ _).trans rfl
theorem c_X11_isMonadic_18 (cf : Nat → List PV → PH → Rs) (a0 : Nat) (a1 : Int) (a2 : Int) (h : PH) (g0 : inT 36 36 (hc h a0)) : FA cf 112009794 18 [vR a0, vI a1, vJ a2, vX] [] h = bnd (cf 103096898 [vR a0, vI a1] h) (fun v h' => FA cf 112009794 23 [vR a0, vI a1, vJ a2, vX] (pu v []) h') := ((FA_ex cf 112009794 3 _ _ _ _).trans rfl : FA cf 112009794 18 [vR a0, vI a1, vJ a2, vX] [] h = gd (inT 36 36 (hc h a0)) (bnd (cf 103096898 [vR a0, vI a1] h) (fun v h' => FA cf 112009794 23 [vR a0, vI a1, vJ a2, vX] (pu v []) h'))).trans ((gd_t g0))
theorem c_X11_isMonadic_23 (cf : Nat → List PV → PH → Rs) (a0 : Nat) (a1 : Int) (a2 : Int) (s0 : Nat) (h : PH) : FA cf 112009794 23 [vR a0, vI a1, vJ a2, vX] [vR s0] h = if s0 = (gR h 3623878658 0) then FA cf 112009794 53 [vR a0, vI a1, vJ a2, vX] [] h else FA cf 112009794 29 [vR a0, vI a1, vJ a2, vX] [] h := (FA_ex cf 112009794 2 _ _ _ _).trans rfl
theorem c_X11_isMonadic_29 (cf : Nat → List PV → PH → Rs) (a0 : Nat) (a1 : Int) (a2 : Int) (h : PH) : FA cf 112009794 29 [vR a0, vI a1, vJ a2, vX] [] h = if (lcm a2 (43)) = 0 then FA cf 112009794 53 [vR a0, vI a1, vJ a2, vX] [] h else FA cf 112009794 37 [vR a0, vI a1, vJ a2, vX] [] h := (FA_ex cf 112009794 4 _ _ _ _).trans rfl
theorem c_X11_isMonadic_37 (cf : Nat → List PV → PH → Rs) (a0 : Nat) (a1 : Int) (a2 : Int) (h : PH) : FA cf 112009794 37 [vR a0, vI a1, vJ a2, vX] [] h = if (lcm a2 (45)) = 0 then FA cf 112009794 53 [vR a0, vI a1, vJ a2, vX] [] h else FA cf 112009794 45 [vR a0, vI a1, vJ a2, vX] [] h := (FA_ex cf 112009794 4 _ _ _ _).trans rfl
theorem c_X11_isMonadic_45 (cf : Nat → List PV → PH → Rs) (a0 : Nat) (a1 : Int) (a2 : Int) (h : PH) : FA cf 112009794 45 [vR a0, vI a1, vJ a2, vX] [] h = if (lcm a2 (126)) = 0 then FA cf 112009794 53 [vR a0, vI a1, vJ a2, vX] [] h else FA cf 112009794 57 [vR a0, vI a1, vJ a2, vX] [] h := (FA_ex cf 112009794 4 _ _ _ _).trans rfl
theorem c_X11_isMonadic_53 (cf : Nat → List PV → PH → Rs) (a0 : Nat) (a1 : Int) (a2 : Int) (h : PH) : FA cf 112009794 53 [vR a0, vI a1, vJ a2, vX] [] h = FA cf 112009794 58 [vR a0, vI a1, vJ a2, vX] [vI 1] h := (FA_ex cf 112009794 2 _ _ _ _).trans rfl
theorem c_X11_isMonadic_57 (cf : Nat → List PV → PH → Rs) (a0 : Nat) (a1 : Int) (a2 : Int) (h : PH) : FA cf 112009794 57 [vR a0, vI a1, vJ a2, vX] [] h = FA cf 112009794 58 [vR a0, vI a1, vJ a2, vX] [vI 0] h := (FA_ex cf 112009794 1 _ _ _ _).trans rfl
theorem c_X11_isMonadic_58 (cf : Nat → List PV → PH → Rs) (a0 : Nat) (a1 : Int) (a2 : Int) (s0 : Int) (h : PH) (g0 : (s0 : Int) = 0 ∨ (s0 : Int) = 1) : FA cf 112009794 58 [vR a0, vI a1, vJ a2, vX] [vI s0] h = some (.inl (some (vI s0)), h) := ((FA_ex cf 112009794 1 _ _ _ _).trans rfl : FA cf 112009794 58 [vR a0, vI a1, vJ a2, vX] [vI s0] h = gd ((s0 : Int) = 0 ∨ (s0 : Int) = 1) (some (.inl (some (vI s0)), h))).trans ((gd_t g0))
theorem e_X11_isDyadic (d : Nat) (a0 : Nat) (a1 : Int) (h : PH) : F (d + 1) 110436930 [vR a0, vI a1] h = FA (F d) 110436930 0 [vR a0, vI a1] [] h := rfl
theorem c_X11_isDyadic_0 (cf : Nat → List PV → PH → Rs) (a0 : Nat) (a1 : Int) (h : PH) (g0 : inT 36 36 (hc h a0)) : FA cf 110436930 0 [vR a0, vI a1] [] h = bnd (cf 110699074 [vR a0, vI a1] h) (fun v h' => FA cf 110436930 5 [vR a0, vI a1] (pu v []) h') := ((FA_ex cf 110436930 3 _ _ _ _).trans rfl : FA cf 110436930 0 [vR a0, vI a1] [] h = gd (inT 36 36 (hc h a0)) (bnd (cf 110699074 [vR a0, vI a1] h) (fun v h' => FA cf 110436930 5 [vR a0, vI a1] (pu v []) h'))).trans ((gd_t g0))
theorem c_X11_isDyadic_5 (cf : Nat → List PV → PH → Rs) (a0 : Nat) (a1 : Int) (s0 : Int) (h : PH) : FA cf 110436930 5 [vR a0, vI a1] [vI s0] h = if s0 = 0 then FA cf 110436930 39 [vR a0, vI a1] [] h else FA cf 110436930 8 [vR a0, vI a1] [] h := (FA_ex cf 110436930 1 _ _ _ _).trans rfl
theorem c_X11_isDyadic_8 (cf : Nat → List PV → PH → Rs) (a0 : Nat) (a1 : Int) (h : PH) (g0 : inT 36 36 (hc h a0)) : FA cf 110436930 8 [vR a0, vI a1] [] h = bnd (cf 103096898 [vR a0, vI a1] h) (fun v h' => FA cf 110436930 13 [vR a0, vI a1] (pu v []) h') := ((FA_ex cf 110436930 3 _ _ _ _).trans rfl : FA cf 110436930 8 [vR a0, vI a1] [] h = gd (inT 36 36 (hc h a0)) (bnd (cf 103096898 [vR a0, vI a1] h) (fun v h' => FA cf 110436930 13 [vR a0, vI a1] (pu v []) h'))).trans ((gd_t g0))
theorem c_X11_isDyadic_13 (cf : Nat → List PV → PH → Rs) (a0 : Nat) (a1 : Int) (s0 : Nat) (h : PH) : FA cf 110436930 13 [vR a0, vI a1] [vR s0] h = if s0 = (gR h 3623878658 0) then FA cf 110436930 35 [vR a0, vI a1] [] h else FA cf 110436930 19 [vR a0, vI a1] [] h := (FA_ex cf 110436930 2 _ _ _ _).trans rfl
theorem c_X11_isDyadic_19 (cf : Nat → List PV → PH → Rs) (a0 : Nat) (a1 : Int) (h : PH) (g0 : inT 36 36 (hc h a0)) (g1 : inT 5 5 (hc h (gR h 1277446290 a0))) (g2 : (hc h (gR h 335874582 (gR h 1277446290 a0))) = 66 ∧ inA a1 (hl h (gR h 335874582 (gR h 1277446290 a0)))) : FA cf 110436930 19 [vR a0, vI a1] [] h = if (lcm (eJ h (gR h 335874582 (gR h 1277446290 a0)) a1) (126)) = 0 then FA cf 110436930 39 [vR a0, vI a1] [] h else FA cf 110436930 35 [vR a0, vI a1] [] h := ((FA_ex cf 110436930 8 _ _ _ _).trans rfl : FA cf 110436930 19 [vR a0, vI a1] [] h = gd (inT 36 36 (hc h a0)) (gd (inT 5 5 (hc h (gR h 1277446290 a0))) (gd ((hc h (gR h 335874582 (gR h 1277446290 a0))) = 66 ∧ inA a1 (hl h (gR h 335874582 (gR h 1277446290 a0)))) (if (lcm (eJ h (gR h 335874582 (gR h 1277446290 a0)) a1) (126)) = 0 then FA cf 110436930 39 [vR a0, vI a1] [] h else FA cf 110436930 35 [vR a0, vI a1] [] h)))).trans ((gd_t g0).trans ((gd_t g1).trans ((gd_t g2))))
theorem c_X11_isDyadic_35 (cf : Nat → List PV → PH → Rs) (a0 : Nat) (a1 : Int) (h : PH) : FA cf 110436930 35 [vR a0, vI a1] [] h = FA cf 110436930 40 [vR a0, vI a1] [vI 1] h := (FA_ex cf 110436930 2 _ _ _ _).trans rfl
theorem c_X11_isDyadic_39 (cf : Nat → List PV → PH → Rs) (a0 : Nat) (a1 : Int) (h : PH) : FA cf 110436930 39 [vR a0, vI a1] [] h = FA cf 110436930 40 [vR a0, vI a1] [vI 0] h := (FA_ex cf 110436930 1 _ _ _ _).trans rfl
theorem c_X11_isDyadic_40 (cf : Nat → List PV → PH → Rs) (a0 : Nat) (a1 : Int) (s0 : Int) (h : PH) (g0 : (s0 : Int) = 0 ∨ (s0 : Int) = 1) : FA cf 110436930 40 [vR a0, vI a1] [vI s0] h = some (.inl (some (vI s0)), h) := ((FA_ex cf 110436930 1 _ _ _ _).trans rfl : FA cf 110436930 40 [vR a0, vI a1] [vI s0] h = gd ((s0 : Int) = 0 ∨ (s0 : Int) = 1) (some (.inl (some (vI s0)), h))).trans ((gd_t g0))
theorem e_X1_indicant (d : Nat) (a0 : Int) (h : PH) : F (d + 1) 5767169 [vJ a0] h = FA (F d) 5767169 0 [vJ a0, vX] [] h := rfl
theorem c_X1_indicant_0 (cf : Nat → List PV → PH → Rs) (a0 : Int) (h : PH) : FA cf 5767169 0 [vJ a0, vX] [] h = some (.inl (some (vJ (lor a0 (4611686018427387904)))), h) := (FA_ex cf 5767169 4 _ _ _ _).trans rfl
theorem e_X11_isDeclarer (d : Nat) (a0 : Nat) (a1 : Int) (h : PH) : F (d + 1) 106766914 [vR a0, vI a1] h = FA (F d) 106766914 0 [vR a0, vI a1] [] h := rfl
theorem c_X11_isDeclarer_0 (cf : Nat → List PV → PH → Rs) (a0 : Nat) (a1 : Int) (h : PH) (g0 : inT 36 36 (hc h a0)) : FA cf 106766914 0 [vR a0, vI a1] [] h = bnd (cf 105194051 [vR a0, vI a1, vJ (91)] h) (fun v h' => FA cf 106766914 8 [vR a0, vI a1] (pu v []) h') := ((FA_ex cf 106766914 4 _ _ _ _).trans rfl : FA cf 106766914 0 [vR a0, vI a1] [] h = gd (inT 36 36 (hc h a0)) (bnd (cf 105194051 [vR a0, vI a1, vJ (91)] h) (fun v h' => FA cf 106766914 8 [vR a0, vI a1] (pu v []) h'))).trans ((gd_t g0))
theorem c_X11_isDeclarer_8 (cf : Nat → List PV → PH → Rs) (a0 : Nat) (a1 : Int) (s0 : Int) (h : PH) : FA cf 106766914 8 [vR a0, vI a1] [vI s0] h = if s0 = 0 then FA cf 106766914 11 [vR a0, vI a1] [] h else FA cf 106766914 19 [vR a0, vI a1] [] h := (FA_ex cf 106766914 1 _ _ _ _).trans rfl
theorem c_X11_isDeclarer_11 (cf : Nat → List PV → PH → Rs) (a0 : Nat) (a1 : Int) (h : PH) (g0 : inT 36 36 (hc h a0)) : FA cf 106766914 11 [vR a0, vI a1] [] h = bnd (cf 104669762 [vR a0, vI a1] h) (fun v h' => FA cf 106766914 16 [vR a0, vI a1] (pu v []) h') := ((FA_ex cf 106766914 3 _ _ _ _).trans rfl : FA cf 106766914 11 [vR a0, vI a1] [] h = gd (inT 36 36 (hc h a0)) (bnd (cf 104669762 [vR a0, vI a1] h) (fun v h' => FA cf 106766914 16 [vR a0, vI a1] (pu v []) h'))).trans ((gd_t g0))
theorem c_X11_isDeclarer_16 (cf : Nat → List PV → PH → Rs) (a0 : Nat) (a1 : Int) (s0 : Int) (h : PH) : FA cf 106766914 16 [vR a0, vI a1] [vI s0] h = if s0 = 0 then FA cf 106766914 21 [vR a0, vI a1] [] h else FA cf 106766914 19 [vR a0, vI a1] [] h := (FA_ex cf 106766914 1 _ _ _ _).trans rfl
theorem c_X11_isDeclarer_19 (cf : Nat → List PV → PH → Rs) (a0 : Nat) (a1 : Int) (h : PH) : FA cf 106766914 19 [vR a0, vI a1] [] h = some (.inl (some (vI 1)), h) := ((FA_ex cf 106766914 2 _ _ _ _).trans rfl : FA cf 106766914 19 [vR a0, vI a1] [] h = gd ((1 : Int) = 0 ∨ (1 : Int) = 1) (some (.inl (some (vI 1)), h))).trans ((gd_t (by decide)))
theorem c_X11_isDeclarer_21 (cf : Nat → List PV → PH → Rs) (a0 : Nat) (a1 : Int) (h : PH) (g0 : inT 36 36 (hc h a0)) : FA cf 106766914 21 [vR a0, vI a1] [] h = bnd (cf 102834755 [vR a0, vI a1, vR (gR h 3724541954 0)] h) (fun v h' => FA cf 106766914 28 [vR a0, vI a1] (pu v []) h') := ((FA_ex cf 106766914 4 _ _ _ _).trans rfl : FA cf 106766914 21 [vR a0, vI a1] [] h = gd (inT 36 36 (hc h a0)) (bnd (cf 102834755 [vR a0, vI a1, vR (gR h 3724541954 0)] h) (fun v h' => FA cf 106766914 28 [vR a0, vI a1] (pu v []) h'))).trans ((gd_t g0))
theorem c_X11_isDeclarer_28 (cf : Nat → List PV → PH → Rs) (a0 : Nat) (a1 : Int) (s0 : Int) (h : PH) : FA cf 106766914 28 [vR a0, vI a1] [vI s0] h = if s0 = 0 then FA cf 106766914 50 [vR a0, vI a1] [] h else FA cf 106766914 31 [vR a0, vI a1] [] h := (FA_ex cf 106766914 1 _ _ _ _).trans rfl
theorem c_X11_isDeclarer_31 (cf : Nat → List PV → PH → Rs) (a0 : Nat) (a1 : Int) (h : PH) (g0 : inT 36 36 (hc h a0)) : FA cf 106766914 31 [vR a0, vI a1] [] h = bnd (cf 103096898 [vR a0, vI (w32 (a1 + 1))] h) (fun v h' => FA cf 106766914 38 [vR a0, vI a1] (pu v []) h') := ((FA_ex cf 106766914 5 _ _ _ _).trans rfl : FA cf 106766914 31 [vR a0, vI a1] [] h = gd (inT 36 36 (hc h a0)) (bnd (cf 103096898 [vR a0, vI (w32 (a1 + 1))] h) (fun v h' => FA cf 106766914 38 [vR a0, vI a1] (pu v []) h'))).trans ((gd_t g0))
theorem c_X11_isDeclarer_38 (cf : Nat → List PV → PH → Rs) (a0 : Nat) (a1 : Int) (s0 : Nat) (h : PH) : FA cf 106766914 38 [vR a0, vI a1] [vR s0] h = if s0 = (gR h 3640655874 0) then FA cf 106766914 48 [vR a0, vI a1] [] h else FA cf 106766914 44 [vR a0, vI a1] [] h := (FA_ex cf 106766914 2 _ _ _ _).trans rfl
theorem c_X11_isDeclarer_44 (cf : Nat → List PV → PH → Rs) (a0 : Nat) (a1 : Int) (h : PH) : FA cf 106766914 44 [vR a0, vI a1] [] h = FA cf 106766914 49 [vR a0, vI a1] [vI 1] h := (FA_ex cf 106766914 2 _ _ _ _).trans rfl
theorem c_X11_isDeclarer_48 (cf : Nat → List PV → PH → Rs) (a0 : Nat) (a1 : Int) (h : PH) : FA cf 106766914 48 [vR a0, vI a1] [] h = FA cf 106766914 49 [vR a0, vI a1] [vI 0] h := (FA_ex cf 106766914 1 _ _ _ _).trans rfl
theorem c_X11_isDeclarer_49 (cf : Nat → List PV → PH → Rs) (a0 : Nat) (a1 : Int) (s0 : Int) (h : PH) (g0 : (s0 : Int) = 0 ∨ (s0 : Int) = 1) : FA cf 106766914 49 [vR a0, vI a1] [vI s0] h = some (.inl (some (vI s0)), h) := ((FA_ex cf 106766914 1 _ _ _ _).trans rfl : FA cf 106766914 49 [vR a0, vI a1] [vI s0] h = gd ((s0 : Int) = 0 ∨ (s0 : Int) = 1) (some (.inl (some (vI s0)), h))).trans ((gd_t g0))
theorem c_X11_isDeclarer_50 (cf : Nat → List PV → PH → Rs) (a0 : Nat) (a1 : Int) (h : PH) (g0 : inT 36 36 (hc h a0)) : FA cf 106766914 50 [vR a0, vI a1] [] h = bnd (cf 102834755 [vR a0, vI a1, vR (gR h 3716153346 0)] h) (fun v h' => FA cf 106766914 57 [vR a0, vI a1] (pu v []) h') := ((FA_ex cf 106766914 4 _ _ _ _).trans rfl : FA cf 106766914 50 [vR a0, vI a1] [] h = gd (inT 36 36 (hc h a0)) (bnd (cf 102834755 [vR a0, vI a1, vR (gR h 3716153346 0)] h) (fun v h' => FA cf 106766914 57 [vR a0, vI a1] (pu v []) h'))).trans ((gd_t g0))
theorem c_X11_isDeclarer_57 (cf : Nat → List PV → PH → Rs) (a0 : Nat) (a1 : Int) (s0 : Int) (h : PH) : FA cf 106766914 57 [vR a0, vI a1] [vI s0] h = if s0 = 0 then FA cf 106766914 60 [vR a0, vI a1] [] h else FA cf 106766914 120 [vR a0, vI a1] [] h := (FA_ex cf 106766914 1 _ _ _ _).trans rfl
theorem c_X11_isDeclarer_60 (cf : Nat → List PV → PH → Rs) (a0 : Nat) (a1 : Int) (h : PH) (g0 : inT 36 36 (hc h a0)) : FA cf 106766914 60 [vR a0, vI a1] [] h = bnd (cf 102834755 [vR a0, vI a1, vR (gR h 3732930562 0)] h) (fun v h' => FA cf 106766914 67 [vR a0, vI a1] (pu v []) h') := ((FA_ex cf 106766914 4 _ _ _ _).trans rfl : FA cf 106766914 60 [vR a0, vI a1] [] h = gd (inT 36 36 (hc h a0)) (bnd (cf 102834755 [vR a0, vI a1, vR (gR h 3732930562 0)] h) (fun v h' => FA cf 106766914 67 [vR a0, vI a1] (pu v []) h'))).trans ((gd_t g0))
theorem c_X11_isDeclarer_67 (cf : Nat → List PV → PH → Rs) (a0 : Nat) (a1 : Int) (s0 : Int) (h : PH) : FA cf 106766914 67 [vR a0, vI a1] [vI s0] h = if s0 = 0 then FA cf 106766914 70 [vR a0, vI a1] [] h else FA cf 106766914 120 [vR a0, vI a1] [] h := (FA_ex cf 106766914 1 _ _ _ _).trans rfl
theorem c_X11_isDeclarer_70 (cf : Nat → List PV → PH → Rs) (a0 : Nat) (a1 : Int) (h : PH) (g0 : inT 36 36 (hc h a0)) : FA cf 106766914 70 [vR a0, vI a1] [] h = bnd (cf 102834755 [vR a0, vI a1, vR (gR h 3741319170 0)] h) (fun v h' => FA cf 106766914 77 [vR a0, vI a1] (pu v []) h') := ((FA_ex cf 106766914 4 _ _ _ _).trans rfl : FA cf 106766914 70 [vR a0, vI a1] [] h = gd (inT 36 36 (hc h a0)) (bnd (cf 102834755 [vR a0, vI a1, vR (gR h 3741319170 0)] h) (fun v h' => FA cf 106766914 77 [vR a0, vI a1] (pu v []) h'))).trans ((gd_t g0))
theorem c_X11_isDeclarer_77 (cf : Nat → List PV → PH → Rs) (a0 : Nat) (a1 : Int) (s0 : Int) (h : PH) : FA cf 106766914 77 [vR a0, vI a1] [vI s0] h = if s0 = 0 then FA cf 106766914 80 [vR a0, vI a1] [] h else FA cf 106766914 120 [vR a0, vI a1] [] h := (FA_ex cf 106766914 1 _ _ _ _).trans rfl
theorem c_X11_isDeclarer_80 (cf : Nat → List PV → PH → Rs) (a0 : Nat) (a1 : Int) (h : PH) (g0 : inT 36 36 (hc h a0)) : FA cf 106766914 80 [vR a0, vI a1] [] h = bnd (cf 102834755 [vR a0, vI a1, vR (gR h 3749707778 0)] h) (fun v h' => FA cf 106766914 87 [vR a0, vI a1] (pu v []) h') := ((FA_ex cf 106766914 4 _ _ _ _).trans rfl : FA cf 106766914 80 [vR a0, vI a1] [] h = gd (inT 36 36 (hc h a0)) (bnd (cf 102834755 [vR a0, vI a1, vR (gR h 3749707778 0)] h) (fun v h' => FA cf 106766914 87 [vR a0, vI a1] (pu v []) h'))).trans ((gd_t g0))
theorem c_X11_isDeclarer_87 (cf : Nat → List PV → PH → Rs) (a0 : Nat) (a1 : Int) (s0 : Int) (h : PH) : FA cf 106766914 87 [vR a0, vI a1] [vI s0] h = if s0 = 0 then FA cf 106766914 90 [vR a0, vI a1] [] h else FA cf 106766914 120 [vR a0, vI a1] [] h := (FA_ex cf 106766914 1 _ _ _ _).trans rfl
theorem c_X11_isDeclarer_90 (cf : Nat → List PV → PH → Rs) (a0 : Nat) (a1 : Int) (h : PH) (g0 : inT 36 36 (hc h a0)) : FA cf 106766914 90 [vR a0, vI a1] [] h = bnd (cf 102834755 [vR a0, vI a1, vR (gR h 3758096386 0)] h) (fun v h' => FA cf 106766914 97 [vR a0, vI a1] (pu v []) h') := ((FA_ex cf 106766914 4 _ _ _ _).trans rfl : FA cf 106766914 90 [vR a0, vI a1] [] h = gd (inT 36 36 (hc h a0)) (bnd (cf 102834755 [vR a0, vI a1, vR (gR h 3758096386 0)] h) (fun v h' => FA cf 106766914 97 [vR a0, vI a1] (pu v []) h'))).trans ((gd_t g0))
theorem c_X11_isDeclarer_97 (cf : Nat → List PV → PH → Rs) (a0 : Nat) (a1 : Int) (s0 : Int) (h : PH) : FA cf 106766914 97 [vR a0, vI a1] [vI s0] h = if s0 = 0 then FA cf 106766914 100 [vR a0, vI a1] [] h else FA cf 106766914 120 [vR a0, vI a1] [] h := (FA_ex cf 106766914 1 _ _ _ _).trans rfl
theorem c_X11_isDeclarer_100 (cf : Nat → List PV → PH → Rs) (a0 : Nat) (a1 : Int) (h : PH) (g0 : inT 36 36 (hc h a0)) : FA cf 106766914 100 [vR a0, vI a1] [] h = bnd (cf 102834755 [vR a0, vI a1, vR (gR h 3766484994 0)] h) (fun v h' => FA cf 106766914 107 [vR a0, vI a1] (pu v []) h') := ((FA_ex cf 106766914 4 _ _ _ _).trans rfl : FA cf 106766914 100 [vR a0, vI a1] [] h = gd (inT 36 36 (hc h a0)) (bnd (cf 102834755 [vR a0, vI a1, vR (gR h 3766484994 0)] h) (fun v h' => FA cf 106766914 107 [vR a0, vI a1] (pu v []) h'))).trans ((gd_t g0))
theorem c_X11_isDeclarer_107 (cf : Nat → List PV → PH → Rs) (a0 : Nat) (a1 : Int) (s0 : Int) (h : PH) : FA cf 106766914 107 [vR a0, vI a1] [vI s0] h = if s0 = 0 then FA cf 106766914 110 [vR a0, vI a1] [] h else FA cf 106766914 120 [vR a0, vI a1] [] h := (FA_ex cf 106766914 1 _ _ _ _).trans rfl
theorem c_X11_isDeclarer_110 (cf : Nat → List PV → PH → Rs) (a0 : Nat) (a1 : Int) (h : PH) (g0 : inT 36 36 (hc h a0)) : FA cf 106766914 110 [vR a0, vI a1] [] h = bnd (cf 102834755 [vR a0, vI a1, vR (gR h 3774873602 0)] h) (fun v h' => FA cf 106766914 117 [vR a0, vI a1] (pu v []) h') := ((FA_ex cf 106766914 4 _ _ _ _).trans rfl : FA cf 106766914 110 [vR a0, vI a1] [] h = gd (inT 36 36 (hc h a0)) (bnd (cf 102834755 [vR a0, vI a1, vR (gR h 3774873602 0)] h) (fun v h' => FA cf 106766914 117 [vR a0, vI a1] (pu v []) h'))).trans ((gd_t g0))
theorem c_X11_isDeclarer_117 (cf : Nat → List PV → PH → Rs) (a0 : Nat) (a1 : Int) (s0 : Int) (h : PH) : FA cf 106766914 117 [vR a0, vI a1] [vI s0] h = if s0 = 0 then FA cf 106766914 124 [vR a0, vI a1] [] h else FA cf 106766914 120 [vR a0, vI a1] [] h := (FA_ex cf 106766914 1 _ _ _ _).trans rfl
theorem c_X11_isDeclarer_120 (cf : Nat → List PV → PH → Rs) (a0 : Nat) (a1 : Int) (h : PH) : FA cf 106766914 120 [vR a0, vI a1] [] h = FA cf 106766914 125 [vR a0, vI a1] [vI 1] h := (FA_ex cf 106766914 2 _ _ _ _).trans rfl
theorem c_X11_isDeclarer_124 (cf : Nat → List PV → PH → Rs) (a0 : Nat) (a1 : Int) (h : PH) : FA cf 106766914 124 [vR a0, vI a1] [] h = FA cf 106766914 125 [vR a0, vI a1] [vI 0] h := (FA_ex cf 106766914 1 _ _ _ _).trans rfl
theorem c_X11_isDeclarer_125 (cf : Nat → List PV → PH → Rs) (a0 : Nat) (a1 : Int) (s0 : Int) (h : PH) (g0 : (s0 : Int) = 0 ∨ (s0 : Int) = 1) : FA cf 106766914 125 [vR a0, vI a1] [vI s0] h = some (.inl (some (vI s0)), h) := ((FA_ex cf 106766914 1 _ _ _ _).trans rfl : FA cf 106766914 125 [vR a0, vI a1] [vI s0] h = gd ((s0 : Int) = 0 ∨ (s0 : Int) = 1) (some (.inl (some (vI s0)), h))).trans ((gd_t g0))
abbrev kd (l : List TokE) (k : Nat) : Int := (tE l k).1
abbrev pl (l : List TokE) (k : Nat) : Int := (tE l k).2.1
abbrev sI (l : List TokE) (k : Nat) : Int := (tE l k).2.2.1
abbrev wd (l : List TokE) (k : Nat) : Int := (tE l k).2.2.2
/-- behind MODE there is this word -/
abbrev isMW (l : List TokE) (w : Int) : Prop := ∃ i : Nat, i < xc l - 1 ∧ (kd l i = 1 ∧ sI l i = 0) ∧ kd l (i + 1) = 2 ∧ wd l (i + 1) = w
abbrev isMI (l : List TokE) (k : Nat) : Prop := kd l k = 2 ∧ isMW l (wd l k)
abbrev isOp (l : List TokE) (k : Nat) : Prop := (kd l k = 5 ∧ sI l k ∈ snL) ∨ (kd l k = 2 ∧ ¬ isMI l k)
abbrev isMon (l : List TokE) (k : Nat) : Prop := isOp l k ∧ (kd l k = 2 ∨ sI l k = 43 ∨ sI l k = 45 ∨ sI l k = 126)
abbrev isDy (l : List TokE) (k : Nat) : Prop := isOp l k ∧ (kd l k = 2 ∨ sI l k ≠ 126)
abbrev isDec (l : List TokE) (k : Nat) : Prop := (kd l k = 5 ∧ sI l k = 91) ∨ isMI l k ∨ (kd l k = 1 ∧ ((sI l k = 12 ∧ kd l (k + 1) ≠ 4) ∨ sI l k = 34 ∨ sI l k = 35 ∨ sI l k = 36 ∨ sI l k = 37 ∨ sI l k = 38 ∨ sI l k = 39 ∨ sI l k = 40))
section XQ
variable {h : PH} {p lx : Nat} {l : List TokE} {t o : Nat}
theorem PXs.tok (X : PXs h p lx l t o) {k : Nat} (hk : k < xc l) : TokOK (tE l k) := (X.x.2.2.2.2.2.2.1.2.1 k (by have := X.x.2.2.2.2.2.2.1.1.2; omega)).1
theorem PXs.next (X : PXs h p lx l t o) {k : Nat} (hk : k < xc l) (h0 : kd l k ≠ 0) (h6 : kd l k ≠ 6) : k + 1 < xc l := by
  have := X.x.2.2.2.2.2.2.1.2.2.2
  rcases Nat.lt_or_ge (k + 1) (xc l) with z | z
  · exact z
  · have e : xc l - 1 = k := by omega
    rw [e] at this
    rcases this with y | y
    · exact absurd y.1 h0
    · exact absurd y.1 h6
theorem PXs.wt (X : PXs h p lx l t o) {k : Nat} (hk : k < xc l) : (hc h (gR h 335874582 (gR h 1277446290 p)) = 66 ∧ inA (k : Int) (hl h (gR h 335874582 (gR h 1277446290 p)))) ∧ eJ h (gR h 335874582 (gR h 1277446290 p)) k = xwo (kd l k) (sI l k) (wd l k) := by
  obtain ⟨x1, x2, x3, x4, x5, x6, x7, x8⟩ := X.x
  have hn := X.x.n
  have hx := (x6 k hk).2.2
  rw [show (0 : Int) + (k : Int) = k by omega] at hx
  rw [X.2.1, x4.1, x4.2]
  exact ⟨⟨rfl, by omega, by omega⟩, hx⟩
theorem f_isModeTag (d : Nat) (X : PXs h p lx l t o) {k : Nat} (hk : k < xc l) : F (d + 7) 104669762 [vR p, vI k] h = some (.inl (some (vI (b01 (isMI l k)))), h) := by
  have C := X.c
  have hn := X.x.n
  have hcnt : gI h 344263188 (gR h 1277446290 p) = xc l := by rw [X.2.1]; exact X.x.2.2.2.2.1
  rw [e_X11_isModeTag, c_X11_isModeTag_0 _ _ _ _ _ _ X.g, f_kind (d + 4) X hk, bnd_v, pu_s, c_X11_isModeTag_5]
  by_cases q : kd l k = 2
  · have loop : ∀ n i : Nat, i + 1 + n = xc l → ∀ P : Prop, ∀ _ : Decidable P, (P ↔ ∃ j : Nat, j < i ∧ (kd l j = 1 ∧ sI l j = 0) ∧ kd l (j + 1) = 2 ∧ wd l (j + 1) = wd l k) → FA (F (d + 6)) 104669762 17 [vR p, vI k, vI (b01 P), vI ((i + 1 : Nat) : Int)] [] h = some (.inl (some (vI (b01 (isMI l k)))), h) := by
      intro n
      induction n with
      | zero =>
        intro i e P _ hP
        rw [c_X11_isModeTag_17 _ _ _ _ _ _ X.g X.gl, hcnt, if_neg (by omega), c_X11_isModeTag_89 _ _ _ _ _ _ b01_b]
        have : b01 P = b01 (isMI l k) := b01_c (by
          rw [hP]
          have e2 : xc l - 1 = i := by omega
          unfold isMI isMW
          rw [e2]
          exact ⟨fun z => ⟨q, z⟩, fun z => z.2⟩)
        rw [this]
      | succ n ih =>
        intro i e P _ hP
        rw [c_X11_isModeTag_17 _ _ _ _ _ _ X.g X.gl, hcnt, if_pos (by omega), c_X11_isModeTag_28]
        by_cases z : P
        · rw [if_neg (fun y => b01_0.mp y z), c_X11_isModeTag_89 _ _ _ _ _ _ b01_b, b01_p z, b01_p]
          obtain ⟨j, j1, j2⟩ := hP.mp z
          exact ⟨q, j, by omega, j2⟩
        · rw [if_pos (b01_0.mpr z), c_X11_isModeTag_32 _ _ _ _ _ _ X.g, f_kind (d + 4) X (k := i + 1) (by omega), bnd_v, pu_s, c_X11_isModeTag_37]
          have nx : ∀ Q : Prop, ∀ _ : Decidable Q, (Q ↔ (kd l i = 1 ∧ sI l i = 0) ∧ kd l (i + 1) = 2 ∧ wd l (i + 1) = wd l k) → FA (F (d + 6)) 104669762 82 [vR p, vI k, vI (b01 P), vI ((i + 1 : Nat) : Int)] [vI (b01 Q)] h = some (.inl (some (vI (b01 (isMI l k)))), h) := by
            intro Q _ hQ
            rw [c_X11_isModeTag_82, w32_1 (by omega)]
            refine ih (i + 1) (by omega) Q _ ?_
            rw [hQ]
            constructor
            · intro y; exact ⟨i, by omega, y⟩
            · rintro ⟨j, j1, j2⟩
              rcases Nat.lt_or_ge j i with y | y
              · exact absurd (hP.mpr ⟨j, y, j2⟩) z
              · have : j = i := by omega
                subst this
                exact j2
          have no : ¬ ((kd l i = 1 ∧ sI l i = 0) ∧ kd l (i + 1) = 2 ∧ wd l (i + 1) = wd l k) → FA (F (d + 6)) 104669762 81 [vR p, vI k, vI (b01 P), vI ((i + 1 : Nat) : Int)] [] h = some (.inl (some (vI (b01 (isMI l k)))), h) := by
            intro y
            rw [c_X11_isModeTag_81]
            have := nx False inferInstance ⟨fun z => z.elim, fun w => y w⟩
            rw [b01_n (fun z => z)] at this
            exact this
          by_cases y1 : kd l (i + 1) = 2
          · have e3 : w32 (((i + 1 : Nat) : Int) - 1) = (i : Nat) := by rw [w32_id (by omega) (by omega)]; omega
            rw [if_pos ((xk_is C (by decide)).mpr (xkF_2.mpr y1)), c_X11_isModeTag_43 _ _ _ _ _ _ X.g, e3, f_isWord2 d X (k := i) (by omega) (sf := 3674210306) (w := 0) (by decide), bnd_v, pu_s, c_X11_isModeTag_52]
            by_cases y2 : kd l i = 1 ∧ sI l i = 0
            · obtain ⟨g1, w1⟩ := X.wt (k := i + 1) (by omega)
              obtain ⟨g2, w2⟩ := X.wt (k := k) hk
              have e4 : xwo (kd l (i + 1)) (sI l (i + 1)) (wd l (i + 1)) = wd l (i + 1) := if_pos (Or.inr (Or.inl y1))
              have e5 : xwo (kd l k) (sI l k) (wd l k) = wd l k := if_pos (Or.inr (Or.inl q))
              rw [if_neg (fun y => b01_0.mp y y2), c_X11_isModeTag_55 _ _ _ _ _ _ X.g X.gl g1 g2, w1, w2, e4, e5]
              by_cases y3 : wd l (i + 1) = wd l k
              · rw [if_pos ((lcm_eq _ _).mpr y3), c_X11_isModeTag_77]
                have := nx True inferInstance ⟨fun _ => ⟨y2, y1, y3⟩, fun _ => trivial⟩
                rw [b01_p trivial] at this
                exact this
              · rw [if_neg (fun y => y3 ((lcm_eq _ _).mp y)), no (fun y => y3 y.2.2)]
            · rw [if_pos (b01_0.mpr y2), no (fun y => y2 y.1)]
          · rw [if_neg (fun y => y1 (xkF_2.mp ((xk_is C (by decide)).mp y))), no (fun y => y1 y.2.1)]
    have := loop (xc l - 1) 0 (by omega) False inferInstance ⟨fun z => z.elim, fun ⟨j, j1, _⟩ => by omega⟩
    rw [b01_n (fun z => z)] at this
    rw [if_pos ((xk_is C (by decide)).mpr (xkF_2.mpr q)), c_X11_isModeTag_13]
    exact this
  · rw [if_neg (fun z => q (xkF_2.mp ((xk_is C (by decide)).mp z))), c_X11_isModeTag_11, b01_n (fun z => q z.1)]
theorem f_isOperation (d : Nat) (X : PXs h p lx l t o) {k : Nat} (hk : k < xc l) : F (d + 8) 110699074 [vR p, vI k] h = some (.inl (some (vI (b01 (isOp l k)))), h) := by
  have C := X.c
  have ok := X.tok hk
  rw [e_X11_isOperation, c_X11_isOperation_0 _ _ _ _ X.g, f_kind (d + 5) X hk, bnd_v, pu_s, c_X11_isOperation_5]
  by_cases q : kd l k = 5 ∧ sI l k ∈ snL
  · rw [if_pos ((xk_is C (by decide)).mpr ((xkF_s ok).mpr q)), c_X11_isOperation_30, c_X11_isOperation_35 _ _ _ _ _ (Or.inr rfl), b01_p (Or.inl q)]
  · rw [if_neg (fun z => q ((xkF_s ok).mp ((xk_is C (by decide)).mp z))), c_X11_isOperation_11 _ _ _ _ X.g, f_kind (d + 5) X hk, bnd_v, pu_s, c_X11_isOperation_16]
    by_cases r : kd l k = 2
    · rw [if_pos ((xk_is C (by decide)).mpr (xkF_2.mpr r)), c_X11_isOperation_22 _ _ _ _ X.g, f_isModeTag d X hk, bnd_v, pu_s, c_X11_isOperation_27]
      by_cases s : isMI l k
      · rw [if_neg (fun z => b01_0.mp z s), c_X11_isOperation_34, c_X11_isOperation_35 _ _ _ _ _ (Or.inl rfl), b01_n (fun z => z.elim q (fun y => y.2 s))]
      · rw [if_pos (b01_0.mpr s), c_X11_isOperation_30, c_X11_isOperation_35 _ _ _ _ _ (Or.inr rfl), b01_p (Or.inr ⟨r, s⟩)]
    · rw [if_neg (fun z => r (xkF_2.mp ((xk_is C (by decide)).mp z))), c_X11_isOperation_34, c_X11_isOperation_35 _ _ _ _ _ (Or.inl rfl), b01_n (fun z => z.elim q (fun y => r y.1))]
/-- worth of an operation's token -/
theorem xwo_op {l : List TokE} {k : Nat} (h5 : kd l k = 5) : xwo (kd l k) (sI l k) (wd l k) = xw (sI l k) := by
  unfold xwo
  rw [if_neg (by rw [h5]; decide), if_neg (by rw [h5]; decide), if_pos h5]
theorem xw_sm : ∀ x ∈ mkL ++ snL, ∀ c ∈ [43, 45, 126, 33, 38, 61, 42, 47, 37, 60, 62], (xw x = c ↔ x = c) := by decide +kernel
theorem f_isMonadic (d : Nat) (X : PXs h p lx l t o) {k : Nat} (hk : k < xc l) : F (d + 9) 112009794 [vR p, vI k] h = some (.inl (some (vI (b01 (isMon l k)))), h) := by
  have C := X.c
  obtain ⟨g1, w1⟩ := X.wt (k := k) hk
  rw [e_X11_isMonadic, c_X11_isMonadic_0 _ _ _ _ _ _ X.g X.gl g1, f_isOperation d X hk, bnd_v, pu_s, c_X11_isMonadic_15]
  by_cases q : isOp l k
  · rw [if_neg (fun z => b01_0.mp z q), c_X11_isMonadic_18 _ _ _ _ _ X.g, f_kind (d + 6) X hk, bnd_v, pu_s, c_X11_isMonadic_23]
    by_cases r : kd l k = 2
    · rw [if_pos ((xk_is C (by decide)).mpr (xkF_2.mpr r)), c_X11_isMonadic_53, c_X11_isMonadic_58 _ _ _ _ _ _ (Or.inr rfl), b01_p ⟨q, Or.inl r⟩]
    · have q5 : kd l k = 5 ∧ sI l k ∈ snL := q.resolve_right (fun z => r z.1)
      have hm : sI l k ∈ mkL ++ snL := List.mem_append.mpr (Or.inr q5.2)
      rw [if_neg (fun z => r (xkF_2.mp ((xk_is C (by decide)).mp z))), c_X11_isMonadic_29, w1, xwo_op q5.1]
      by_cases a : sI l k = 43
      · rw [if_pos ((lcm_eq _ _).mpr ((xw_sm _ hm 43 (by decide)).mpr a)), c_X11_isMonadic_53, c_X11_isMonadic_58 _ _ _ _ _ _ (Or.inr rfl), b01_p ⟨q, by omega⟩]
      · rw [if_neg (fun z => a ((xw_sm _ hm 43 (by decide)).mp ((lcm_eq _ _).mp z))), c_X11_isMonadic_37]
        by_cases b : sI l k = 45
        · rw [if_pos ((lcm_eq _ _).mpr ((xw_sm _ hm 45 (by decide)).mpr b)), c_X11_isMonadic_53, c_X11_isMonadic_58 _ _ _ _ _ _ (Or.inr rfl), b01_p ⟨q, by omega⟩]
        · rw [if_neg (fun z => b ((xw_sm _ hm 45 (by decide)).mp ((lcm_eq _ _).mp z))), c_X11_isMonadic_45]
          by_cases c : sI l k = 126
          · rw [if_pos ((lcm_eq _ _).mpr ((xw_sm _ hm 126 (by decide)).mpr c)), c_X11_isMonadic_53, c_X11_isMonadic_58 _ _ _ _ _ _ (Or.inr rfl), b01_p ⟨q, by omega⟩]
          · rw [if_neg (fun z => c ((xw_sm _ hm 126 (by decide)).mp ((lcm_eq _ _).mp z))), c_X11_isMonadic_57, c_X11_isMonadic_58 _ _ _ _ _ _ (Or.inl rfl), b01_n (fun z => by have := z.2; omega)]
  · rw [if_pos (b01_0.mpr q), c_X11_isMonadic_57, c_X11_isMonadic_58 _ _ _ _ _ _ (Or.inl rfl), b01_n (fun z => q z.1)]
theorem f_isDyadic (d : Nat) (X : PXs h p lx l t o) {k : Nat} (hk : k < xc l) : F (d + 9) 110436930 [vR p, vI k] h = some (.inl (some (vI (b01 (isDy l k)))), h) := by
  have C := X.c
  obtain ⟨g1, w1⟩ := X.wt (k := k) hk
  rw [e_X11_isDyadic, c_X11_isDyadic_0 _ _ _ _ X.g, f_isOperation d X hk, bnd_v, pu_s, c_X11_isDyadic_5]
  by_cases q : isOp l k
  · rw [if_neg (fun z => b01_0.mp z q), c_X11_isDyadic_8 _ _ _ _ X.g, f_kind (d + 6) X hk, bnd_v, pu_s, c_X11_isDyadic_13]
    by_cases r : kd l k = 2
    · rw [if_pos ((xk_is C (by decide)).mpr (xkF_2.mpr r)), c_X11_isDyadic_35, c_X11_isDyadic_40 _ _ _ _ _ (Or.inr rfl), b01_p ⟨q, Or.inl r⟩]
    · have q5 : kd l k = 5 ∧ sI l k ∈ snL := q.resolve_right (fun z => r z.1)
      have hm : sI l k ∈ mkL ++ snL := List.mem_append.mpr (Or.inr q5.2)
      rw [if_neg (fun z => r (xkF_2.mp ((xk_is C (by decide)).mp z))), c_X11_isDyadic_19 _ _ _ _ X.g X.gl g1, w1, xwo_op q5.1]
      by_cases c : sI l k = 126
      · rw [if_pos ((lcm_eq _ _).mpr ((xw_sm _ hm 126 (by decide)).mpr c)), c_X11_isDyadic_39, c_X11_isDyadic_40 _ _ _ _ _ (Or.inl rfl), b01_n (fun z => by have := z.2; omega)]
      · rw [if_neg (fun z => c ((xw_sm _ hm 126 (by decide)).mp ((lcm_eq _ _).mp z))), c_X11_isDyadic_35, c_X11_isDyadic_40 _ _ _ _ _ (Or.inr rfl), b01_p ⟨q, Or.inr c⟩]
  · rw [if_pos (b01_0.mpr q), c_X11_isDyadic_39, c_X11_isDyadic_40 _ _ _ _ _ (Or.inl rfl), b01_n (fun z => q z.1)]
end XQ
