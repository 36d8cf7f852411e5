/-! x's PARSER: what it sees of tokens -/
set_option maxRecDepth 100000
theorem e_X2_word (d : Nat) (a0 : Nat) (a1 : Nat) (h : PH) : F (d + 1) 14166098 [vR a0, vR a1] h = FA (F d) 14166098 0 [vR a0, vR a1, vX, vX, vX] [] h := rfl
theorem c_X2_word_0 (cf : Nat → List PV → PH → Rs) (a0 : Nat) (a1 : Nat) (a2 : PV) (a3 : PV) (a4 : PV) (h : PH) : FA cf 14166098 0 [vR a0, vR a1, a2, a3, a4] [] h = FA cf 14166098 5 [vR a0, vR a1, vJ 0, vX, vI 0] [] h := (FA_ex cf 14166098 4 _ _ _ _).trans rfl
theorem c_X2_word_5 (cf : Nat → List PV → PH → Rs) (a0 : Nat) (a1 : Nat) (a2 : Int) (a4 : Int) (h : PH) (g0 : inT 53 53 (hc h a1)) : FA cf 14166098 5 [vR a0, vR a1, vJ a2, vX, vI a4] [] h = bnd (cf 173124433 [vR a1] h) (fun v h' => FA cf 14166098 11 [vR a0, vR a1, vJ a2, vX, vI a4] (pu v [vI a4]) h') := ((FA_ex cf 14166098 3 _ _ _ _).trans rfl : FA cf 14166098 5 [vR a0, vR a1, vJ a2, vX, vI a4] [] h = gd (inT 53 53 (hc h a1)) (bnd (cf 173124433 [vR a1] h) (fun v h' => FA cf 14166098 11 [vR a0, vR a1, vJ a2, vX, vI a4] (pu v [vI a4]) h'))).trans ((gd_t g0))
theorem c_X2_word_11 (cf : Nat → List PV → PH → Rs) (a0 : Nat) (a1 : Nat) (a2 : Int) (a4 : Int) (s0 : Int) (s1 : Int) (h : PH) : FA cf 14166098 11 [vR a0, vR a1, vJ a2, vX, vI a4] [vI s0, vI s1] h = if s1 < s0 then FA cf 14166098 14 [vR a0, vR a1, vJ a2, vX, vI a4] [] h else FA cf 14166098 36 [vR a0, vR a1, vJ a2, vX, vI a4] [] h := (FA_ex cf 14166098 1 _ _ _ _).trans rfl
theorem c_X2_word_14 (cf : Nat → List PV → PH → Rs) (a0 : Nat) (a1 : Nat) (a2 : Int) (a4 : Int) (h : PH) (g0 : inT 53 53 (hc h a1)) : FA cf 14166098 14 [vR a0, vR a1, vJ a2, vX, vI a4] [] h = bnd (cf 173648722 [vR a1, vI a4] h) (fun v h' => FA cf 14166098 21 [vR a0, vR a1, vJ a2, vX, vI a4] (pu v [vJ a2]) h') := ((FA_ex cf 14166098 4 _ _ _ _).trans rfl : FA cf 14166098 14 [vR a0, vR a1, vJ a2, vX, vI a4] [] h = gd (inT 53 53 (hc h a1)) (bnd (cf 173648722 [vR a1, vI a4] h) (fun v h' => FA cf 14166098 21 [vR a0, vR a1, vJ a2, vX, vI a4] (pu v [vJ a2]) h'))).trans ((gd_t g0))
theorem c_X2_word_21 (cf : Nat → List PV → PH → Rs) (a0 : Nat) (a1 : Nat) (a2 : Int) (a4 : Int) (s0 : Int) (s1 : Int) (h : PH) : FA cf 14166098 21 [vR a0, vR a1, vJ a2, vX, vI a4] [vI s0, vJ s1] h = FA cf 14166098 5 [vR a0, vR a1, vJ (lor s1 (lshl s0 (w32 (8 * a4)))), vX, vI (w32 (a4 + 1))] [] h := (FA_ex cf 14166098 9 _ _ _ _).trans rfl
theorem c_X2_word_36 (cf : Nat → List PV → PH → Rs) (a0 : Nat) (a1 : Nat) (a2 : Int) (a4 : Int) (h : PH) : FA cf 14166098 36 [vR a0, vR a1, vJ a2, vX, vI a4] [] h = some (.inl (some (vJ a2)), h) := (FA_ex cf 14166098 2 _ _ _ _).trans rfl
theorem e_X11_kind (d : Nat) (a0 : Nat) (a1 : Int) (h : PH) : F (d + 1) 103096898 [vR a0, vI a1] h = FA (F d) 103096898 0 [vR a0, vI a1] [] h := rfl
theorem c_X11_kind_0 (cf : Nat → List PV → PH → Rs) (a0 : Nat) (a1 : Int) (h : PH) (g0 : inT 36 36 (hc h a0)) (g1 : inT 5 5 (hc h (gR h 1277446290 a0))) : FA cf 103096898 0 [vR a0, vI a1] [] h = bnd (cf 174850050 [vI a1, vI (w32 ((gI h 344263188 (gR h 1277446290 a0)) - 1))] h) (fun v h' => FA cf 103096898 20 [vR a0, vI a1] (pu v [vR (gR h 319097366 (gR h 1277446290 a0))]) h') := ((FA_ex cf 103096898 10 _ _ _ _).trans rfl : FA cf 103096898 0 [vR a0, vI a1] [] h = gd (inT 36 36 (hc h a0)) (gd (inT 5 5 (hc h (gR h 1277446290 a0))) (gd (inT 36 36 (hc h a0)) (gd (inT 5 5 (hc h (gR h 1277446290 a0))) (bnd (cf 174850050 [vI a1, vI (w32 ((gI h 344263188 (gR h 1277446290 a0)) - 1))] h) (fun v h' => FA cf 103096898 20 [vR a0, vI a1] (pu v [vR (gR h 319097366 (gR h 1277446290 a0))]) h')))))).trans ((gd_t g0).trans ((gd_t g1).trans ((gd_t g0).trans ((gd_t g1)))))
theorem c_X11_kind_20 (cf : Nat → List PV → PH → Rs) (a0 : Nat) (a1 : Int) (s0 : Int) (s1 : Nat) (h : PH) (g0 : (inT 71 77 (hc h s1) ∨ inT 71 77 (kc h s1)) ∧ inA s0 (hl h s1)) : FA cf 103096898 20 [vR a0, vI a1] [vI s0, vR s1] h = some (.inl (some (vR (eR h s1 s0))), h) := ((FA_ex cf 103096898 2 _ _ _ _).trans rfl : FA cf 103096898 20 [vR a0, vI a1] [vI s0, vR s1] h = gd ((inT 71 77 (hc h s1) ∨ inT 71 77 (kc h s1)) ∧ inA s0 (hl h s1)) (some (.inl (some (vR (eR h s1 s0))), h))).trans ((gd_t g0))
theorem e_X11_place (d : Nat) (a0 : Nat) (h : PH) : F (d + 1) 101524033 [vR a0] h = FA (F d) 101524033 0 [vR a0] [] h := rfl
theorem c_X11_place_0 (cf : Nat → List PV → PH → Rs) (a0 : Nat) (h : PH) (g0 : inT 36 36 (hc h a0)) (g1 : inT 5 5 (hc h (gR h 1277446290 a0))) (g2 : (inT 64 65 (hc h (gR h 327485974 (gR h 1277446290 a0))) ∨ inT 64 65 (kc h (gR h 327485974 (gR h 1277446290 a0)))) ∧ inA (gI h 1285834896 a0) (hl h (gR h 327485974 (gR h 1277446290 a0)))) : FA cf 101524033 0 [vR a0] [] h = some (.inl (some (vI (eI h (gR h 327485974 (gR h 1277446290 a0)) (gI h 1285834896 a0)))), h) := ((FA_ex cf 101524033 7 _ _ _ _).trans rfl : FA cf 101524033 0 [vR a0] [] h = gd (inT 36 36 (hc h a0)) (gd (inT 5 5 (hc h (gR h 1277446290 a0))) (gd (inT 36 36 (hc h a0)) (gd ((inT 64 65 (hc h (gR h 327485974 (gR h 1277446290 a0))) ∨ inT 64 65 (kc h (gR h 327485974 (gR h 1277446290 a0)))) ∧ inA (gI h 1285834896 a0) (hl h (gR h 327485974 (gR h 1277446290 a0)))) (some (.inl (some (vI (eI h (gR h 327485974 (gR h 1277446290 a0)) (gI h 1285834896 a0)))), h)))))).trans ((gd_t g0).trans ((gd_t g1).trans ((gd_t g0).trans ((gd_t g2)))))
theorem e_X11_isWord (d : Nat) (a0 : Nat) (a1 : Nat) (h : PH) : F (d + 1) 102572610 [vR a0, vR a1] h = FA (F d) 102572610 0 [vR a0, vR a1] [] h := rfl
theorem c_X11_isWord_0 (cf : Nat → List PV → PH → Rs) (a0 : Nat) (a1 : Nat) (h : PH) (g0 : inT 36 36 (hc h a0)) : FA cf 102572610 0 [vR a0, vR a1] [] h = bnd (cf 102834755 [vR a0, vI (gI h 1285834896 a0), vR a1] h) (fun v h' => FA cf 102572610 9 [vR a0, vR a1] (pu v []) h') := ((FA_ex cf 102572610 5 _ _ _ _).trans rfl : FA cf 102572610 0 [vR a0, vR a1] [] h = gd (inT 36 36 (hc h a0)) (gd (inT 36 36 (hc h a0)) (bnd (cf 102834755 [vR a0, vI (gI h 1285834896 a0), vR a1] h) (fun v h' => FA cf 102572610 9 [vR a0, vR a1] (pu v []) h')))).trans ((gd_t g0).trans ((gd_t g0)))
theorem c_X11_isWord_9 (cf : Nat → List PV → PH → Rs) (a0 : Nat) (a1 : Nat) (s0 : Int) (h : PH) (g0 : (s0 : Int) = 0 ∨ (s0 : Int) = 1) : FA cf 102572610 9 [vR a0, vR a1] [vI s0] h = some (.inl (some (vI s0)), h) := ((FA_ex cf 102572610 1 _ _ _ _).trans rfl : FA cf 102572610 9 [vR a0, vR a1] [vI s0] h = gd ((s0 : Int) = 0 ∨ (s0 : Int) = 1) (some (.inl (some (vI s0)), h))).trans ((gd_t g0))
theorem e_X11_isWord_2 (d : Nat) (a0 : Nat) (a1 : Int) (a2 : Nat) (h : PH) : F (d + 1) 102834755 [vR a0, vI a1, vR a2] h = FA (F d) 102834755 0 [vR a0, vI a1, vR a2] [] h := rfl
theorem c_X11_isWord_2_0 (cf : Nat → List PV → PH → Rs) (a0 : Nat) (a1 : Int) (a2 : Nat) (h : PH) (g0 : inT 36 36 (hc h a0)) : FA cf 102834755 0 [vR a0, vI a1, vR a2] [] h = bnd (cf 103096898 [vR a0, vI a1] h) (fun v h' => FA cf 102834755 5 [vR a0, vI a1, vR a2] (pu v []) h') := ((FA_ex cf 102834755 3 _ _ _ _).trans rfl : FA cf 102834755 0 [vR a0, vI a1, vR a2] [] h = gd (inT 36 36 (hc h a0)) (bnd (cf 103096898 [vR a0, vI a1] h) (fun v h' => FA cf 102834755 5 [vR a0, vI a1, vR a2] (pu v []) h'))).trans ((gd_t g0))
theorem c_X11_isWord_2_5 (cf : Nat → List PV → PH → Rs) (a0 : Nat) (a1 : Int) (a2 : Nat) (s0 : Nat) (h : PH) : FA cf 102834755 5 [vR a0, vI a1, vR a2] [vR s0] h = if s0 = (gR h 3615490050 0) then FA cf 102834755 11 [vR a0, vI a1, vR a2] [] h else FA cf 102834755 36 [vR a0, vI a1, vR a2] [] h := (FA_ex cf 102834755 2 _ _ _ _).trans rfl
theorem c_X11_isWord_2_11 (cf : Nat → List PV → PH → Rs) (a0 : Nat) (a1 : Int) (a2 : Nat) (h : PH) (g0 : inT 36 36 (hc h a0)) (g1 : inT 5 5 (hc h (gR h 1277446290 a0))) (g2 : (hc h (gR h 335874582 (gR h 1277446290 a0))) = 66 ∧ inA a1 (hl h (gR h 335874582 (gR h 1277446290 a0)))) : FA cf 102834755 11 [vR a0, vI a1, vR a2] [] h = bnd (cf 14166098 [vR (gR h 1277446290 a0), vR a2] h) (fun v h' => FA cf 102834755 28 [vR a0, vI a1, vR a2] (pu v [vJ (eJ h (gR h 335874582 (gR h 1277446290 a0)) a1)]) h') := ((FA_ex cf 102834755 9 _ _ _ _).trans rfl : FA cf 102834755 11 [vR a0, vI a1, vR a2] [] h = gd (inT 36 36 (hc h a0)) (gd (inT 5 5 (hc h (gR h 1277446290 a0))) (gd ((hc h (gR h 335874582 (gR h 1277446290 a0))) = 66 ∧ inA a1 (hl h (gR h 335874582 (gR h 1277446290 a0)))) (gd (inT 36 36 (hc h a0)) (gd (inT 5 5 (hc h (gR h 1277446290 a0))) (bnd (cf 14166098 [vR (gR h 1277446290 a0), vR a2] h) (fun v h' => FA cf 102834755 28 [vR a0, vI a1, vR a2] (pu v [vJ (eJ h (gR h 335874582 (gR h 1277446290 a0)) a1)]) h'))))))).trans ((gd_t g0).trans ((gd_t g1).trans ((gd_t g2).trans ((gd_t g0).trans ((gd_t g1))))))
theorem c_X11_isWord_2_28 (cf : Nat → List PV → PH → Rs) (a0 : Nat) (a1 : Int) (a2 : Nat) (s0 : Int) (s1 : Int) (h : PH) : FA cf 102834755 28 [vR a0, vI a1, vR a2] [vJ s0, vJ s1] h = if (lcm s1 s0) = 0 then FA cf 102834755 32 [vR a0, vI a1, vR a2] [] h else FA cf 102834755 36 [vR a0, vI a1, vR a2] [] h := (FA_ex cf 102834755 2 _ _ _ _).trans rfl
theorem c_X11_isWord_2_32 (cf : Nat → List PV → PH → Rs) (a0 : Nat) (a1 : Int) (a2 : Nat) (h : PH) : FA cf 102834755 32 [vR a0, vI a1, vR a2] [] h = FA cf 102834755 37 [vR a0, vI a1, vR a2] [vI 1] h := (FA_ex cf 102834755 2 _ _ _ _).trans rfl
theorem c_X11_isWord_2_36 (cf : Nat → List PV → PH → Rs) (a0 : Nat) (a1 : Int) (a2 : Nat) (h : PH) : FA cf 102834755 36 [vR a0, vI a1, vR a2] [] h = FA cf 102834755 37 [vR a0, vI a1, vR a2] [vI 0] h := (FA_ex cf 102834755 1 _ _ _ _).trans rfl
theorem c_X11_isWord_2_37 (cf : Nat → List PV → PH → Rs) (a0 : Nat) (a1 : Int) (a2 : Nat) (s0 : Int) (h : PH) (g0 : (s0 : Int) = 0 ∨ (s0 : Int) = 1) : FA cf 102834755 37 [vR a0, vI a1, vR a2] [vI s0] h = some (.inl (some (vI s0)), h) := ((FA_ex cf 102834755 1 _ _ _ _).trans rfl : FA cf 102834755 37 [vR a0, vI a1, vR a2] [vI s0] h = gd ((s0 : Int) = 0 ∨ (s0 : Int) = 1) (some (.inl (some (vI s0)), h))).trans ((gd_t g0))
theorem e_X11_isMark (d : Nat) (a0 : Nat) (a1 : Int) (h : PH) : F (d + 1) 104931906 [vR a0, vJ a1] h = FA (F d) 104931906 0 [vR a0, vJ a1, vX] [] h := rfl
theorem c_X11_isMark_0 (cf : Nat → List PV → PH → Rs) (a0 : Nat) (a1 : Int) (h : PH) (g0 : inT 36 36 (hc h a0)) : FA cf 104931906 0 [vR a0, vJ a1, vX] [] h = bnd (cf 105194051 [vR a0, vI (gI h 1285834896 a0), vJ a1] h) (fun v h' => FA cf 104931906 9 [vR a0, vJ a1, vX] (pu v []) h') := ((FA_ex cf 104931906 5 _ _ _ _).trans rfl : FA cf 104931906 0 [vR a0, vJ a1, vX] [] h = gd (inT 36 36 (hc h a0)) (gd (inT 36 36 (hc h a0)) (bnd (cf 105194051 [vR a0, vI (gI h 1285834896 a0), vJ a1] h) (fun v h' => FA cf 104931906 9 [vR a0, vJ a1, vX] (pu v []) h')))).trans ((gd_t g0).trans ((gd_t g0)))
theorem c_X11_isMark_9 (cf : Nat → List PV → PH → Rs) (a0 : Nat) (a1 : Int) (s0 : Int) (h : PH) (g0 : (s0 : Int) = 0 ∨ (s0 : Int) = 1) : FA cf 104931906 9 [vR a0, vJ a1, vX] [vI s0] h = some (.inl (some (vI s0)), h) := ((FA_ex cf 104931906 1 _ _ _ _).trans rfl : FA cf 104931906 9 [vR a0, vJ a1, vX] [vI s0] h = gd ((s0 : Int) = 0 ∨ (s0 : Int) = 1) (some (.inl (some (vI s0)), h))).trans ((gd_t g0))
theorem e_X11_isMark_2 (d : Nat) (a0 : Nat) (a1 : Int) (a2 : Int) (h : PH) : F (d + 1) 105194051 [vR a0, vI a1, vJ a2] h = FA (F d) 105194051 0 [vR a0, vI a1, vJ a2, vX] [] h := rfl
theorem c_X11_isMark_2_0 (cf : Nat → List PV → PH → Rs) (a0 : Nat) (a1 : Int) (a2 : Int) (h : PH) (g0 : inT 36 36 (hc h a0)) : FA cf 105194051 0 [vR a0, vI a1, vJ a2, vX] [] h = bnd (cf 103096898 [vR a0, vI a1] h) (fun v h' => FA cf 105194051 5 [vR a0, vI a1, vJ a2, vX] (pu v []) h') := ((FA_ex cf 105194051 3 _ _ _ _).trans rfl : FA cf 105194051 0 [vR a0, vI a1, vJ a2, vX] [] h = gd (inT 36 36 (hc h a0)) (bnd (cf 103096898 [vR a0, vI a1] h) (fun v h' => FA cf 105194051 5 [vR a0, vI a1, vJ a2, vX] (pu v []) h'))).trans ((gd_t g0))
theorem c_X11_isMark_2_5 (cf : Nat → List PV → PH → Rs) (a0 : Nat) (a1 : Int) (a2 : Int) (s0 : Nat) (h : PH) : FA cf 105194051 5 [vR a0, vI a1, vJ a2, vX] [vR s0] h = if s0 = (gR h 3649044482 0) then FA cf 105194051 11 [vR a0, vI a1, vJ a2, vX] [] h else FA cf 105194051 29 [vR a0, vI a1, vJ a2, vX] [] h := (FA_ex cf 105194051 2 _ _ _ _).trans rfl
theorem c_X11_isMark_2_11 (cf : Nat → List PV → PH → Rs) (a0 : Nat) (a1 : Int) (a2 : Int) (h : PH) (g0 : inT 36 36 (hc h a0)) (g1 : inT 5 5 (hc h (gR h 1277446290 a0))) (g2 : (hc h (gR h 335874582 (gR h 1277446290 a0))) = 66 ∧ inA a1 (hl h (gR h 335874582 (gR h 1277446290 a0)))) : FA cf 105194051 11 [vR a0, vI a1, vJ a2, vX] [] h = if (lcm (eJ h (gR h 335874582 (gR h 1277446290 a0)) a1) a2) = 0 then FA cf 105194051 25 [vR a0, vI a1, vJ a2, vX] [] h else FA cf 105194051 29 [vR a0, vI a1, vJ a2, vX] [] h := ((FA_ex cf 105194051 8 _ _ _ _).trans rfl : FA cf 105194051 11 [vR a0, vI a1, vJ a2, vX] [] h = gd (inT 36 36 (hc h a0)) (gd (inT 5 5 (hc h (gR h 1277446290 a0))) (gd ((hc h (gR h 335874582 (gR h 1277446290 a0))) = 66 ∧ inA a1 (hl h (gR h 335874582 (gR h 1277446290 a0)))) (if (lcm (eJ h (gR h 335874582 (gR h 1277446290 a0)) a1) a2) = 0 then FA cf 105194051 25 [vR a0, vI a1, vJ a2, vX] [] h else FA cf 105194051 29 [vR a0, vI a1, vJ a2, vX] [] h)))).trans ((gd_t g0).trans ((gd_t g1).trans ((gd_t g2))))
theorem c_X11_isMark_2_25 (cf : Nat → List PV → PH → Rs) (a0 : Nat) (a1 : Int) (a2 : Int) (h : PH) : FA cf 105194051 25 [vR a0, vI a1, vJ a2, vX] [] h = FA cf 105194051 30 [vR a0, vI a1, vJ a2, vX] [vI 1] h := (FA_ex cf 105194051 2 _ _ _ _).trans rfl
theorem c_X11_isMark_2_29 (cf : Nat → List PV → PH → Rs) (a0 : Nat) (a1 : Int) (a2 : Int) (h : PH) : FA cf 105194051 29 [vR a0, vI a1, vJ a2, vX] [] h = FA cf 105194051 30 [vR a0, vI a1, vJ a2, vX] [vI 0] h := (FA_ex cf 105194051 1 _ _ _ _).trans rfl
theorem c_X11_isMark_2_30 (cf : Nat → List PV → PH → Rs) (a0 : Nat) (a1 : Int) (a2 : Int) (s0 : Int) (h : PH) (g0 : (s0 : Int) = 0 ∨ (s0 : Int) = 1) : FA cf 105194051 30 [vR a0, vI a1, vJ a2, vX] [vI s0] h = some (.inl (some (vI s0)), h) := ((FA_ex cf 105194051 1 _ _ _ _).trans rfl : FA cf 105194051 30 [vR a0, vI a1, vJ a2, vX] [vI s0] h = gd ((s0 : Int) = 0 ∨ (s0 : Int) = 1) (some (.inl (some (vI s0)), h))).trans ((gd_t g0))
theorem e_X11_takes (d : Nat) (a0 : Nat) (a1 : Int) (h : PH) : F (d + 1) 106242626 [vR a0, vJ a1] h = FA (F d) 106242626 0 [vR a0, vJ a1, vX, vX] [] h := rfl
theorem c_X11_takes_0 (cf : Nat → List PV → PH → Rs) (a0 : Nat) (a1 : Int) (a3 : PV) (h : PH) (g0 : inT 36 36 (hc h a0)) : FA cf 106242626 0 [vR a0, vJ a1, vX, a3] [] h = bnd (cf 104931906 [vR a0, vJ a1] h) (fun v h' => FA cf 106242626 5 [vR a0, vJ a1, vX, a3] (pu v []) h') := ((FA_ex cf 106242626 3 _ _ _ _).trans rfl : FA cf 106242626 0 [vR a0, vJ a1, vX, a3] [] h = gd (inT 36 36 (hc h a0)) (bnd (cf 104931906 [vR a0, vJ a1] h) (fun v h' => FA cf 106242626 5 [vR a0, vJ a1, vX, a3] (pu v []) h'))).trans ((gd_t g0))
theorem c_X11_takes_5 (cf : Nat → List PV → PH → Rs) (a0 : Nat) (a1 : Int) (a3 : PV) (s0 : Int) (h : PH) (g0 : inT 36 36 (hc h a0)) : FA cf 106242626 5 [vR a0, vJ a1, vX, a3] [vI s0] h = if s0 = 0 then FA cf 106242626 19 [vR a0, vJ a1, vX, vI s0] [vI (gI h 1285834896 a0), vR a0] h else FA cf 106242626 15 [vR a0, vJ a1, vX, vI s0] [vI (gI h 1285834896 a0), vR a0] h := ((FA_ex cf 106242626 6 _ _ _ _).trans rfl : FA cf 106242626 5 [vR a0, vJ a1, vX, a3] [vI s0] h = gd (inT 36 36 (hc h a0)) (if s0 = 0 then FA cf 106242626 19 [vR a0, vJ a1, vX, vI s0] [vI (gI h 1285834896 a0), vR a0] h else FA cf 106242626 15 [vR a0, vJ a1, vX, vI s0] [vI (gI h 1285834896 a0), vR a0] h)).trans ((gd_t g0))
theorem c_X11_takes_15 (cf : Nat → List PV → PH → Rs) (a0 : Nat) (a1 : Int) (a3 : Int) (s0 : Int) (s1 : Nat) (h : PH) : FA cf 106242626 15 [vR a0, vJ a1, vX, vI a3] [vI s0, vR s1] h = FA cf 106242626 20 [vR a0, vJ a1, vX, vI a3] [vI 1, vI s0, vR s1] h := (FA_ex cf 106242626 2 _ _ _ _).trans rfl
theorem c_X11_takes_19 (cf : Nat → List PV → PH → Rs) (a0 : Nat) (a1 : Int) (a3 : Int) (s0 : Int) (s1 : Nat) (h : PH) : FA cf 106242626 19 [vR a0, vJ a1, vX, vI a3] [vI s0, vR s1] h = FA cf 106242626 20 [vR a0, vJ a1, vX, vI a3] [vI 0, vI s0, vR s1] h := (FA_ex cf 106242626 1 _ _ _ _).trans rfl
theorem c_X11_takes_20 (cf : Nat → List PV → PH → Rs) (a0 : Nat) (a1 : Int) (a3 : Int) (s0 : Int) (s1 : Int) (s2 : Nat) (h : PH) (g0 : inT 36 36 (hc h s2)) (g1 : (a3 : Int) = 0 ∨ (a3 : Int) = 1) : FA cf 106242626 20 [vR a0, vJ a1, vX, vI a3] [vI s0, vI s1, vR s2] h = some (.inl (some (vI a3)), (pI h 1285834896 s2 (w32 (s1 + s0)))) := ((FA_ex cf 106242626 4 _ _ _ _).trans rfl : FA cf 106242626 20 [vR a0, vJ a1, vX, vI a3] [vI s0, vI s1, vR s2] h = gd (inT 36 36 (hc h s2)) (gd ((a3 : Int) = 0 ∨ (a3 : Int) = 1) (some (.inl (some (vI a3)), (pI h 1285834896 s2 (w32 (s1 + s0))))))).trans ((gd_t g0).trans ((gd_t g1)))
theorem e_X11_takesWord (d : Nat) (a0 : Nat) (a1 : Nat) (h : PH) : F (d + 1) 113058370 [vR a0, vR a1] h = FA (F d) 113058370 0 [vR a0, vR a1, vX] [] h := rfl
theorem c_X11_takesWord_0 (cf : Nat → List PV → PH → Rs) (a0 : Nat) (a1 : Nat) (a2 : PV) (h : PH) (g0 : inT 36 36 (hc h a0)) : FA cf 113058370 0 [vR a0, vR a1, a2] [] h = bnd (cf 102572610 [vR a0, vR a1] h) (fun v h' => FA cf 113058370 5 [vR a0, vR a1, a2] (pu v []) h') := ((FA_ex cf 113058370 3 _ _ _ _).trans rfl : FA cf 113058370 0 [vR a0, vR a1, a2] [] h = gd (inT 36 36 (hc h a0)) (bnd (cf 102572610 [vR a0, vR a1] h) (fun v h' => FA cf 113058370 5 [vR a0, vR a1, a2] (pu v []) h'))).trans ((gd_t g0))
theorem c_X11_takesWord_5 (cf : Nat → List PV → PH → Rs) (a0 : Nat) (a1 : Nat) (a2 : PV) (s0 : Int) (h : PH) (g0 : inT 36 36 (hc h a0)) : FA cf 113058370 5 [vR a0, vR a1, a2] [vI s0] h = if s0 = 0 then FA cf 113058370 19 [vR a0, vR a1, vI s0] [vI (gI h 1285834896 a0), vR a0] h else FA cf 113058370 15 [vR a0, vR a1, vI s0] [vI (gI h 1285834896 a0), vR a0] h := ((FA_ex cf 113058370 6 _ _ _ _).trans rfl : FA cf 113058370 5 [vR a0, vR a1, a2] [vI s0] h = gd (inT 36 36 (hc h a0)) (if s0 = 0 then FA cf 113058370 19 [vR a0, vR a1, vI s0] [vI (gI h 1285834896 a0), vR a0] h else FA cf 113058370 15 [vR a0, vR a1, vI s0] [vI (gI h 1285834896 a0), vR a0] h)).trans ((gd_t g0))
theorem c_X11_takesWord_15 (cf : Nat → List PV → PH → Rs) (a0 : Nat) (a1 : Nat) (a2 : Int) (s0 : Int) (s1 : Nat) (h : PH) : FA cf 113058370 15 [vR a0, vR a1, vI a2] [vI s0, vR s1] h = FA cf 113058370 20 [vR a0, vR a1, vI a2] [vI 1, vI s0, vR s1] h := (FA_ex cf 113058370 2 _ _ _ _).trans rfl
theorem c_X11_takesWord_19 (cf : Nat → List PV → PH → Rs) (a0 : Nat) (a1 : Nat) (a2 : Int) (s0 : Int) (s1 : Nat) (h : PH) : FA cf 113058370 19 [vR a0, vR a1, vI a2] [vI s0, vR s1] h = FA cf 113058370 20 [vR a0, vR a1, vI a2] [vI 0, vI s0, vR s1] h := (FA_ex cf 113058370 1 _ _ _ _).trans rfl
theorem c_X11_takesWord_20 (cf : Nat → List PV → PH → Rs) (a0 : Nat) (a1 : Nat) (a2 : Int) (s0 : Int) (s1 : Int) (s2 : Nat) (h : PH) (g0 : inT 36 36 (hc h s2)) (g1 : (a2 : Int) = 0 ∨ (a2 : Int) = 1) : FA cf 113058370 20 [vR a0, vR a1, vI a2] [vI s0, vI s1, vR s2] h = some (.inl (some (vI a2)), (pI h 1285834896 s2 (w32 (s1 + s0)))) := ((FA_ex cf 113058370 4 _ _ _ _).trans rfl : FA cf 113058370 20 [vR a0, vR a1, vI a2] [vI s0, vI s1, vR s2] h = gd (inT 36 36 (hc h s2)) (gd ((a2 : Int) = 0 ∨ (a2 : Int) = 1) (some (.inl (some (vI a2)), (pI h 1285834896 s2 (w32 (s1 + s0))))))).trans ((gd_t g0).trans ((gd_t g1)))
theorem e_X11_wrong (d : Nat) (a0 : Nat) (h : PH) : F (d + 1) 102048321 [vR a0] h = FA (F d) 102048321 0 [vR a0] [] h := rfl
theorem c_X11_wrong_0 (cf : Nat → List PV → PH → Rs) (a0 : Nat) (h : PH) (g0 : rmO h 8) (g1 : inT 36 36 (hc (nO h 44 8) a0)) : FA cf 102048321 0 [vR a0] [] h = bnd (cf 101524033 [vR a0] (nO h 44 8)) (fun v h' => FA cf 102048321 9 [vR a0] (pu v [vI 1, vR (hn h), vR (hn h)]) h') := ((FA_ex cf 102048321 5 _ _ _ _).trans rfl : FA cf 102048321 0 [vR a0] [] h = gd (rmO h 8) (gd (inT 36 36 (hc (nO h 44 8) a0)) (bnd (cf 101524033 [vR a0] (nO h 44 8)) (fun v h' => FA cf 102048321 9 [vR a0] (pu v [vI 1, vR (hn h), vR (hn h)]) h')))).trans ((gd_t g0).trans ((gd_t g1)))
theorem c_X11_wrong_9 (cf : Nat → List PV → PH → Rs) (a0 : Nat) (s0 : Int) (s1 : Int) (s2 : Nat) (s3 : Nat) (h : PH) (g0 : inT 44 44 (hc h s2)) : FA cf 102048321 9 [vR a0] [vI s0, vI s1, vR s2, vR s3] h = bnd (cf 36004547 [vR s2, vI s1, vI s0] h) (fun v h' => FA cf 102048321 12 [vR a0] (pu v [vR s3]) h') := ((FA_ex cf 102048321 1 _ _ _ _).trans rfl : FA cf 102048321 9 [vR a0] [vI s0, vI s1, vR s2, vR s3] h = gd (inT 44 44 (hc h s2)) (bnd (cf 36004547 [vR s2, vI s1, vI s0] h) (fun v h' => FA cf 102048321 12 [vR a0] (pu v [vR s3]) h'))).trans ((gd_t g0))
theorem c_X11_wrong_12 (cf : Nat → List PV → PH → Rs) (a0 : Nat) (s0 : Nat) (h : PH) : FA cf 102048321 12 [vR a0] [vR s0] h = some (.inl (some (vR s0)), h) := (FA_ex cf 102048321 1 _ _ _ _).trans rfl
theorem e_X11_open (d : Nat) (a0 : Nat) (h : PH) : F (d + 1) 103883329 [vR a0] h = FA (F d) 103883329 0 [vR a0] [] h := rfl
theorem c_X11_open_0 (cf : Nat → List PV → PH → Rs) (a0 : Nat) (h : PH) (g0 : inT 36 36 (hc h a0)) : FA cf 103883329 0 [vR a0] [] h = if (gI h 1294223504 a0) = 24 then FA cf 103883329 9 [vR a0] [] h else FA cf 103883329 14 [vR a0] [] h := ((FA_ex cf 103883329 4 _ _ _ _).trans rfl : FA cf 103883329 0 [vR a0] [] h = gd (inT 36 36 (hc h a0)) (if (gI h 1294223504 a0) = 24 then FA cf 103883329 9 [vR a0] [] h else FA cf 103883329 14 [vR a0] [] h)).trans ((gd_t g0))
theorem c_X11_open_9 (cf : Nat → List PV → PH → Rs) (a0 : Nat) (h : PH) (g0 : inT 36 36 (hc h a0)) : FA cf 103883329 9 [vR a0] [] h = bnd (cf 102048321 [vR a0] h) (fun v h' => FA cf 103883329 13 [vR a0] (pu v []) h') := ((FA_ex cf 103883329 2 _ _ _ _).trans rfl : FA cf 103883329 9 [vR a0] [] h = gd (inT 36 36 (hc h a0)) (bnd (cf 102048321 [vR a0] h) (fun v h' => FA cf 103883329 13 [vR a0] (pu v []) h'))).trans ((gd_t g0))
theorem c_X11_open_13 (cf : Nat → List PV → PH → Rs) (a0 : Nat) (s0 : Nat) (h : PH) (g0 : inT 44 47 (hc h s0)) : FA cf 103883329 13 [vR a0] [vR s0] h = some (.inr s0, h) := ((FA_ex cf 103883329 1 _ _ _ _).trans rfl : FA cf 103883329 13 [vR a0] [vR s0] h = gd (inT 44 47 (hc h s0)) (some (.inr s0, h))).trans ((gd_t g0))
theorem c_X11_open_14 (cf : Nat → List PV → PH → Rs) (a0 : Nat) (h : PH) (g0 : inT 36 36 (hc h a0)) : FA cf 103883329 14 [vR a0] [] h = some (.inl none, (pI h 1294223504 a0 (w32 ((gI h 1294223504 a0) + 1)))) := ((FA_ex cf 103883329 7 _ _ _ _).trans rfl : FA cf 103883329 14 [vR a0] [] h = gd (inT 36 36 (hc h a0)) (gd (inT 36 36 (hc h a0)) (some (.inl none, (pI h 1294223504 a0 (w32 ((gI h 1294223504 a0) + 1))))))).trans ((gd_t g0).trans ((gd_t g0)))
theorem e_X11_close (d : Nat) (a0 : Nat) (h : PH) : F (d + 1) 106504769 [vR a0] h = FA (F d) 106504769 0 [vR a0] [] h := rfl
theorem c_X11_close_0 (cf : Nat → List PV → PH → Rs) (a0 : Nat) (h : PH) (g0 : inT 36 36 (hc h a0)) : FA cf 106504769 0 [vR a0] [] h = some (.inl none, (pI h 1294223504 a0 (w32 ((gI h 1294223504 a0) - 1)))) := ((FA_ex cf 106504769 7 _ _ _ _).trans rfl : FA cf 106504769 0 [vR a0] [] h = gd (inT 36 36 (hc h a0)) (gd (inT 36 36 (hc h a0)) (some (.inl none, (pI h 1294223504 a0 (w32 ((gI h 1294223504 a0) - 1))))))).trans ((gd_t g0).trans ((gd_t g0)))
theorem e_X8_init (d : Nat) (a0 : Nat) (a1 : Int) (a2 : Int) (h : PH) : F (d + 1) 36004547 [vR a0, vI a1, vI a2] h = FA (F d) 36004547 0 [vR a0, vI a1, vI a2] [] h := rfl
theorem c_X8_init_0 (cf : Nat → List PV → PH → Rs) (a0 : Nat) (a1 : Int) (a2 : Int) (h : PH) (g0 : inT 44 47 (hc h a0)) : FA cf 36004547 0 [vR a0, vI a1, vI a2] [] h = bnd (cf 176519877 [vR a0, vR 0, vR 0, vI 0, vI 0] h) (fun v h' => FA cf 36004547 8 [vR a0, vI a1, vI a2] (pu v []) h') := ((FA_ex cf 36004547 6 _ _ _ _).trans rfl : FA cf 36004547 0 [vR a0, vI a1, vI a2] [] h = gd (inT 44 47 (hc h a0)) (bnd (cf 176519877 [vR a0, vR 0, vR 0, vI 0, vI 0] h) (fun v h' => FA cf 36004547 8 [vR a0, vI a1, vI a2] (pu v []) h'))).trans ((gd_t g0))
theorem c_X8_init_8 (cf : Nat → List PV → PH → Rs) (a0 : Nat) (a1 : Int) (a2 : Int) (h : PH) (g0 : inT 44 44 (hc h a0)) : FA cf 36004547 8 [vR a0, vI a1, vI a2] [] h = some (.inl none, (pI (pI h 3509344432 a0 a1) 3517733040 a0 a2)) := ((FA_ex cf 36004547 7 _ _ _ _).trans rfl : FA cf 36004547 8 [vR a0, vI a1, vI a2] [] h = gd (inT 44 44 (hc h a0)) (gd (inT 44 44 (hc h a0)) (some (.inl none, (pI (pI h 3509344432 a0 a1) 3517733040 a0 a2))))).trans ((gd_t g0).trans ((gd_t g0)))
theorem e_X11_mark (d : Nat) (a0 : Nat) (a1 : Int) (h : PH) : F (d + 1) 108077634 [vR a0, vJ a1] h = FA (F d) 108077634 0 [vR a0, vJ a1, vX] [] h := rfl
theorem c_X11_mark_0 (cf : Nat → List PV → PH → Rs) (a0 : Nat) (a1 : Int) (h : PH) (g0 : inT 36 36 (hc h a0)) : FA cf 108077634 0 [vR a0, vJ a1, vX] [] h = bnd (cf 106242626 [vR a0, vJ a1] h) (fun v h' => FA cf 108077634 5 [vR a0, vJ a1, vX] (pu v []) h') := ((FA_ex cf 108077634 3 _ _ _ _).trans rfl : FA cf 108077634 0 [vR a0, vJ a1, vX] [] h = gd (inT 36 36 (hc h a0)) (bnd (cf 106242626 [vR a0, vJ a1] h) (fun v h' => FA cf 108077634 5 [vR a0, vJ a1, vX] (pu v []) h'))).trans ((gd_t g0))
theorem c_X11_mark_5 (cf : Nat → List PV → PH → Rs) (a0 : Nat) (a1 : Int) (s0 : Int) (h : PH) : FA cf 108077634 5 [vR a0, vJ a1, vX] [vI s0] h = if s0 = 0 then FA cf 108077634 8 [vR a0, vJ a1, vX] [] h else FA cf 108077634 13 [vR a0, vJ a1, vX] [] h := (FA_ex cf 108077634 1 _ _ _ _).trans rfl
theorem c_X11_mark_8 (cf : Nat → List PV → PH → Rs) (a0 : Nat) (a1 : Int) (h : PH) (g0 : inT 36 36 (hc h a0)) : FA cf 108077634 8 [vR a0, vJ a1, vX] [] h = bnd (cf 102048321 [vR a0] h) (fun v h' => FA cf 108077634 12 [vR a0, vJ a1, vX] (pu v []) h') := ((FA_ex cf 108077634 2 _ _ _ _).trans rfl : FA cf 108077634 8 [vR a0, vJ a1, vX] [] h = gd (inT 36 36 (hc h a0)) (bnd (cf 102048321 [vR a0] h) (fun v h' => FA cf 108077634 12 [vR a0, vJ a1, vX] (pu v []) h'))).trans ((gd_t g0))
theorem c_X11_mark_12 (cf : Nat → List PV → PH → Rs) (a0 : Nat) (a1 : Int) (s0 : Nat) (h : PH) (g0 : inT 44 47 (hc h s0)) : FA cf 108077634 12 [vR a0, vJ a1, vX] [vR s0] h = some (.inr s0, h) := ((FA_ex cf 108077634 1 _ _ _ _).trans rfl : FA cf 108077634 12 [vR a0, vJ a1, vX] [vR s0] h = gd (inT 44 47 (hc h s0)) (some (.inr s0, h))).trans ((gd_t g0))
theorem c_X11_mark_13 (cf : Nat → List PV → PH → Rs) (a0 : Nat) (a1 : Int) (h : PH) : FA cf 108077634 13 [vR a0, vJ a1, vX] [] h = some (.inl none, h) := (FA_ex cf 108077634 1 _ _ _ _).trans rfl
theorem e_X11_word (d : Nat) (a0 : Nat) (a1 : Nat) (h : PH) : F (d + 1) 113320514 [vR a0, vR a1] h = FA (F d) 113320514 0 [vR a0, vR a1] [] h := rfl
theorem c_X11_word_0 (cf : Nat → List PV → PH → Rs) (a0 : Nat) (a1 : Nat) (h : PH) (g0 : inT 36 36 (hc h a0)) : FA cf 113320514 0 [vR a0, vR a1] [] h = bnd (cf 113058370 [vR a0, vR a1] h) (fun v h' => FA cf 113320514 5 [vR a0, vR a1] (pu v []) h') := ((FA_ex cf 113320514 3 _ _ _ _).trans rfl : FA cf 113320514 0 [vR a0, vR a1] [] h = gd (inT 36 36 (hc h a0)) (bnd (cf 113058370 [vR a0, vR a1] h) (fun v h' => FA cf 113320514 5 [vR a0, vR a1] (pu v []) h'))).trans ((gd_t g0))
theorem c_X11_word_5 (cf : Nat → List PV → PH → Rs) (a0 : Nat) (a1 : Nat) (s0 : Int) (h : PH) : FA cf 113320514 5 [vR a0, vR a1] [vI s0] h = if s0 = 0 then FA cf 113320514 8 [vR a0, vR a1] [] h else FA cf 113320514 13 [vR a0, vR a1] [] h := (FA_ex cf 113320514 1 _ _ _ _).trans rfl
theorem c_X11_word_8 (cf : Nat → List PV → PH → Rs) (a0 : Nat) (a1 : Nat) (h : PH) (g0 : inT 36 36 (hc h a0)) : FA cf 113320514 8 [vR a0, vR a1] [] h = bnd (cf 102048321 [vR a0] h) (fun v h' => FA cf 113320514 12 [vR a0, vR a1] (pu v []) h') := ((FA_ex cf 113320514 2 _ _ _ _).trans rfl : FA cf 113320514 8 [vR a0, vR a1] [] h = gd (inT 36 36 (hc h a0)) (bnd (cf 102048321 [vR a0] h) (fun v h' => FA cf 113320514 12 [vR a0, vR a1] (pu v []) h'))).trans ((gd_t g0))
theorem c_X11_word_12 (cf : Nat → List PV → PH → Rs) (a0 : Nat) (a1 : Nat) (s0 : Nat) (h : PH) (g0 : inT 44 47 (hc h s0)) : FA cf 113320514 12 [vR a0, vR a1] [vR s0] h = some (.inr s0, h) := ((FA_ex cf 113320514 1 _ _ _ _).trans rfl : FA cf 113320514 12 [vR a0, vR a1] [vR s0] h = gd (inT 44 47 (hc h s0)) (some (.inr s0, h))).trans ((gd_t g0))
theorem c_X11_word_13 (cf : Nat → List PV → PH → Rs) (a0 : Nat) (a1 : Nat) (h : PH) : FA cf 113320514 13 [vR a0, vR a1] [] h = some (.inl none, h) := (FA_ex cf 113320514 1 _ _ _ _).trans rfl
theorem e_X11_tag (d : Nat) (a0 : Nat) (h : PH) : F (d + 1) 107815489 [vR a0] h = FA (F d) 107815489 0 [vR a0] [] h := rfl
theorem c_X11_tag_0 (cf : Nat → List PV → PH → Rs) (a0 : Nat) (h : PH) (g0 : inT 36 36 (hc h a0)) : FA cf 107815489 0 [vR a0] [] h = bnd (cf 103096898 [vR a0, vI (gI h 1285834896 a0)] h) (fun v h' => FA cf 107815489 8 [vR a0] (pu v []) h') := ((FA_ex cf 107815489 4 _ _ _ _).trans rfl : FA cf 107815489 0 [vR a0] [] h = gd (inT 36 36 (hc h a0)) (gd (inT 36 36 (hc h a0)) (bnd (cf 103096898 [vR a0, vI (gI h 1285834896 a0)] h) (fun v h' => FA cf 107815489 8 [vR a0] (pu v []) h')))).trans ((gd_t g0).trans ((gd_t g0)))
theorem c_X11_tag_8 (cf : Nat → List PV → PH → Rs) (a0 : Nat) (s0 : Nat) (h : PH) : FA cf 107815489 8 [vR a0] [vR s0] h = if s0 = (gR h 3632267266 0) then FA cf 107815489 19 [vR a0] [] h else FA cf 107815489 14 [vR a0] [] h := (FA_ex cf 107815489 2 _ _ _ _).trans rfl
theorem c_X11_tag_14 (cf : Nat → List PV → PH → Rs) (a0 : Nat) (h : PH) (g0 : inT 36 36 (hc h a0)) : FA cf 107815489 14 [vR a0] [] h = bnd (cf 102048321 [vR a0] h) (fun v h' => FA cf 107815489 18 [vR a0] (pu v []) h') := ((FA_ex cf 107815489 2 _ _ _ _).trans rfl : FA cf 107815489 14 [vR a0] [] h = gd (inT 36 36 (hc h a0)) (bnd (cf 102048321 [vR a0] h) (fun v h' => FA cf 107815489 18 [vR a0] (pu v []) h'))).trans ((gd_t g0))
theorem c_X11_tag_18 (cf : Nat → List PV → PH → Rs) (a0 : Nat) (s0 : Nat) (h : PH) (g0 : inT 44 47 (hc h s0)) : FA cf 107815489 18 [vR a0] [vR s0] h = some (.inr s0, h) := ((FA_ex cf 107815489 1 _ _ _ _).trans rfl : FA cf 107815489 18 [vR a0] [vR s0] h = gd (inT 44 47 (hc h s0)) (some (.inr s0, h))).trans ((gd_t g0))
theorem c_X11_tag_19 (cf : Nat → List PV → PH → Rs) (a0 : Nat) (h : PH) (g0 : inT 36 36 (hc h a0)) (g1 : inT 5 5 (hc h (gR h 1277446290 a0))) (g2 : (hc h (gR h 335874582 (gR h 1277446290 a0))) = 66 ∧ inA (gI h 1285834896 a0) (hl h (gR h 335874582 (gR h 1277446290 a0)))) : FA cf 107815489 19 [vR a0] [] h = some (.inl (some (vJ (eJ h (gR h 335874582 (gR h 1277446290 a0)) (gI h 1285834896 a0)))), (pI h 1285834896 a0 (w32 ((gI h 1285834896 a0) + 1)))) := ((FA_ex cf 107815489 12 _ _ _ _).trans rfl : FA cf 107815489 19 [vR a0] [] h = gd (inT 36 36 (hc h a0)) (gd (inT 5 5 (hc h (gR h 1277446290 a0))) (gd (inT 36 36 (hc h a0)) (gd (inT 36 36 (hc h a0)) (gd ((hc h (gR h 335874582 (gR h 1277446290 a0))) = 66 ∧ inA (gI h 1285834896 a0) (hl h (gR h 335874582 (gR h 1277446290 a0)))) (some (.inl (some (vJ (eJ h (gR h 335874582 (gR h 1277446290 a0)) (gI h 1285834896 a0)))), (pI h 1285834896 a0 (w32 ((gI h 1285834896 a0) + 1)))))))))).trans ((gd_t g0).trans ((gd_t g1).trans ((gd_t g0).trans ((gd_t g0).trans ((gd_t g2))))))
theorem e_J9_init_2 (d : Nat) (a0 : Nat) (a1 : Nat) (a2 : Nat) (a3 : Int) (a4 : Int) (h : PH) : F (d + 1) 176519877 [vR a0, vR a1, vR a2, vI a3, vI a4] h = FA (F d) 176519877 0 [vR a0, vR a1, vR a2, vI a3, vI a4] [] h := rfl
theorem c_J9_init_2_0 (cf : Nat → List PV → PH → Rs) (a0 : Nat) (a1 : Nat) (a2 : Nat) (a3 : Int) (a4 : Int) (h : PH) (g0 : inT 44 47 (hc h a0)) : FA cf 176519877 0 [vR a0, vR a1, vR a2, vI a3, vI a4] [] h = bnd (cf 176257733 [vR a0, vR a1, vR a2, vI a3, vI a4] h) (fun v h' => FA cf 176519877 9 [vR a0, vR a1, vR a2, vI a3, vI a4] (pu v []) h') := ((FA_ex cf 176519877 6 _ _ _ _).trans rfl : FA cf 176519877 0 [vR a0, vR a1, vR a2, vI a3, vI a4] [] h = gd (inT 44 47 (hc h a0)) (bnd (cf 176257733 [vR a0, vR a1, vR a2, vI a3, vI a4] h) (fun v h' => FA cf 176519877 9 [vR a0, vR a1, vR a2, vI a3, vI a4] (pu v []) h'))).trans ((gd_t g0))
theorem c_J9_init_2_9 (cf : Nat → List PV → PH → Rs) (a0 : Nat) (a1 : Nat) (a2 : Nat) (a3 : Int) (a4 : Int) (h : PH) : FA cf 176519877 9 [vR a0, vR a1, vR a2, vI a3, vI a4] [] h = some (.inl none, h) := (FA_ex cf 176519877 1 _ _ _ _).trans rfl
theorem e_J8_init_2 (d : Nat) (a0 : Nat) (a1 : Nat) (a2 : Nat) (a3 : Int) (a4 : Int) (h : PH) : F (d + 1) 176257733 [vR a0, vR a1, vR a2, vI a3, vI a4] h = FA (F d) 176257733 0 [vR a0, vR a1, vR a2, vI a3, vI a4] [] h := rfl
theorem c_J8_init_2_0 (cf : Nat → List PV → PH → Rs) (a0 : Nat) (a1 : Nat) (a2 : Nat) (a3 : Int) (a4 : Int) (h : PH) (g0 : inT 44 47 (hc h a0)) : FA cf 176257733 0 [vR a0, vR a1, vR a2, vI a3, vI a4] [] h = bnd (cf 175995589 [vR a0, vR a1, vR a2, vI a3, vI a4] h) (fun v h' => FA cf 176257733 9 [vR a0, vR a1, vR a2, vI a3, vI a4] (pu v []) h') := ((FA_ex cf 176257733 6 _ _ _ _).trans rfl : FA cf 176257733 0 [vR a0, vR a1, vR a2, vI a3, vI a4] [] h = gd (inT 44 47 (hc h a0)) (bnd (cf 175995589 [vR a0, vR a1, vR a2, vI a3, vI a4] h) (fun v h' => FA cf 176257733 9 [vR a0, vR a1, vR a2, vI a3, vI a4] (pu v []) h'))).trans ((gd_t g0))
theorem c_J8_init_2_9 (cf : Nat → List PV → PH → Rs) (a0 : Nat) (a1 : Nat) (a2 : Nat) (a3 : Int) (a4 : Int) (h : PH) : FA cf 176257733 9 [vR a0, vR a1, vR a2, vI a3, vI a4] [] h = some (.inl none, h) := (FA_ex cf 176257733 1 _ _ _ _).trans rfl
theorem e_J7_init_3 (d : Nat) (a0 : Nat) (a1 : Nat) (a2 : Nat) (a3 : Int) (a4 : Int) (h : PH) : F (d + 1) 175995589 [vR a0, vR a1, vR a2, vI a3, vI a4] h = FA (F d) 175995589 0 [vR a0, vR a1, vR a2, vI a3, vI a4] [] h := rfl
theorem c_J7_init_3_0 (cf : Nat → List PV → PH → Rs) (a0 : Nat) (a1 : Nat) (a2 : Nat) (a3 : Int) (a4 : Int) (h : PH) (g0 : 0 < (hc h a0)) (g1 : inT 44 47 (hc h a0)) : FA cf 175995589 0 [vR a0, vR a1, vR a2, vI a3, vI a4] [] h = if a4 = 0 then FA cf 175995589 36 [vR a0, vR a1, vR a2, vI a3, vI a4] [] (pR (pR (pR h 3459210930 a0 a0) 3467599538 a0 (gR h 4118806530 0)) 3475988146 a0 (gR h 4127195138 0)) else FA cf 175995589 28 [vR a0, vR a1, vR a2, vI a3, vI a4] [] (pR (pR (pR h 3459210930 a0 a0) 3467599538 a0 (gR h 4118806530 0)) 3475988146 a0 (gR h 4127195138 0)) := ((FA_ex cf 175995589 13 _ _ _ _).trans rfl : FA cf 175995589 0 [vR a0, vR a1, vR a2, vI a3, vI a4] [] h = gd (0 < (hc h a0)) (gd (inT 44 47 (hc h a0)) (gd (inT 44 47 (hc h a0)) (gd (inT 44 47 (hc h a0)) (if a4 = 0 then FA cf 175995589 36 [vR a0, vR a1, vR a2, vI a3, vI a4] [] (pR (pR (pR h 3459210930 a0 a0) 3467599538 a0 (gR h 4118806530 0)) 3475988146 a0 (gR h 4127195138 0)) else FA cf 175995589 28 [vR a0, vR a1, vR a2, vI a3, vI a4] [] (pR (pR (pR h 3459210930 a0 a0) 3467599538 a0 (gR h 4118806530 0)) 3475988146 a0 (gR h 4127195138 0))))))).trans ((gd_t g0).trans ((gd_t g1).trans ((gd_t g1).trans ((gd_t g1)))))
theorem c_J7_init_3_28 (cf : Nat → List PV → PH → Rs) (a0 : Nat) (a1 : Nat) (a2 : Nat) (a3 : Int) (a4 : Int) (h : PH) : FA cf 175995589 28 [vR a0, vR a1, vR a2, vI a3, vI a4] [] h = none := (FA_ex cf 175995589 2 _ _ _ _).trans rfl
theorem c_J7_init_3_36 (cf : Nat → List PV → PH → Rs) (a0 : Nat) (a1 : Nat) (a2 : Nat) (a3 : Int) (a4 : Int) (h : PH) (g0 : inT 44 47 (hc h a0)) : FA cf 175995589 36 [vR a0, vR a1, vR a2, vI a3, vI a4] [] h = if a3 = 0 then FA cf 175995589 55 [vR a0, vR a1, vR a2, vI a3, vI a4] [] (pR (pR (pR h 3467599538 a0 0) 3484376754 a0 a1) 3459210930 a0 a2) else FA cf 175995589 60 [vR a0, vR a1, vR a2, vI a3, vI a4] [] (pR (pR (pR h 3467599538 a0 0) 3484376754 a0 a1) 3459210930 a0 a2) := ((FA_ex cf 175995589 11 _ _ _ _).trans rfl : FA cf 175995589 36 [vR a0, vR a1, vR a2, vI a3, vI a4] [] h = gd (inT 44 47 (hc h a0)) (gd (inT 44 47 (hc h a0)) (gd (inT 44 47 (hc h a0)) (if a3 = 0 then FA cf 175995589 55 [vR a0, vR a1, vR a2, vI a3, vI a4] [] (pR (pR (pR h 3467599538 a0 0) 3484376754 a0 a1) 3459210930 a0 a2) else FA cf 175995589 60 [vR a0, vR a1, vR a2, vI a3, vI a4] [] (pR (pR (pR h 3467599538 a0 0) 3484376754 a0 a1) 3459210930 a0 a2))))).trans ((gd_t g0).trans ((gd_t g0).trans ((gd_t g0))))
theorem c_J7_init_3_55 (cf : Nat → List PV → PH → Rs) (a0 : Nat) (a1 : Nat) (a2 : Nat) (a3 : Int) (a4 : Int) (h : PH) (g0 : inT 44 47 (hc h a0)) : FA cf 175995589 55 [vR a0, vR a1, vR a2, vI a3, vI a4] [] h = FA cf 175995589 60 [vR a0, vR a1, vR a2, vI a3, vI a4] [] (pR h 3475988146 a0 0) := ((FA_ex cf 175995589 3 _ _ _ _).trans rfl : FA cf 175995589 55 [vR a0, vR a1, vR a2, vI a3, vI a4] [] h = gd (inT 44 47 (hc h a0)) (FA cf 175995589 60 [vR a0, vR a1, vR a2, vI a3, vI a4] [] (pR h 3475988146 a0 0))).trans ((gd_t g0))
theorem c_J7_init_3_60 (cf : Nat → List PV → PH → Rs) (a0 : Nat) (a1 : Nat) (a2 : Nat) (a3 : Int) (a4 : Int) (h : PH) : FA cf 175995589 60 [vR a0, vR a1, vR a2, vI a3, vI a4] [] h = some (.inl none, h) := (FA_ex cf 175995589 1 _ _ _ _).trans rfl
/-- words by their strings: the string's static field, the model's number of the word -/
def swT : List (Nat × Int) := [(3674210306, 0), (3682598914, 1), (3690987522, 2), (3699376130, 3), (3707764738, 4), (3783262210, 5), (4009754626, 6), (4001366018, 7), (3992977410, 8), (3800039426, 9), (3791650818, 10), (3808428034, 11), (3724541954, 12), (3816816642, 13), (3825205250, 14), (3833593858, 15), (3841982466, 16), (3850371074, 17), (3875536898, 18), (3883925506, 19), (3892314114, 20), (3858759682, 21), (3909091330, 22), (3917479938, 23), (3925868546, 24), (3900702722, 25), (3934257154, 26), (3942645762, 27), (3951034370, 28), (3959422978, 29), (3967811586, 30), (3976200194, 31), (3984588802, 32), (3867148290, 33), (3716153346, 34), (3732930562, 35), (3741319170, 36), (3749707778, 37), (3758096386, 38), (3766484994, 39), (3774873602, 40)]
def swOK : Bool := swT.all fun z => strT.any fun y => y.1 == z.1 && decide (y.2.2.2.2.length ≤ 8) && (y.2.2.2.2.all fun c => decide (65 ≤ c ∧ c ≤ 90)) && decide (pk (fun j => y.2.2.2.2.getD j.toNat 0) 0 y.2.2.2.2.length = KWL.getD z.2.toNat 0) && decide (0 ≤ z.2 ∧ z.2 < 41)
theorem swOK_t : swOK = true := by decide +kernel
theorem KWL_inj : ∀ i : Fin 41, ∀ j : Fin 41, KWL.getD i.val 0 = KWL.getD j.val 0 → i = j := by decide +kernel
theorem iand_c : ∀ c : Fin 128, iand (c.val : Int) 255 = (c.val : Int) := by decide +kernel
theorem nz1 : nz 1 = 1 := by decide
theorem ishr_0 {x : Int} (h0 : 0 ≤ x) (h1 : x < 2147483648) : ishr x 0 = x := by
  have e : ishr x 0 = ((BitVec.ofInt 32 x).sshiftRight 0).toInt := rfl
  rw [e, BitVec.toInt_sshiftRight, BitVec.toInt_ofInt, Int.bmod_def]
  have : x % 4294967296 = x := by omega
  simp only [Nat.reducePow, Int.shiftRight_zero]
  omega
section STR
variable {h : PH} {sk : Nat} {cs : List Int}
/-- a string constant -/
def StrC (h : PH) (sk : Nat) (cs : List Int) : Prop := hc h sk = 53 ∧ gI h 3577020628 sk = 0 ∧ gI h 4102029315 0 = 1 ∧ kc h (gR h 3568632022 sk) = 68 ∧ hl h (gR h 3568632022 sk) = cs.length ∧ cs.length ≤ 400 ∧ ∀ j : Nat, j < cs.length → eI h (gR h 3568632022 sk) j = cs.getD j 0 ∧ 0 ≤ cs.getD j 0 ∧ cs.getD j 0 < 128
theorem f_length (d : Nat) (S : StrC h sk cs) : F (d + 2) 173124433 [vR sk] h = some (.inl (some (vI cs.length)), h) := by
  obtain ⟨s1, s2, s3, s4, s5, s6, s7⟩ := S
  rw [e_J0_length, c_J0_length_0 _ _ _ (i11 s1) (Or.inr (by rw [s4]; decide)), e_J0_coder, c_J0_coder_0, s3, nz1, if_neg (by decide), c_J0_coder_6 _ _ _ (i11 s1), s2, c_J0_coder_14 _ _ _ _ (by decide), bnd_v, pu_s, c_J0_length_9, s5, ishr_0 (by omega) (by omega)]
theorem f_charAt (d : Nat) (S : StrC h sk cs) (hcv : mdA (hc h (gR h 3568632022 sk)) = false) {j : Nat} (hj : j < cs.length) : F (d + 4) 173648722 [vR sk, vI j] h = some (.inl (some (vI (cs.getD j 0))), h) := by
  obtain ⟨s1, s2, s3, s4, s5, s6, s7⟩ := S
  obtain ⟨v1, v2, v3⟩ := s7 j hj
  have hlat : F (d + 3) 173910865 [vR sk] h = some (.inl (some (vI 1)), h) := by
    rw [e_J0_isLatin1, c_J0_isLatin1_0, s3, nz1, if_neg (by decide), c_J0_isLatin1_6 _ _ _ (i11 s1), s2, if_pos rfl, c_J0_isLatin1_13, c_J0_isLatin1_18 _ _ _ _ (Or.inr rfl)]
  have hia : iand (cs.getD j 0) 255 = cs.getD j 0 := by
    have := iand_c ⟨(cs.getD j 0).toNat, by omega⟩
    simp only [Int.toNat_of_nonneg v2] at this
    exact this
  have hch : (iand (if (hc h (gR h 3568632022 sk)) = 69 then nz (eI h (gR h 3568632022 sk) j) else (eI h (gR h 3568632022 sk) j)) 255) % 65536 = cs.getD j 0 := by
    have h69 : hc h (gR h 3568632022 sk) ≠ 69 := fun z => by have := hcv; rw [z] at this; exact absurd this (by decide)
    rw [if_neg h69, v1, hia]
    omega
  rw [e_J0_charAt, c_J0_charAt_0 _ _ _ _ (i11 s1), hlat, bnd_v, pu_s, c_J0_charAt_4, if_neg (by decide), c_J0_charAt_7 _ _ _ _ (i11 s1), e_J1_charAt, c_J1_charAt_0 _ _ _ _ (Or.inr (by rw [s4]; decide)), e_J0_checkIndex, c_J0_checkIndex_0, f_chk2 d h (by omega) (by rw [s5]; omega), bnd_v, pu_s, c_J0_checkIndex_8, bnd_v, pu_n, c_J1_charAt_6 _ _ _ _ ⟨Or.inr (by rw [s4]; decide), by rw [s5]; constructor <;> omega⟩ (by rw [hch]; exact ⟨v2, v3⟩), hch, bnd_v, pu_s, c_J0_charAt_15 _ _ _ _ _ ⟨v2, v3⟩]
theorem f_sword (d : Nat) (S : StrC h sk cs) (hcv : mdA (hc h (gR h 3568632022 sk)) = false) (h8 : cs.length ≤ 8) {lx : Nat} : F (d + 5) 14166098 [vR lx, vR sk] h = some (.inl (some (vJ (pk (fun j => cs.getD j.toNat 0) 0 cs.length))), h) := by
  have loop : ∀ k i : Nat, i + k = cs.length → FA (F (d + 4)) 14166098 5 [vR lx, vR sk, vJ (pk (fun j => cs.getD j.toNat 0) 0 i), vX, vI i] [] h = some (.inl (some (vJ (pk (fun j => cs.getD j.toNat 0) 0 cs.length))), h) := by
    intro k
    induction k with
    | zero =>
      intro i e
      have : i = cs.length := by omega
      subst this
      rw [c_X2_word_5 _ _ _ _ _ _ (i11 S.1), f_length (d + 2) S, bnd_v, pu_s, c_X2_word_11, if_neg (by omega), c_X2_word_36]
    | succ k ih =>
      intro i e
      have hc0 := (S.2.2.2.2.2.2 i (by omega)).2
      have hr := pk_rng (f := fun j : Int => cs.getD j.toNat 0) (n := i) (p := 0) (fun j hj => by
        have := (S.2.2.2.2.2.2 j (by omega)).2
        rw [show ((0 : Int) + (j : Int)).toNat = j by omega]
        exact this)
      rw [c_X2_word_5 _ _ _ _ _ _ (i11 S.1), f_length (d + 2) S, bnd_v, pu_s, c_X2_word_11, if_pos (by omega), c_X2_word_14 _ _ _ _ _ _ (i11 S.1), f_charAt d S hcv (by omega), bnd_v, pu_s, c_X2_word_21, lor_top hr.1 hr.2 (by omega) hc0.1 hc0.2, w32_1 (by omega)]
      have e2 : pk (fun j : Int => cs.getD j.toNat 0) 0 i + cs.getD i 0 * 256 ^ i = pk (fun j : Int => cs.getD j.toNat 0) 0 (i + 1) := by
        rw [pk_top, show ((0 : Int) + (i : Int)).toNat = i by omega]
      rw [e2]
      exact ih (i + 1) (by omega)
  rw [e_X2_word, c_X2_word_0]
  exact loop cs.length 0 (by omega)
end STR
/-- the lexer holds these tokens -/
def TXs (h : PH) (lx : Nat) (l : List TokE) : Prop := hc h lx = 5 ∧ (hc h (gR h 319097366 lx) = 73 ∧ hl h (gR h 319097366 lx) = 482) ∧ (hc h (gR h 327485974 lx) = 65 ∧ hl h (gR h 327485974 lx) = 482) ∧ (hc h (gR h 335874582 lx) = 66 ∧ hl h (gR h 335874582 lx) = 482) ∧ gI h 344263188 lx = xc l ∧ XT h (eR h (gR h 319097366 lx)) (eI h (gR h 327485974 lx)) (eJ h (gR h 335874582 lx)) 0 l ∧ TLs l 0 ∧ l.length ≤ 482
/-- the parser's state: at token t, o things are open -/
def PXs (h : PH) (p lx : Nat) (l : List TokE) (t o : Nat) : Prop := hc h p = 36 ∧ gR h 1277446290 p = lx ∧ gI h 1285834896 p = t ∧ gI h 1294223504 p = o ∧ t < xc l ∧ o ≤ 24 ∧ TXs h lx l ∧ HI h ∧ lx < p ∧ gR h 319097366 lx < p ∧ gR h 327485974 lx < p ∧ gR h 335874582 lx < p
/-- a fault -/
def FaultAt (h : PH) (e : Nat) (k P : Int) : Prop := hc h e = 44 ∧ gI h 3509344432 e = k ∧ gI h 3517733040 e = P
section XP
variable {h : PH} {p lx : Nat} {l : List TokE} {t o : Nat}
theorem PXs.i (X : PXs h p lx l t o) : HI h := X.2.2.2.2.2.2.2.1
theorem PXs.c (X : PXs h p lx l t o) : ConH h := X.i.1
theorem PXs.lt (X : PXs h p lx l t o) : p < hn h := by
  rcases Nat.lt_or_ge p (hn h) with z | z
  · exact z
  · have := X.c.1.2.2.1 p z; rw [X.1] at this; exact absurd this (by decide)
theorem PXs.x (X : PXs h p lx l t o) : TXs h lx l := X.2.2.2.2.2.2.1
theorem PXs.g (X : PXs h p lx l t o) : inT 36 36 (hc h p) := i11 X.1
theorem PXs.gl (X : PXs h p lx l t o) : inT 5 5 (hc h (gR h 1277446290 p)) := by rw [X.2.1]; exact i11 X.x.1
theorem PXs.ev {W : Nat → Prop} {u : Nat} {h1 : PH} (X : PXs h p lx l t o) (a : Ev W u h h1) (hW : ∀ q, W q → p < q) : PXs h1 p lx l t o := by
  obtain ⟨x1, x2, x3, x4, x5, x6, ⟨y1, ⟨k1, k2⟩, ⟨p1, p2⟩, ⟨w1, w2⟩, y5, y6, y7⟩, x8, g1, g2, g3, g4⟩ := X
  have hp : p < hn h := PXs.lt ⟨x1, x2, x3, x4, x5, x6, ⟨y1, ⟨k1, k2⟩, ⟨p1, p2⟩, ⟨w1, w2⟩, y5, y6, y7⟩, x8, g1, g2, g3, g4⟩
  have C := x8.1
  have s : ∀ q, q ≤ p → hc h q ≠ 71 → SmR h h1 q := fun q hq h7 => a.ob (by omega) (fun z => by have := hW q z; omega) h7
  have sp := s p (Nat.le_refl _) (by rw [x1]; decide)
  have sl := s lx (by omega) (by rw [y1]; decide)
  have s0 := s 0 (by omega) (by rw [C.1.1]; decide)
  have sk := s _ (Nat.le_of_lt g2) (by rw [k1]; decide)
  have spl := s _ (Nat.le_of_lt g3) (by rw [p1]; decide)
  have sw := s _ (Nat.le_of_lt g4) (by rw [w1]; decide)
  have ek : gR h1 319097366 lx = gR h 319097366 lx := sl.2.2.2.2.1 _
  have ep : gR h1 327485974 lx = gR h 327485974 lx := sl.2.2.2.2.1 _
  have ew : gR h1 335874582 lx = gR h 335874582 lx := sl.2.2.2.2.1 _
  refine ⟨sp.1.trans x1, (sp.2.2.2.2.1 _).trans x2, (sp.2.2.1 _).trans x3, (sp.2.2.1 _).trans x4, x5, x6, ⟨sl.1.trans y1, ⟨by rw [ek, sk.1]; exact k1, by rw [ek, sk.2.1]; exact k2⟩, ⟨by rw [ep, spl.1]; exact p1, by rw [ep, spl.2.1]; exact p2⟩, ⟨by rw [ew, sw.1]; exact w1, by rw [ew, sw.2.1]; exact w2⟩, (sl.2.2.1 _).trans y5, fun i hi => ?_, y7⟩, a.2.2.1, g1, by rw [ek]; exact g2, by rw [ep]; exact g3, by rw [ew]; exact g4⟩
  rw [ek, ep, ew, sk.2.2.2.2.2.2.2, spl.2.2.2.2.2.1, sw.2.2.2.2.2.2.1, s0.2.2.2.2.1]
  exact y6 i hi
theorem PXs.setT {t' : Nat} (X : PXs h p lx l t o) (ht : t' < xc l) : PXs (pI h 1285834896 p t') p lx l t' o := by
  obtain ⟨x1, x2, x3, x4, x5, x6, ⟨y1, y2, y3, y4, y5, y6⟩, x8, g⟩ := X
  have hne : lx ≠ p := fun z => by rw [z, x1] at y1; exact absurd y1 (by decide)
  have ev : Ev (· = p) 0 h (pI h 1285834896 p t') := (Ev.rf x8).cI (Or.inl rfl) (by rw [x1]; rfl)
  exact ⟨x1, x2, if_pos ⟨rfl, rfl⟩, (gI_pIo (fun z => absurd z.1 (by decide))).trans x4, ht, x6, ⟨y1, y2, y3, y4, (gI_pIo (fun z => hne z.2)).trans y5, y6⟩, ev.2.2.1, g⟩
theorem PXs.setO {o' : Nat} (X : PXs h p lx l t o) (ho : o' ≤ 24) : PXs (pI h 1294223504 p o') p lx l t o' := by
  obtain ⟨x1, x2, x3, x4, x5, x6, ⟨y1, y2, y3, y4, y5, y6⟩, x8, g⟩ := X
  have hne : lx ≠ p := fun z => by rw [z, x1] at y1; exact absurd y1 (by decide)
  have ev : Ev (· = p) 0 h (pI h 1294223504 p o') := (Ev.rf x8).cI (Or.inl rfl) (by rw [x1]; rfl)
  exact ⟨x1, x2, (gI_pIo (fun z => absurd z.1 (by decide))).trans x3, if_pos ⟨rfl, rfl⟩, x5, ho, ⟨y1, y2, y3, y4, (gI_pIo (fun z => hne z.2)).trans y5, y6⟩, ev.2.2.1, g⟩
theorem TXs.n (X : TXs h lx l) : xc l ≤ 482 := Nat.le_trans X.2.2.2.2.2.2.1.1.2 X.2.2.2.2.2.2.2
theorem f_kind (d : Nat) (X : PXs h p lx l t o) {k : Nat} (hk : k < xc l) : F (d + 2) 103096898 [vR p, vI k] h = some (.inl (some (vR (gR h (xkF (tE l k).1 (tE l k).2.2.1) 0))), h) := by
  obtain ⟨x1, x2, x3, x4, x5, x6, x7, x8⟩ := X.x
  have hn := X.x.n
  have hx := (x6 k hk).1
  rw [show (0 : Int) + (k : Int) = k by omega] at hx
  rw [e_X11_kind, c_X11_kind_0 _ _ _ _ X.g X.gl, X.2.1, x5, f_min, bnd_v, pu_s, w32_id (by omega) (by omega), if_neg (by omega), c_X11_kind_20 _ _ _ _ _ _ ⟨Or.inl (by rw [x2.1]; decide), by rw [x2.2]; constructor <;> omega⟩, hx]
theorem f_place (d : Nat) (X : PXs h p lx l t o) : F (d + 1) 101524033 [vR p] h = some (.inl (some (vI (tE l t).2.1)), h) := by
  obtain ⟨x1, x2, x3, x4, x5, x6, x7, x8⟩ := X.x
  have ht := X.2.2.2.2.1
  have hn := X.x.n
  have hx := (x6 t ht).2.1
  rw [show (0 : Int) + (t : Int) = t by omega] at hx
  rw [e_X11_place, c_X11_place_0 _ _ _ X.g X.gl (by rw [X.2.1, X.2.2.1]; exact ⟨Or.inl (by rw [x3.1]; decide), by rw [x3.2]; constructor <;> omega⟩), X.2.1, X.2.2.1, hx]
/-- a token's kind, compared -/
theorem xk_is (C : ConH h) {kd is : Int} {f : Nat} (hf : f ∈ tokF) : gR h (xkF kd is) 0 = gR h f 0 ↔ xkF kd is = f := by
  constructor
  · intro z
    apply Classical.byContradiction
    intro y
    exact tk_ne C (xkF_in kd is) hf y z
  · intro z; rw [z]
theorem xkF_1 {kd is : Int} : xkF kd is = 3615490050 ↔ kd = 1 := by
  unfold xkF
  by_cases a : kd = 0 <;> by_cases b : kd = 6 <;> by_cases c : kd = 1 <;> by_cases d : kd = 2 <;> by_cases e : kd = 3 <;> by_cases f : kd = 4 <;> by_cases g : is ∈ mkL <;> simp [a, b, c, d, e, f, g] <;> omega
theorem xkF_2 {kd is : Int} : xkF kd is = 3623878658 ↔ kd = 2 := by
  unfold xkF
  by_cases a : kd = 0 <;> by_cases b : kd = 6 <;> by_cases c : kd = 1 <;> by_cases d : kd = 2 <;> by_cases e : kd = 3 <;> by_cases f : kd = 4 <;> by_cases g : is ∈ mkL <;> simp [a, b, c, d, e, f, g] <;> omega
theorem xkF_3 {kd is : Int} : xkF kd is = 3632267266 ↔ kd = 3 := by
  unfold xkF
  by_cases a : kd = 0 <;> by_cases b : kd = 6 <;> by_cases c : kd = 1 <;> by_cases d : kd = 2 <;> by_cases e : kd = 3 <;> by_cases f : kd = 4 <;> by_cases g : is ∈ mkL <;> simp [a, b, c, d, e, f, g] <;> omega
theorem xkF_4 {kd is : Int} : xkF kd is = 3640655874 ↔ kd = 4 := by
  unfold xkF
  by_cases a : kd = 0 <;> by_cases b : kd = 6 <;> by_cases c : kd = 1 <;> by_cases d : kd = 2 <;> by_cases e : kd = 3 <;> by_cases f : kd = 4 <;> by_cases g : is ∈ mkL <;> simp [a, b, c, d, e, f, g] <;> omega
theorem xkF_m {e : TokE} (ok : TokOK e) : xkF e.1 e.2.2.1 = 3649044482 ↔ e.1 = 5 ∧ e.2.2.1 ∈ mkL := by
  unfold xkF
  rcases ok.2 with a | a | a | a | a | a | a
  all_goals (first | (rw [a]; simp; done) | (rw [a.1]; simp; done) | (rw [a.1]; by_cases g : e.2.2.1 ∈ mkL <;> simp [g]))
theorem mk_sn : ∀ x ∈ snL, x ∉ mkL := by decide
theorem xkF_s {e : TokE} (ok : TokOK e) : xkF e.1 e.2.2.1 = 3657433090 ↔ e.1 = 5 ∧ e.2.2.1 ∈ snL := by
  unfold xkF
  rcases ok.2 with a | a | a | a | a | a | a
  · rw [a]; simp
  · rw [a]; simp
  · rw [a.1]; simp
  · rw [a.1]; simp
  · rw [a.1]; simp
  · rw [a.1]; simp
  · rw [a.1]
    rcases a.2 with b | b
    · have : e.2.2.1 ∉ snL := fun z => mk_sn _ z b
      simp [b, this]
    · simp [b, mk_sn _ b]
theorem xw_inj : ∀ x ∈ mkL ++ snL, ∀ y ∈ mkL ++ snL, xw x = xw y → x = y := by decide +kernel
theorem swt_str (C : ConH h) {sf : Nat} {w : Int} (hs : (sf, w) ∈ swT) : ∃ cs, StrC h (gR h sf 0) cs ∧ mdA (hc h (gR h 3568632022 (gR h sf 0))) = false ∧ cs.length ≤ 8 ∧ pk (fun j => cs.getD j.toNat 0) 0 cs.length = KWL.getD w.toNat 0 ∧ 0 ≤ w ∧ w < 41 := by
  have := swOK_t
  unfold swOK at this
  have := List.all_eq_true.mp this (sf, w) hs
  obtain ⟨y, hy, e⟩ := List.any_eq_true.mp this
  simp only [Bool.and_eq_true, beq_iff_eq, decide_eq_true_eq, List.all_eq_true] at e
  obtain ⟨⟨⟨⟨e1, e2⟩, e3⟩, e4⟩, e5⟩ := e
  obtain ⟨c1, c2, c3, c4, c5⟩ := C.2.2.2.2.2.2.2.1 y hy
  rw [e1] at c1 c2 c3 c4 c5
  refine ⟨y.2.2.2.2, ⟨c1, c2, C.2.1.2.2.2, c3, c4, by omega, fun j hj => ⟨c5 j hj, ?_⟩⟩, (C.1.2.2.2 _ (by rw [c3]; decide)).2, e2, e4, e5⟩
  have := e3 (y.2.2.2.2.getD j 0) (by rw [List.getD_eq_getElem?_getD, List.getElem?_eq_getElem hj]; exact List.getElem_mem hj)
  omega
theorem f_isWord2 (d : Nat) (X : PXs h p lx l t o) {k : Nat} (hk : k < xc l) {sf : Nat} {w : Int} (hs : (sf, w) ∈ swT) : F (d + 6) 102834755 [vR p, vI k, vR (gR h sf 0)] h = some (.inl (some (vI (b01 ((tE l k).1 = 1 ∧ (tE l k).2.2.1 = w)))), h) := by
  obtain ⟨x1, x2, x3, x4, x5, x6, x7, x8⟩ := X.x
  have C := X.c
  have hn := X.x.n
  have hx := (x6 k hk).2.2
  rw [show (0 : Int) + (k : Int) = k by omega] at hx
  have ok := (x7.2.1 k (by have := x7.1.2; omega)).1
  rw [e_X11_isWord_2, c_X11_isWord_2_0 _ _ _ _ _ X.g, f_kind (d + 3) X hk, bnd_v, pu_s, c_X11_isWord_2_5]
  by_cases q : (tE l k).1 = 1
  · obtain ⟨cs, S, hcv, h8, hp, w0, w1⟩ := swt_str C hs
    rw [if_pos ((xk_is C (by decide)).mpr (xkF_1.mpr q)), c_X11_isWord_2_11 _ _ _ _ _ X.g X.gl (by rw [X.2.1, x4.1, x4.2]; exact ⟨rfl, by omega, by omega⟩), X.2.1, f_sword d S hcv h8, bnd_v, pu_s, c_X11_isWord_2_28, hx, hp]
    have okw : 0 ≤ (tE l k).2.2.1 ∧ (tE l k).2.2.1 < 41 ∧ (tE l k).2.2.2 = KWL.getD (tE l k).2.2.1.toNat 0 := by
      rcases ok.2 with a | a | a | a | a | a | a <;> (rw [q] at a; omega)
    have e1 : xwo (tE l k).1 (tE l k).2.2.1 (tE l k).2.2.2 = KWL.getD (tE l k).2.2.1.toNat 0 := by
      unfold xwo
      rw [if_pos (Or.inl q)]
      exact okw.2.2
    rw [e1]
    by_cases r : (tE l k).2.2.1 = w
    · rw [if_pos ((lcm_eq _ _).mpr (by rw [r])), c_X11_isWord_2_32, c_X11_isWord_2_37 _ _ _ _ _ _ (Or.inr rfl), b01_p ⟨q, r⟩]
    · rw [if_neg (fun z => r (by
        have z := (lcm_eq _ _).mp z
        have := KWL_inj ⟨(tE l k).2.2.1.toNat, by omega⟩ ⟨w.toNat, by omega⟩ z
        have := congrArg Fin.val this
        simp only at this
        omega)), c_X11_isWord_2_36, c_X11_isWord_2_37 _ _ _ _ _ _ (Or.inl rfl), b01_n (fun z => r z.2)]
  · rw [if_neg (fun z => q (xkF_1.mp ((xk_is C (by decide)).mp z))), c_X11_isWord_2_36, c_X11_isWord_2_37 _ _ _ _ _ _ (Or.inl rfl), b01_n (fun z => q z.1)]
theorem f_isWord (d : Nat) (X : PXs h p lx l t o) {sf : Nat} {w : Int} (hs : (sf, w) ∈ swT) : F (d + 7) 102572610 [vR p, vR (gR h sf 0)] h = some (.inl (some (vI (b01 ((tE l t).1 = 1 ∧ (tE l t).2.2.1 = w)))), h) := by
  rw [e_X11_isWord, c_X11_isWord_0 _ _ _ _ X.g, X.2.2.1, f_isWord2 d X X.2.2.2.2.1 hs, bnd_v, pu_s, c_X11_isWord_9 _ _ _ _ _ b01_b]
/-- marks: x's code and the model's -/
def mkT : List (Int × Int) := [(40, 40), (41, 41), (91, 91), (93, 93), (44, 44), (59, 59), (58, 58), (15674, 300)]
theorem mkT_ok : ∀ z ∈ mkT, z.2 ∈ mkL ∧ xw z.2 = z.1 := by decide
theorem f_isMark2 (d : Nat) (X : PXs h p lx l t o) {k : Nat} (hk : k < xc l) {c w : Int} (hs : (c, w) ∈ mkT) : F (d + 3) 105194051 [vR p, vI k, vJ c] h = some (.inl (some (vI (b01 ((tE l k).1 = 5 ∧ (tE l k).2.2.1 = w)))), h) := by
  obtain ⟨x1, x2, x3, x4, x5, x6, x7, x8⟩ := X.x
  have C := X.c
  have hn := X.x.n
  have hx := (x6 k hk).2.2
  rw [show (0 : Int) + (k : Int) = k by omega] at hx
  have ok := (x7.2.1 k (by have := x7.1.2; omega)).1
  obtain ⟨m1, m2⟩ := mkT_ok _ hs
  simp only at m1 m2
  rw [e_X11_isMark_2, c_X11_isMark_2_0 _ _ _ _ _ X.g, f_kind d X hk, bnd_v, pu_s, c_X11_isMark_2_5]
  by_cases q : (tE l k).1 = 5 ∧ (tE l k).2.2.1 ∈ mkL
  · have e1 : xwo (tE l k).1 (tE l k).2.2.1 (tE l k).2.2.2 = xw (tE l k).2.2.1 := by
      unfold xwo
      rw [if_neg (by omega), if_neg (by omega), if_pos q.1]
    rw [if_pos ((xk_is C (by decide)).mpr ((xkF_m ok).mpr q)), c_X11_isMark_2_11 _ _ _ _ _ X.g X.gl (by rw [X.2.1, x4.1, x4.2]; exact ⟨rfl, by omega, by omega⟩), X.2.1, hx, e1]
    by_cases r : (tE l k).2.2.1 = w
    · rw [if_pos ((lcm_eq _ _).mpr (by rw [r]; exact m2)), c_X11_isMark_2_25, c_X11_isMark_2_30 _ _ _ _ _ _ (Or.inr rfl), b01_p ⟨q.1, r⟩]
    · rw [if_neg (fun z => r (xw_inj _ (List.mem_append.mpr (Or.inl q.2)) _ (List.mem_append.mpr (Or.inl m1)) (((lcm_eq _ _).mp z).trans m2.symm))), c_X11_isMark_2_29, c_X11_isMark_2_30 _ _ _ _ _ _ (Or.inl rfl), b01_n (fun z => r z.2)]
  · rw [if_neg (fun z => q ((xkF_m ok).mp ((xk_is C (by decide)).mp z))), c_X11_isMark_2_29, c_X11_isMark_2_30 _ _ _ _ _ _ (Or.inl rfl), b01_n (fun z => q ⟨z.1, by rw [z.2]; exact m1⟩)]
theorem f_isMark (d : Nat) (X : PXs h p lx l t o) {c w : Int} (hs : (c, w) ∈ mkT) : F (d + 4) 104931906 [vR p, vJ c] h = some (.inl (some (vI (b01 ((tE l t).1 = 5 ∧ (tE l t).2.2.1 = w)))), h) := by
  rw [e_X11_isMark, c_X11_isMark_0 _ _ _ _ X.g, X.2.2.1, f_isMark2 d X X.2.2.2.2.1 hs, bnd_v, pu_s, c_X11_isMark_9 _ _ _ _ _ b01_b]
theorem f_rtinit (d : Nat) {e : Nat} (I : HI h) (he : hc h e = 44) (hl0 : e < hn h) : ∃ h1, F (d + 3) 176519877 [vR e, vR 0, vR 0, vI 0, vI 0] h = some (.inl none, h1) ∧ Ev (· = e) 0 h h1 := by
  have g : ∀ {f w : Nat} {k : PH}, Ev (· = e) 0 h k → f ≠ eD → Ev (· = e) 0 h (pR k f e w) := fun {f w k} a hf => a.cR (Or.inl rfl) (by rw [a.1.2.2.2.1 e hl0, he]; rfl) hf
  have e47 : ∀ {k : PH}, hc k e = 44 → inT 44 47 (hc k e) := fun z => by rw [z]; decide
  rw [e_J9_init_2, c_J9_init_2_0 _ _ _ _ _ _ _ (e47 he), e_J8_init_2, c_J8_init_2_0 _ _ _ _ _ _ _ (e47 he), e_J7_init_3, c_J7_init_3_0 _ _ _ _ _ _ _ (by rw [he]; decide) (e47 he), if_pos rfl, c_J7_init_3_36, if_pos rfl, c_J7_init_3_55, c_J7_init_3_60, bnd_v, pu_n, c_J8_init_2_9, bnd_v, pu_n, c_J9_init_2_9]
  · exact ⟨_, rfl, g (g (g (g (g (g (g (Ev.rf I) (by decide)) (by decide)) (by decide)) (by decide)) (by decide)) (by decide)) (by decide)⟩
  all_goals exact e47 he
/-- the fault of a wrong token -/
theorem f_wrong (d : Nat) (X : PXs h p lx l t o) (rm : Room 1 h) : ∃ e h1, F (d + 5) 102048321 [vR p] h = some (.inl (some (vR e)), h1) ∧ FaultAt h1 e 1 (tE l t).2.1 ∧ Ev W0 1 h h1 := by
  have I := X.i
  have e0 : Ev W0 1 h (nO h 44 8) := (Ev.rf I).mO (by decide) (by decide)
  have X0 : PXs (nO h 44 8) p lx l t o := X.ev e0 (fun q z => z.elim)
  have I0 := e0.2.2.1
  have h44 : hc (nO h 44 8) (hn h) = 44 := if_pos rfl
  obtain ⟨h1, r1, r2⟩ := f_rtinit (d + 0) (e := hn h) I0 h44 (Nat.lt_succ_self _)
  have c1 : hc h1 (hn h) = 44 := by rw [r2.1.2.2.2.1 _ (Nat.lt_succ_self _)]; exact h44
  have r1 : F (d + 3) 176519877 [vR (hn h), vR 0, vR 0, vI 0, vI 0] (nO h 44 8) = some (.inl none, h1) := r1
  rw [e_X11_wrong, c_X11_wrong_0 _ _ _ (by unfold Room at rm; exact ⟨by omega, by omega⟩) X0.g, f_place (d + 3) X0, bnd_v, pu_s, c_X11_wrong_9 _ _ _ _ _ _ _ (i11 h44), e_X8_init, c_X8_init_0 _ _ _ _ _ (by rw [h44]; decide), r1, bnd_v, pu_n, c_X8_init_8 _ _ _ _ _ (i11 c1), bnd_v, pu_n, c_X11_wrong_12]
  have ev : Ev W0 1 h h1 := by
    have := e0.tr (r2.mono (W' := (· = hn h)) (fun _ _ z => z) (Nat.le_refl 0)) (W := W0) (fun q hq z => by omega)
    exact this
  refine ⟨hn h, _, rfl, ⟨c1, ?_, ?_⟩, ?_⟩
  · rw [rI_pI, if_neg (fun z => absurd z.1 (by decide)), rI_pI, if_pos ⟨rfl, rfl⟩]
  · rw [rI_pI, if_pos ⟨rfl, rfl⟩]
  · exact (ev.cI (Or.inr (Nat.le_refl _)) (by rw [c1]; rfl)).cI (Or.inr (Nat.le_refl _)) (by show mdT (hc h1 (hn h)) = true; rw [c1]; rfl)
end XP
