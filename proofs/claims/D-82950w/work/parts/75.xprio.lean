/-! x's PARSER: priorities -/
set_option maxRecDepth 100000
theorem e_X11_priority (d : Nat) (a0 : Nat) (a1 : Int) (h : PH) : F (d + 1) 110961218 [vR a0, vI a1] h = FA (F d) 110961218 0 [vR a0, vI a1, vX, vX, vX] [] h := rfl
theorem c_X11_priority_0 (cf : Nat → List PV → PH → Rs) (a0 : Nat) (a1 : Int) (a2 : PV) (a3 : PV) (a4 : PV) (h : PH) (g0 : inT 36 36 (hc h a0)) (g1 : inT 5 5 (hc h (gR h 1277446290 a0))) (g2 : (hc h (gR h 335874582 (gR h 1277446290 a0))) = 66 ∧ inA a1 (hl h (gR h 335874582 (gR h 1277446290 a0)))) : FA cf 110961218 0 [vR a0, vI a1, a2, a3, a4] [] h = bnd (cf 103096898 [vR a0, vI a1] h) (fun v h' => FA cf 110961218 15 [vR a0, vI a1, vJ (eJ h (gR h 335874582 (gR h 1277446290 a0)) a1), vX, a4] (pu v []) h') := ((FA_ex cf 110961218 9 _ _ _ _).trans rfl : FA cf 110961218 0 [vR a0, vI a1, a2, a3, a4] [] h = gd (inT 36 36 (hc h a0)) (gd (inT 5 5 (hc h (gR h 1277446290 a0))) (gd ((hc h (gR h 335874582 (gR h 1277446290 a0))) = 66 ∧ inA a1 (hl h (gR h 335874582 (gR h 1277446290 a0)))) (gd (inT 36 36 (hc h a0)) (bnd (cf 103096898 [vR a0, vI a1] h) (fun v h' => FA cf 110961218 15 [vR a0, vI a1, vJ (eJ h (gR h 335874582 (gR h 1277446290 a0)) a1), vX, a4] (pu v []) h')))))).trans ((gd_t g0).trans ((gd_t g1).trans ((gd_t g2).trans ((gd_t g0)))))
theorem c_X11_priority_15 (cf : Nat → List PV → PH → Rs) (a0 : Nat) (a1 : Int) (a2 : Int) (a4 : PV) (s0 : Nat) (h : PH) : FA cf 110961218 15 [vR a0, vI a1, vJ a2, vX, a4] [vR s0] h = if s0 = (gR h 3623878658 0) then FA cf 110961218 21 [vR a0, vI a1, vJ a2, vX, a4] [] h else FA cf 110961218 116 [vR a0, vI a1, vJ a2, vX, a4] [] h := (FA_ex cf 110961218 2 _ _ _ _).trans rfl
theorem c_X11_priority_21 (cf : Nat → List PV → PH → Rs) (a0 : Nat) (a1 : Int) (a2 : Int) (a4 : PV) (h : PH) : FA cf 110961218 21 [vR a0, vI a1, vJ a2, vX, a4] [] h = FA cf 110961218 24 [vR a0, vI a1, vJ a2, vX, vI 0] [] h := (FA_ex cf 110961218 2 _ _ _ _).trans rfl
theorem c_X11_priority_24 (cf : Nat → List PV → PH → Rs) (a0 : Nat) (a1 : Int) (a2 : Int) (a4 : Int) (h : PH) (g0 : inT 36 36 (hc h a0)) (g1 : inT 5 5 (hc h (gR h 1277446290 a0))) : FA cf 110961218 24 [vR a0, vI a1, vJ a2, vX, vI a4] [] h = if (w32 (a4 + 3)) < (gI h 344263188 (gR h 1277446290 a0)) then FA cf 110961218 38 [vR a0, vI a1, vJ a2, vX, vI a4] [] h else FA cf 110961218 114 [vR a0, vI a1, vJ a2, vX, vI a4] [] h := ((FA_ex cf 110961218 7 _ _ _ _).trans rfl : FA cf 110961218 24 [vR a0, vI a1, vJ a2, vX, vI a4] [] h = gd (inT 36 36 (hc h a0)) (gd (inT 5 5 (hc h (gR h 1277446290 a0))) (if (w32 (a4 + 3)) < (gI h 344263188 (gR h 1277446290 a0)) then FA cf 110961218 38 [vR a0, vI a1, vJ a2, vX, vI a4] [] h else FA cf 110961218 114 [vR a0, vI a1, vJ a2, vX, vI a4] [] h))).trans ((gd_t g0).trans ((gd_t g1)))
theorem c_X11_priority_38 (cf : Nat → List PV → PH → Rs) (a0 : Nat) (a1 : Int) (a2 : Int) (a4 : Int) (h : PH) (g0 : inT 36 36 (hc h a0)) : FA cf 110961218 38 [vR a0, vI a1, vJ a2, vX, vI a4] [] h = bnd (cf 102834755 [vR a0, vI a4, vR (gR h 3682598914 0)] h) (fun v h' => FA cf 110961218 46 [vR a0, vI a1, vJ a2, vX, vI a4] (pu v []) h') := ((FA_ex cf 110961218 4 _ _ _ _).trans rfl : FA cf 110961218 38 [vR a0, vI a1, vJ a2, vX, vI a4] [] h = gd (inT 36 36 (hc h a0)) (bnd (cf 102834755 [vR a0, vI a4, vR (gR h 3682598914 0)] h) (fun v h' => FA cf 110961218 46 [vR a0, vI a1, vJ a2, vX, vI a4] (pu v []) h'))).trans ((gd_t g0))
theorem c_X11_priority_46 (cf : Nat → List PV → PH → Rs) (a0 : Nat) (a1 : Int) (a2 : Int) (a4 : Int) (s0 : Int) (h : PH) : FA cf 110961218 46 [vR a0, vI a1, vJ a2, vX, vI a4] [vI s0] h = if s0 = 0 then FA cf 110961218 108 [vR a0, vI a1, vJ a2, vX, vI a4] [] h else FA cf 110961218 49 [vR a0, vI a1, vJ a2, vX, vI a4] [] h := (FA_ex cf 110961218 1 _ _ _ _).trans rfl
theorem c_X11_priority_49 (cf : Nat → List PV → PH → Rs) (a0 : Nat) (a1 : Int) (a2 : Int) (a4 : Int) (h : PH) (g0 : inT 36 36 (hc h a0)) : FA cf 110961218 49 [vR a0, vI a1, vJ a2, vX, vI a4] [] h = bnd (cf 103096898 [vR a0, vI (w32 (a4 + 1))] h) (fun v h' => FA cf 110961218 57 [vR a0, vI a1, vJ a2, vX, vI a4] (pu v []) h') := ((FA_ex cf 110961218 5 _ _ _ _).trans rfl : FA cf 110961218 49 [vR a0, vI a1, vJ a2, vX, vI a4] [] h = gd (inT 36 36 (hc h a0)) (bnd (cf 103096898 [vR a0, vI (w32 (a4 + 1))] h) (fun v h' => FA cf 110961218 57 [vR a0, vI a1, vJ a2, vX, vI a4] (pu v []) h'))).trans ((gd_t g0))
theorem c_X11_priority_57 (cf : Nat → List PV → PH → Rs) (a0 : Nat) (a1 : Int) (a2 : Int) (a4 : Int) (s0 : Nat) (h : PH) : FA cf 110961218 57 [vR a0, vI a1, vJ a2, vX, vI a4] [vR s0] h = if s0 = (gR h 3623878658 0) then FA cf 110961218 63 [vR a0, vI a1, vJ a2, vX, vI a4] [] h else FA cf 110961218 108 [vR a0, vI a1, vJ a2, vX, vI a4] [] h := (FA_ex cf 110961218 2 _ _ _ _).trans rfl
theorem c_X11_priority_63 (cf : Nat → List PV → PH → Rs) (a0 : Nat) (a1 : Int) (a2 : Int) (a4 : Int) (h : PH) (g0 : inT 36 36 (hc h a0)) (g1 : inT 5 5 (hc h (gR h 1277446290 a0))) (g2 : (hc h (gR h 335874582 (gR h 1277446290 a0))) = 66 ∧ inA (w32 (a4 + 1)) (hl h (gR h 335874582 (gR h 1277446290 a0)))) : FA cf 110961218 63 [vR a0, vI a1, vJ a2, vX, vI a4] [] h = if (lcm (eJ h (gR h 335874582 (gR h 1277446290 a0)) (w32 (a4 + 1))) a2) = 0 then FA cf 110961218 80 [vR a0, vI a1, vJ a2, vX, vI a4] [] h else FA cf 110961218 108 [vR a0, vI a1, vJ a2, vX, vI a4] [] h := ((FA_ex cf 110961218 10 _ _ _ _).trans rfl : FA cf 110961218 63 [vR a0, vI a1, vJ a2, vX, vI a4] [] h = gd (inT 36 36 (hc h a0)) (gd (inT 5 5 (hc h (gR h 1277446290 a0))) (gd ((hc h (gR h 335874582 (gR h 1277446290 a0))) = 66 ∧ inA (w32 (a4 + 1)) (hl h (gR h 335874582 (gR h 1277446290 a0)))) (if (lcm (eJ h (gR h 335874582 (gR h 1277446290 a0)) (w32 (a4 + 1))) a2) = 0 then FA cf 110961218 80 [vR a0, vI a1, vJ a2, vX, vI a4] [] h else FA cf 110961218 108 [vR a0, vI a1, vJ a2, vX, vI a4] [] h)))).trans ((gd_t g0).trans ((gd_t g1).trans ((gd_t g2))))
theorem c_X11_priority_80 (cf : Nat → List PV → PH → Rs) (a0 : Nat) (a1 : Int) (a2 : Int) (a4 : Int) (h : PH) (g0 : inT 36 36 (hc h a0)) : FA cf 110961218 80 [vR a0, vI a1, vJ a2, vX, vI a4] [] h = bnd (cf 103096898 [vR a0, vI (w32 (a4 + 3))] h) (fun v h' => FA cf 110961218 88 [vR a0, vI a1, vJ a2, vX, vI a4] (pu v []) h') := ((FA_ex cf 110961218 5 _ _ _ _).trans rfl : FA cf 110961218 80 [vR a0, vI a1, vJ a2, vX, vI a4] [] h = gd (inT 36 36 (hc h a0)) (bnd (cf 103096898 [vR a0, vI (w32 (a4 + 3))] h) (fun v h' => FA cf 110961218 88 [vR a0, vI a1, vJ a2, vX, vI a4] (pu v []) h'))).trans ((gd_t g0))
theorem c_X11_priority_88 (cf : Nat → List PV → PH → Rs) (a0 : Nat) (a1 : Int) (a2 : Int) (a4 : Int) (s0 : Nat) (h : PH) : FA cf 110961218 88 [vR a0, vI a1, vJ a2, vX, vI a4] [vR s0] h = if s0 = (gR h 3640655874 0) then FA cf 110961218 94 [vR a0, vI a1, vJ a2, vX, vI a4] [] h else FA cf 110961218 108 [vR a0, vI a1, vJ a2, vX, vI a4] [] h := (FA_ex cf 110961218 2 _ _ _ _).trans rfl
theorem c_X11_priority_94 (cf : Nat → List PV → PH → Rs) (a0 : Nat) (a1 : Int) (a2 : Int) (a4 : Int) (h : PH) (g0 : inT 36 36 (hc h a0)) (g1 : inT 5 5 (hc h (gR h 1277446290 a0))) (g2 : (hc h (gR h 335874582 (gR h 1277446290 a0))) = 66 ∧ inA (w32 (a4 + 3)) (hl h (gR h 335874582 (gR h 1277446290 a0)))) : FA cf 110961218 94 [vR a0, vI a1, vJ a2, vX, vI a4] [] h = some (.inl (some (vI (w32 (eJ h (gR h 335874582 (gR h 1277446290 a0)) (w32 (a4 + 3)))))), h) := ((FA_ex cf 110961218 9 _ _ _ _).trans rfl : FA cf 110961218 94 [vR a0, vI a1, vJ a2, vX, vI a4] [] h = gd (inT 36 36 (hc h a0)) (gd (inT 5 5 (hc h (gR h 1277446290 a0))) (gd ((hc h (gR h 335874582 (gR h 1277446290 a0))) = 66 ∧ inA (w32 (a4 + 3)) (hl h (gR h 335874582 (gR h 1277446290 a0)))) (some (.inl (some (vI (w32 (eJ h (gR h 335874582 (gR h 1277446290 a0)) (w32 (a4 + 3)))))), h))))).trans ((gd_t g0).trans ((gd_t g1).trans ((gd_t g2))))
theorem c_X11_priority_108 (cf : Nat → List PV → PH → Rs) (a0 : Nat) (a1 : Int) (a2 : Int) (a4 : Int) (h : PH) : FA cf 110961218 108 [vR a0, vI a1, vJ a2, vX, vI a4] [] h = FA cf 110961218 24 [vR a0, vI a1, vJ a2, vX, vI (w32 (a4 + 1))] [] h := (FA_ex cf 110961218 2 _ _ _ _).trans rfl
theorem c_X11_priority_114 (cf : Nat → List PV → PH → Rs) (a0 : Nat) (a1 : Int) (a2 : Int) (a4 : Int) (h : PH) : FA cf 110961218 114 [vR a0, vI a1, vJ a2, vX, vI a4] [] h = some (.inl (some (vI 5)), h) := (FA_ex cf 110961218 2 _ _ _ _).trans rfl
theorem c_X11_priority_116 (cf : Nat → List PV → PH → Rs) (a0 : Nat) (a1 : Int) (a2 : Int) (a4 : PV) (h : PH) : FA cf 110961218 116 [vR a0, vI a1, vJ a2, vX, a4] [] h = if (lcm a2 (33)) = 0 then FA cf 110961218 124 [vR a0, vI a1, vJ a2, vX, a4] [] h else FA cf 110961218 126 [vR a0, vI a1, vJ a2, vX, a4] [] h := (FA_ex cf 110961218 4 _ _ _ _).trans rfl
theorem c_X11_priority_124 (cf : Nat → List PV → PH → Rs) (a0 : Nat) (a1 : Int) (a2 : Int) (a4 : PV) (h : PH) : FA cf 110961218 124 [vR a0, vI a1, vJ a2, vX, a4] [] h = some (.inl (some (vI 2)), h) := (FA_ex cf 110961218 2 _ _ _ _).trans rfl
theorem c_X11_priority_126 (cf : Nat → List PV → PH → Rs) (a0 : Nat) (a1 : Int) (a2 : Int) (a4 : PV) (h : PH) : FA cf 110961218 126 [vR a0, vI a1, vJ a2, vX, a4] [] h = if (lcm a2 (38)) = 0 then FA cf 110961218 134 [vR a0, vI a1, vJ a2, vX, a4] [] h else FA cf 110961218 136 [vR a0, vI a1, vJ a2, vX, a4] [] h := (FA_ex cf 110961218 4 _ _ _ _).trans rfl
theorem c_X11_priority_134 (cf : Nat → List PV → PH → Rs) (a0 : Nat) (a1 : Int) (a2 : Int) (a4 : PV) (h : PH) : FA cf 110961218 134 [vR a0, vI a1, vJ a2, vX, a4] [] h = some (.inl (some (vI 3)), h) := (FA_ex cf 110961218 2 _ _ _ _).trans rfl
theorem c_X11_priority_136 (cf : Nat → List PV → PH → Rs) (a0 : Nat) (a1 : Int) (a2 : Int) (a4 : PV) (h : PH) : FA cf 110961218 136 [vR a0, vI a1, vJ a2, vX, a4] [] h = if (lcm a2 (61)) = 0 then FA cf 110961218 152 [vR a0, vI a1, vJ a2, vX, a4] [] h else FA cf 110961218 144 [vR a0, vI a1, vJ a2, vX, a4] [] h := (FA_ex cf 110961218 4 _ _ _ _).trans rfl
theorem c_X11_priority_144 (cf : Nat → List PV → PH → Rs) (a0 : Nat) (a1 : Int) (a2 : Int) (a4 : PV) (h : PH) : FA cf 110961218 144 [vR a0, vI a1, vJ a2, vX, a4] [] h = if (lcm a2 (15663)) = 0 then FA cf 110961218 152 [vR a0, vI a1, vJ a2, vX, a4] [] h else FA cf 110961218 154 [vR a0, vI a1, vJ a2, vX, a4] [] h := (FA_ex cf 110961218 4 _ _ _ _).trans rfl
theorem c_X11_priority_152 (cf : Nat → List PV → PH → Rs) (a0 : Nat) (a1 : Int) (a2 : Int) (a4 : PV) (h : PH) : FA cf 110961218 152 [vR a0, vI a1, vJ a2, vX, a4] [] h = some (.inl (some (vI 4)), h) := (FA_ex cf 110961218 2 _ _ _ _).trans rfl
theorem c_X11_priority_154 (cf : Nat → List PV → PH → Rs) (a0 : Nat) (a1 : Int) (a2 : Int) (a4 : PV) (h : PH) : FA cf 110961218 154 [vR a0, vI a1, vJ a2, vX, a4] [] h = if (lcm a2 (43)) = 0 then FA cf 110961218 170 [vR a0, vI a1, vJ a2, vX, a4] [] h else FA cf 110961218 162 [vR a0, vI a1, vJ a2, vX, a4] [] h := (FA_ex cf 110961218 4 _ _ _ _).trans rfl
theorem c_X11_priority_162 (cf : Nat → List PV → PH → Rs) (a0 : Nat) (a1 : Int) (a2 : Int) (a4 : PV) (h : PH) : FA cf 110961218 162 [vR a0, vI a1, vJ a2, vX, a4] [] h = if (lcm a2 (45)) = 0 then FA cf 110961218 170 [vR a0, vI a1, vJ a2, vX, a4] [] h else FA cf 110961218 173 [vR a0, vI a1, vJ a2, vX, a4] [] h := (FA_ex cf 110961218 4 _ _ _ _).trans rfl
theorem c_X11_priority_170 (cf : Nat → List PV → PH → Rs) (a0 : Nat) (a1 : Int) (a2 : Int) (a4 : PV) (h : PH) : FA cf 110961218 170 [vR a0, vI a1, vJ a2, vX, a4] [] h = some (.inl (some (vI 6)), h) := (FA_ex cf 110961218 2 _ _ _ _).trans rfl
theorem c_X11_priority_173 (cf : Nat → List PV → PH → Rs) (a0 : Nat) (a1 : Int) (a2 : Int) (a4 : PV) (h : PH) : FA cf 110961218 173 [vR a0, vI a1, vJ a2, vX, a4] [] h = if (lcm a2 (42)) = 0 then FA cf 110961218 197 [vR a0, vI a1, vJ a2, vX, a4] [] h else FA cf 110961218 181 [vR a0, vI a1, vJ a2, vX, a4] [] h := (FA_ex cf 110961218 4 _ _ _ _).trans rfl
theorem c_X11_priority_181 (cf : Nat → List PV → PH → Rs) (a0 : Nat) (a1 : Int) (a2 : Int) (a4 : PV) (h : PH) : FA cf 110961218 181 [vR a0, vI a1, vJ a2, vX, a4] [] h = if (lcm a2 (47)) = 0 then FA cf 110961218 197 [vR a0, vI a1, vJ a2, vX, a4] [] h else FA cf 110961218 189 [vR a0, vI a1, vJ a2, vX, a4] [] h := (FA_ex cf 110961218 4 _ _ _ _).trans rfl
theorem c_X11_priority_189 (cf : Nat → List PV → PH → Rs) (a0 : Nat) (a1 : Int) (a2 : Int) (a4 : PV) (h : PH) : FA cf 110961218 189 [vR a0, vI a1, vJ a2, vX, a4] [] h = if (lcm a2 (37)) = 0 then FA cf 110961218 197 [vR a0, vI a1, vJ a2, vX, a4] [] h else FA cf 110961218 202 [vR a0, vI a1, vJ a2, vX, a4] [] h := (FA_ex cf 110961218 4 _ _ _ _).trans rfl
theorem c_X11_priority_197 (cf : Nat → List PV → PH → Rs) (a0 : Nat) (a1 : Int) (a2 : Int) (a4 : PV) (h : PH) : FA cf 110961218 197 [vR a0, vI a1, vJ a2, vX, a4] [] h = FA cf 110961218 203 [vR a0, vI a1, vJ a2, vX, a4] [vI 7] h := (FA_ex cf 110961218 2 _ _ _ _).trans rfl
theorem c_X11_priority_202 (cf : Nat → List PV → PH → Rs) (a0 : Nat) (a1 : Int) (a2 : Int) (a4 : PV) (h : PH) : FA cf 110961218 202 [vR a0, vI a1, vJ a2, vX, a4] [] h = FA cf 110961218 203 [vR a0, vI a1, vJ a2, vX, a4] [vI 5] h := (FA_ex cf 110961218 1 _ _ _ _).trans rfl
theorem c_X11_priority_203 (cf : Nat → List PV → PH → Rs) (a0 : Nat) (a1 : Int) (a2 : Int) (a4 : PV) (s0 : Int) (h : PH) : FA cf 110961218 203 [vR a0, vI a1, vJ a2, vX, a4] [vI s0] h = some (.inl (some (vI s0)), h) := (FA_ex cf 110961218 1 _ _ _ _).trans rfl
section XU
variable {h : PH} {p lx : Nat} {l : List TokE} {t o : Nat}
/-- what PRIO tells of a word, from i on: x's way -/
abbrev pcX (l : List TokE) (w : Int) (i : Nat) : Prop := (kd l i = 1 ∧ sI l i = 1) ∧ kd l (i + 1) = 2 ∧ wd l (i + 1) = w ∧ kd l (i + 3) = 4
def pfX (l : List TokE) (w : Int) : Nat → Nat → Int
  | 0, _ => 5
  | n + 1, i => if pcX l w i then sI l (i + 3) else pfX l w n (i + 1)
def psn (c : Int) : Int := if c = 33 then 2 else if c = 38 then 3 else if c = 61 ∨ c = 301 then 4 else if c = 43 ∨ c = 45 then 6 else if c = 42 ∨ c = 47 ∨ c = 37 then 7 else 5
def prX (l : List TokE) (k : Nat) : Int := if kd l k = 2 then pfX l (wd l k) (xc l - 3) 0 else psn (sI l k)
theorem xw_psn : ∀ x ∈ snL, (xw x = 33 ↔ x = 33) ∧ (xw x = 38 ↔ x = 38) ∧ (xw x = 61 ↔ x = 61) ∧ (xw x = 15663 ↔ x = 301) ∧ (xw x = 43 ↔ x = 43) ∧ (xw x = 45 ↔ x = 45) ∧ (xw x = 42 ↔ x = 42) ∧ (xw x = 47 ↔ x = 47) ∧ (xw x = 37 ↔ x = 37) := by decide +kernel
theorem tokNum {e : TokE} (ok : TokOK e) (h4 : e.1 = 4) : w32 e.2.2.1 = e.2.2.1 := by
  obtain ⟨-, ok⟩ := ok
  rw [h4] at ok
  exact w32_id (by omega) (by omega)
theorem f_priority (d : Nat) (X : PXs h p lx l t o) {k : Nat} (hk : k < xc l) (hq : isOp l k) : F (d + 7) 110961218 [vR p, vI k] h = some (.inl (some (vI (prX l k))), h) := by
  have C := X.c
  have hn := X.x.n
  obtain ⟨g1, w1⟩ := X.wt (k := k) hk
  have hcnt : gI h 344263188 (gR h 1277446290 p) = xc l := by rw [X.2.1]; exact X.x.2.2.2.2.1
  rw [e_X11_priority, c_X11_priority_0 _ _ _ _ _ _ _ X.g X.gl g1, f_kind (d + 4) X hk, bnd_v, pu_s, c_X11_priority_15]
  unfold prX
  by_cases q : kd l k = 2
  · clear hq
    have e5 : xwo (kd l k) (sI l k) (wd l k) = wd l k := if_pos (Or.inr (Or.inl q))
    rw [if_pos ((xk_is C (by decide)).mpr (xkF_2.mpr q)), if_pos q, c_X11_priority_21, w1, e5]
    clear w1 e5 g1
    have loop : ∀ n i : Nat, n = xc l - 3 - i → i ≤ xc l → FA (F (d + 6)) 110961218 24 [vR p, vI k, vJ (wd l k), vX, vI i] [] h = some (.inl (some (vI (pfX l (wd l k) n i))), h) := by
      intro n
      induction n with
      | zero =>
        intro i e hi
        rw [c_X11_priority_24 _ _ _ _ _ _ X.g X.gl, hcnt, w32_id (by omega) (by omega), if_neg (by omega), c_X11_priority_114]
        rfl
      | succ n ih =>
        intro i e hi
        have hi3 : i + 3 < xc l := by omega
        have e3 : w32 ((i : Int) + 3) = ((i + 3 : Nat) : Int) := (w32_id (x := (i : Int) + 3) (by omega) (by omega)).trans (by omega)
        have e1 : w32 ((i : Int) + 1) = ((i + 1 : Nat) : Int) := w32_1 (by omega)
        have no : ¬ pcX l (wd l k) i → FA (F (d + 6)) 110961218 108 [vR p, vI k, vJ (wd l k), vX, vI i] [] h = some (.inl (some (vI (pfX l (wd l k) (n + 1) i))), h) := by
          intro z
          rw [c_X11_priority_108, e1, ih (i + 1) (by omega) (by omega)]
          conv => rhs; unfold pfX
          rw [if_neg z]
        rw [c_X11_priority_24 _ _ _ _ _ _ X.g X.gl, hcnt, e3, if_pos (by omega), c_X11_priority_38 _ _ _ _ _ _ X.g, f_isWord2 d X (k := i) (by omega) (sf := 3682598914) (w := 1) (by decide), bnd_v, pu_s, c_X11_priority_46]
        by_cases y1 : kd l i = 1 ∧ sI l i = 1
        · rw [if_neg (fun z => b01_0.mp z y1), c_X11_priority_49 _ _ _ _ _ _ X.g, e1, f_kind (d + 4) X (k := i + 1) (by omega), bnd_v, pu_s, c_X11_priority_57]
          by_cases y2 : kd l (i + 1) = 2
          · obtain ⟨g2, w2⟩ := X.wt (k := i + 1) (by omega)
            have e6 : xwo (kd l (i + 1)) (sI l (i + 1)) (wd l (i + 1)) = wd l (i + 1) := if_pos (Or.inr (Or.inl y2))
            rw [if_pos ((xk_is C (by decide)).mpr (xkF_2.mpr y2)), c_X11_priority_63 _ _ _ _ _ _ X.g X.gl (by rw [e1]; exact g2), e1, w2, e6]
            by_cases y3 : wd l (i + 1) = wd l k
            · rw [if_pos ((lcm_eq _ _).mpr y3), c_X11_priority_80 _ _ _ _ _ _ X.g, e3, f_kind (d + 4) X (k := i + 3) hi3, bnd_v, pu_s, c_X11_priority_88]
              by_cases y4 : kd l (i + 3) = 4
              · obtain ⟨g3, w3⟩ := X.wt (k := i + 3) hi3
                have ok := X.tok hi3
                have e7 : xwo (kd l (i + 3)) (sI l (i + 3)) (wd l (i + 3)) = sI l (i + 3) := by
                  unfold xwo
                  rw [if_neg (by omega), if_pos y4]
                have e8 : w32 (sI l (i + 3)) = sI l (i + 3) := tokNum ok y4
                rw [if_pos ((xk_is C (by decide)).mpr (xkF_4.mpr y4)), c_X11_priority_94 _ _ _ _ _ _ X.g X.gl (by rw [e3]; exact g3), e3, w3, e7, e8]
                unfold pfX
                rw [if_pos ⟨y1, y2, y3, y4⟩]
              · rw [if_neg (fun z => y4 (xkF_4.mp ((xk_is C (by decide)).mp z))), no (fun z => y4 z.2.2.2)]
            · rw [if_neg (fun z => y3 ((lcm_eq _ _).mp z)), no (fun z => y3 z.2.2.1)]
          · rw [if_neg (fun z => y2 (xkF_2.mp ((xk_is C (by decide)).mp z))), no (fun z => y2 z.2.1)]
        · rw [if_pos (b01_0.mpr y1), no (fun z => y1 z.1)]
    exact loop (xc l - 3) 0 (by omega) (by omega)
  · have q5 : kd l k = 5 ∧ sI l k ∈ snL := hq.resolve_right (fun z => q z.1)
    obtain ⟨s1, s2, s3, s4, s5, s6, s7, s8, s9⟩ := xw_psn _ q5.2
    rw [if_neg (fun z => q (xkF_2.mp ((xk_is C (by decide)).mp z))), if_neg q, w1, xwo_op q5.1]
    rw [c_X11_priority_116]
    by_cases a33 : sI l k = 33
    · rw [if_pos ((lcm_eq _ _).mpr (s1.mpr a33)), c_X11_priority_124, a33]
      rfl
    rw [if_neg (fun z => a33 (s1.mp ((lcm_eq _ _).mp z)))]
    rw [c_X11_priority_126]
    by_cases a38 : sI l k = 38
    · rw [if_pos ((lcm_eq _ _).mpr (s2.mpr a38)), c_X11_priority_134, a38]
      rfl
    rw [if_neg (fun z => a38 (s2.mp ((lcm_eq _ _).mp z)))]
    rw [c_X11_priority_136]
    by_cases a61 : sI l k = 61
    · rw [if_pos ((lcm_eq _ _).mpr (s3.mpr a61)), c_X11_priority_152, a61]
      rfl
    rw [if_neg (fun z => a61 (s3.mp ((lcm_eq _ _).mp z)))]
    rw [c_X11_priority_144]
    by_cases a301 : sI l k = 301
    · rw [if_pos ((lcm_eq _ _).mpr (s4.mpr a301)), c_X11_priority_152, a301]
      rfl
    rw [if_neg (fun z => a301 (s4.mp ((lcm_eq _ _).mp z)))]
    rw [c_X11_priority_154]
    by_cases a43 : sI l k = 43
    · rw [if_pos ((lcm_eq _ _).mpr (s5.mpr a43)), c_X11_priority_170, a43]
      rfl
    rw [if_neg (fun z => a43 (s5.mp ((lcm_eq _ _).mp z)))]
    rw [c_X11_priority_162]
    by_cases a45 : sI l k = 45
    · rw [if_pos ((lcm_eq _ _).mpr (s6.mpr a45)), c_X11_priority_170, a45]
      rfl
    rw [if_neg (fun z => a45 (s6.mp ((lcm_eq _ _).mp z)))]
    rw [c_X11_priority_173]
    by_cases a42 : sI l k = 42
    · rw [if_pos ((lcm_eq _ _).mpr (s7.mpr a42)), c_X11_priority_197, c_X11_priority_203, a42]
      rfl
    rw [if_neg (fun z => a42 (s7.mp ((lcm_eq _ _).mp z)))]
    rw [c_X11_priority_181]
    by_cases a47 : sI l k = 47
    · rw [if_pos ((lcm_eq _ _).mpr (s8.mpr a47)), c_X11_priority_197, c_X11_priority_203, a47]
      rfl
    rw [if_neg (fun z => a47 (s8.mp ((lcm_eq _ _).mp z)))]
    rw [c_X11_priority_189]
    by_cases a37 : sI l k = 37
    · rw [if_pos ((lcm_eq _ _).mpr (s9.mpr a37)), c_X11_priority_197, c_X11_priority_203, a37]
      rfl
    rw [if_neg (fun z => a37 (s9.mp ((lcm_eq _ _).mp z)))]
    clear hq
    have e9 : psn (sI l k) = 5 := by
      unfold psn
      rw [if_neg a33, if_neg a38, if_neg (by omega), if_neg (by omega), if_neg (by omega)]
    rw [c_X11_priority_202, c_X11_priority_203, e9]
end XU
