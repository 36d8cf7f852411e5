/-! x's CONSTRUCTOR: its machines -/
set_option maxRecDepth 100000
set_option maxHeartbeats 1000000
theorem e_X7_init (d : Nat) (a0 : Nat) (h : PH) : F (d + 1) 25702497 [vR a0] h = FA (F d) 25702497 0 [vR a0, vX] [] h := rfl
theorem c_X7_init_0 (cf : Nat → List PV → PH → Rs) (a0 : Nat) (a1 : PV) (h : PH) (g0 : 0 < (hc h a0)) (g1 : rmO h 4) (g2 : inT 10 10 (hc (nO h 10 4) (hn h))) : FA cf 25702497 0 [vR a0, a1] [] h = bnd (cf 18632865 [vR (hn h)] (nO h 10 4)) (fun v h' => FA cf 25702497 12 [vR a0, a1] (pu v [vR (hn h), vR a0]) h') := ((FA_ex cf 25702497 6 _ _ _ _).trans rfl : FA cf 25702497 0 [vR a0, a1] [] h = gd (0 < (hc h a0)) (gd (rmO h 4) (gd (inT 10 10 (hc (nO h 10 4) (hn h))) (bnd (cf 18632865 [vR (hn h)] (nO h 10 4)) (fun v h' => FA cf 25702497 12 [vR a0, a1] (pu v [vR (hn h), vR a0]) h'))))).trans ((gd_t g0).trans ((gd_t g1).trans ((gd_t g2))))
theorem c_X7_init_12 (cf : Nat → List PV → PH → Rs) (a0 : Nat) (a1 : PV) (s0 : Nat) (s1 : Nat) (h : PH) (g0 : inT 6 6 (hc h s1)) (g1 : rmO h 3) (g2 : inT 48 48 (hc (nO (pR h 369495066 s1 s0) 48 3) (hn h))) : FA cf 25702497 12 [vR a0, a1] [vR s0, vR s1] h = bnd (cf 164725505 [vR (hn h)] (nO (pR h 369495066 s1 s0) 48 3)) (fun v h' => FA cf 25702497 23 [vR a0, a1] (pu v [vR (hn h), vR a0]) h') := ((FA_ex cf 25702497 5 _ _ _ _).trans rfl : FA cf 25702497 12 [vR a0, a1] [vR s0, vR s1] h = gd (inT 6 6 (hc h s1)) (gd (rmO h 3) (gd (inT 48 48 (hc (nO (pR h 369495066 s1 s0) 48 3) (hn h))) (bnd (cf 164725505 [vR (hn h)] (nO (pR h 369495066 s1 s0) 48 3)) (fun v h' => FA cf 25702497 23 [vR a0, a1] (pu v [vR (hn h), vR a0]) h'))))).trans ((gd_t g0).trans ((gd_t g1).trans ((gd_t g2))))
theorem c_X7_init_23 (cf : Nat → List PV → PH → Rs) (a0 : Nat) (a1 : PV) (s0 : Nat) (s1 : Nat) (h : PH) (g0 : inT 6 6 (hc h s1)) (g1 : rmO h 3) (g2 : inT 48 48 (hc (nO (pR h 377883674 s1 s0) 48 3) (hn h))) : FA cf 25702497 23 [vR a0, a1] [vR s0, vR s1] h = bnd (cf 164725505 [vR (hn h)] (nO (pR h 377883674 s1 s0) 48 3)) (fun v h' => FA cf 25702497 34 [vR a0, a1] (pu v [vR (hn h), vR a0]) h') := ((FA_ex cf 25702497 5 _ _ _ _).trans rfl : FA cf 25702497 23 [vR a0, a1] [vR s0, vR s1] h = gd (inT 6 6 (hc h s1)) (gd (rmO h 3) (gd (inT 48 48 (hc (nO (pR h 377883674 s1 s0) 48 3) (hn h))) (bnd (cf 164725505 [vR (hn h)] (nO (pR h 377883674 s1 s0) 48 3)) (fun v h' => FA cf 25702497 34 [vR a0, a1] (pu v [vR (hn h), vR a0]) h'))))).trans ((gd_t g0).trans ((gd_t g1).trans ((gd_t g2))))
theorem c_X7_init_34 (cf : Nat → List PV → PH → Rs) (a0 : Nat) (a1 : PV) (s0 : Nat) (s1 : Nat) (h : PH) (g0 : inT 6 6 (hc h s1)) (g1 : rmO h 3) (g2 : inT 48 48 (hc (nO (pR h 394660890 s1 s0) 48 3) (hn h))) : FA cf 25702497 34 [vR a0, a1] [vR s0, vR s1] h = bnd (cf 164725505 [vR (hn h)] (nO (pR h 394660890 s1 s0) 48 3)) (fun v h' => FA cf 25702497 45 [vR a0, a1] (pu v [vR (hn h), vR a0]) h') := ((FA_ex cf 25702497 5 _ _ _ _).trans rfl : FA cf 25702497 34 [vR a0, a1] [vR s0, vR s1] h = gd (inT 6 6 (hc h s1)) (gd (rmO h 3) (gd (inT 48 48 (hc (nO (pR h 394660890 s1 s0) 48 3) (hn h))) (bnd (cf 164725505 [vR (hn h)] (nO (pR h 394660890 s1 s0) 48 3)) (fun v h' => FA cf 25702497 45 [vR a0, a1] (pu v [vR (hn h), vR a0]) h'))))).trans ((gd_t g0).trans ((gd_t g1).trans ((gd_t g2))))
theorem c_X7_init_45 (cf : Nat → List PV → PH → Rs) (a0 : Nat) (a1 : PV) (s0 : Nat) (s1 : Nat) (h : PH) (g0 : inT 6 6 (hc h s1)) : FA cf 25702497 45 [vR a0, a1] [vR s0, vR s1] h = FA cf 25702497 48 [vR a0, a1] [] (pR h 411438106 s1 s0) := ((FA_ex cf 25702497 1 _ _ _ _).trans rfl : FA cf 25702497 45 [vR a0, a1] [vR s0, vR s1] h = gd (inT 6 6 (hc h s1)) (FA cf 25702497 48 [vR a0, a1] [] (pR h 411438106 s1 s0))).trans ((gd_t g0))
theorem c_X7_init_48 (cf : Nat → List PV → PH → Rs) (a0 : Nat) (a1 : PV) (h : PH) (g0 : rmA h 41) (g1 : inT 6 6 (hc (nA h 74 41) a0)) : FA cf 25702497 48 [vR a0, a1] [] h = FA cf 25702497 57 [vR a0, a1] [] (pR (nA h 74 41) 428215322 a0 (hn h)) := ((FA_ex cf 25702497 4 _ _ _ _).trans rfl : FA cf 25702497 48 [vR a0, a1] [] h = gd (rmA h 41) (gd (inT 6 6 (hc (nA h 74 41) a0)) (FA cf 25702497 57 [vR a0, a1] [] (pR (nA h 74 41) 428215322 a0 (hn h))))).trans ((gd_t g0).trans ((gd_t g1)))
theorem c_X7_init_57 (cf : Nat → List PV → PH → Rs) (a0 : Nat) (a1 : PV) (h : PH) (g0 : rmA h 200) (g1 : inT 6 6 (hc (nA h 66 200) a0)) : FA cf 25702497 57 [vR a0, a1] [] h = FA cf 25702497 66 [vR a0, a1] [] (pR (nA h 66 200) 486935578 a0 (hn h)) := ((FA_ex cf 25702497 4 _ _ _ _).trans rfl : FA cf 25702497 57 [vR a0, a1] [] h = gd (rmA h 200) (gd (inT 6 6 (hc (nA h 66 200) a0)) (FA cf 25702497 66 [vR a0, a1] [] (pR (nA h 66 200) 486935578 a0 (hn h))))).trans ((gd_t g0).trans ((gd_t g1)))
theorem c_X7_init_66 (cf : Nat → List PV → PH → Rs) (a0 : Nat) (a1 : PV) (h : PH) (g0 : rmA h 200) (g1 : inT 6 6 (hc (nA h 67 200) a0)) : FA cf 25702497 66 [vR a0, a1] [] h = FA cf 25702497 75 [vR a0, a1] [] (pR (nA h 67 200) 495324186 a0 (hn h)) := ((FA_ex cf 25702497 4 _ _ _ _).trans rfl : FA cf 25702497 66 [vR a0, a1] [] h = gd (rmA h 200) (gd (inT 6 6 (hc (nA h 67 200) a0)) (FA cf 25702497 75 [vR a0, a1] [] (pR (nA h 67 200) 495324186 a0 (hn h))))).trans ((gd_t g0).trans ((gd_t g1)))
theorem c_X7_init_75 (cf : Nat → List PV → PH → Rs) (a0 : Nat) (a1 : PV) (h : PH) (g0 : rmA h 24008) (g1 : inT 6 6 (hc (nA h 67 24008) a0)) : FA cf 25702497 75 [vR a0, a1] [] h = FA cf 25702497 84 [vR a0, a1] [] (pR (nA h 67 24008) 554044442 a0 (hn h)) := ((FA_ex cf 25702497 4 _ _ _ _).trans rfl : FA cf 25702497 75 [vR a0, a1] [] h = gd (rmA h 24008) (gd (inT 6 6 (hc (nA h 67 24008) a0)) (FA cf 25702497 84 [vR a0, a1] [] (pR (nA h 67 24008) 554044442 a0 (hn h))))).trans ((gd_t g0).trans ((gd_t g1)))
theorem c_X7_init_84 (cf : Nat → List PV → PH → Rs) (a0 : Nat) (a1 : PV) (h : PH) (g0 : rmA h 24008) (g1 : inT 6 6 (hc (nA h 67 24008) a0)) : FA cf 25702497 84 [vR a0, a1] [] h = FA cf 25702497 93 [vR a0, a1] [] (pR (nA h 67 24008) 562433050 a0 (hn h)) := ((FA_ex cf 25702497 4 _ _ _ _).trans rfl : FA cf 25702497 84 [vR a0, a1] [] h = gd (rmA h 24008) (gd (inT 6 6 (hc (nA h 67 24008) a0)) (FA cf 25702497 93 [vR a0, a1] [] (pR (nA h 67 24008) 562433050 a0 (hn h))))).trans ((gd_t g0).trans ((gd_t g1)))
theorem c_X7_init_93 (cf : Nat → List PV → PH → Rs) (a0 : Nat) (a1 : PV) (h : PH) (g0 : rmO h 8) (g1 : inT 44 44 (hc (nO h 44 8) (hn h))) : FA cf 25702497 93 [vR a0, a1] [] h = bnd (cf 36004547 [vR (hn h), vI 0, vI 0] (nO h 44 8)) (fun v h' => FA cf 25702497 103 [vR a0, a1] (pu v [vR (hn h), vR a0]) h') := ((FA_ex cf 25702497 6 _ _ _ _).trans rfl : FA cf 25702497 93 [vR a0, a1] [] h = gd (rmO h 8) (gd (inT 44 44 (hc (nO h 44 8) (hn h))) (bnd (cf 36004547 [vR (hn h), vI 0, vI 0] (nO h 44 8)) (fun v h' => FA cf 25702497 103 [vR a0, a1] (pu v [vR (hn h), vR a0]) h')))).trans ((gd_t g0).trans ((gd_t g1)))
theorem c_X7_init_103 (cf : Nat → List PV → PH → Rs) (a0 : Nat) (a1 : PV) (s0 : Nat) (s1 : Nat) (h : PH) (g0 : inT 6 6 (hc h s1)) : FA cf 25702497 103 [vR a0, a1] [vR s0, vR s1] h = FA cf 25702497 108 [vR a0, vI 0] [] (pR h 587598874 s1 s0) := ((FA_ex cf 25702497 3 _ _ _ _).trans rfl : FA cf 25702497 103 [vR a0, a1] [vR s0, vR s1] h = gd (inT 6 6 (hc h s1)) (FA cf 25702497 108 [vR a0, vI 0] [] (pR h 587598874 s1 s0))).trans ((gd_t g0))
theorem c_X7_init_108 (cf : Nat → List PV → PH → Rs) (a0 : Nat) (a1 : Int) (h : PH) : FA cf 25702497 108 [vR a0, vI a1] [] h = if 40 < a1 then FA cf 25702497 133 [vR a0, vI a1] [] h else FA cf 25702497 114 [vR a0, vI a1] [] h := (FA_ex cf 25702497 3 _ _ _ _).trans rfl
theorem c_X7_init_114 (cf : Nat → List PV → PH → Rs) (a0 : Nat) (a1 : Int) (h : PH) (g0 : inT 6 6 (hc h a0)) (g1 : rmO h 4) (g2 : inT 40 40 (hc (nO h 40 4) (hn h))) : FA cf 25702497 114 [vR a0, vI a1] [] h = bnd (cf 36520577 [vR (hn h)] (nO h 40 4)) (fun v h' => FA cf 25702497 126 [vR a0, vI a1] (pu v [vR (hn h), vI a1, vR (gR h 428215322 a0)]) h') := ((FA_ex cf 25702497 6 _ _ _ _).trans rfl : FA cf 25702497 114 [vR a0, vI a1] [] h = gd (inT 6 6 (hc h a0)) (gd (rmO h 4) (gd (inT 40 40 (hc (nO h 40 4) (hn h))) (bnd (cf 36520577 [vR (hn h)] (nO h 40 4)) (fun v h' => FA cf 25702497 126 [vR a0, vI a1] (pu v [vR (hn h), vI a1, vR (gR h 428215322 a0)]) h'))))).trans ((gd_t g0).trans ((gd_t g1).trans ((gd_t g2))))
theorem c_X7_init_126 (cf : Nat → List PV → PH → Rs) (a0 : Nat) (a1 : Int) (s0 : Nat) (s1 : Int) (s2 : Nat) (h : PH) (g0 : inT 71 75 (hc h s2) ∧ (hc h s2) ≠ 72 ∧ okE h (hc h s2) s0 ∧ inA s1 (hl h s2)) : FA cf 25702497 126 [vR a0, vI a1] [vR s0, vI s1, vR s2] h = FA cf 25702497 108 [vR a0, vI (w32 (a1 + 1))] [] (qR h s2 s1 s0) := ((FA_ex cf 25702497 3 _ _ _ _).trans rfl : FA cf 25702497 126 [vR a0, vI a1] [vR s0, vI s1, vR s2] h = gd (inT 71 75 (hc h s2) ∧ (hc h s2) ≠ 72 ∧ okE h (hc h s2) s0 ∧ inA s1 (hl h s2)) (FA cf 25702497 108 [vR a0, vI (w32 (a1 + 1))] [] (qR h s2 s1 s0))).trans ((gd_t g0))
theorem c_X7_init_133 (cf : Nat → List PV → PH → Rs) (a0 : Nat) (a1 : Int) (h : PH) : FA cf 25702497 133 [vR a0, vI a1] [] h = some (.inl none, h) := (FA_ex cf 25702497 1 _ _ _ _).trans rfl
section XMa
variable {h g : PH} {u : Nat}
/-- what a step leaves of an object k, but for a field f -/
def KeepF (g g2 : PH) (k f : Nat) : Prop := (∀ f', gI g2 f' k = gI g f' k) ∧ (∀ f', gJ g2 f' k = gJ g f' k) ∧ (∀ f', f' ≠ f → gR g2 f' k = gR g f' k) ∧ hc g2 k = hc g k
theorem fl_step (d : Nat) {k f w : Nat} (E : Ev W0 u h g) (hk0 : hn h ≤ k) (kg : k < hn g) (c6 : hc g k = 6) (hf : f ≠ eD) : ∃ g2, F (d + 3) 164725505 [vR (hn g)] (nO (pR g f k w) 48 3) = some (.inl none, g2) ∧ Ev W0 (u + 1) h g2 ∧ Ev (· = k) 1 g g2 ∧ gR g2 f k = w ∧ KeepF g g2 k f ∧ AL g2 (hn g) [] ∧ hn g2 = hn g + 1 := by
  have e1 : Ev W0 u h (pR g f k w) := E.cR (Or.inr hk0) (by rw [c6]; rfl) hf
  have e1' : Ev (· = k) 0 g (pR g f k w) := (Ev.rf E.2.2.1).cR (Or.inl rfl) (by rw [c6]; rfl) hf
  obtain ⟨g2, a1, a2, a3, a4⟩ := f_list0 d e1.2.2.1
  have S := a2.ob (q := k) kg (fun z => z) (by show hc g k ≠ 71; rw [c6]; decide)
  refine ⟨g2, a1, e1.tr a2 (fun _ _ z => z), ?_, ?_, ⟨fun f' => S.2.2.1 f', fun f' => S.2.2.2.1 f', fun f' hf' => ?_, S.1⟩, a3, a4⟩
  · have := e1'.tr (a2.mono (W' := (· = k)) (fun _ _ z => z.elim) (Nat.le_refl _)) (fun _ _ z => z)
    rw [Nat.zero_add] at this
    exact this
  · rw [S.2.2.2.2.1]; exact if_pos ⟨rfl, rfl⟩
  · rw [S.2.2.2.2.1, rR_pR, if_neg (fun z => hf' z.1)]
/-- a machine of x, as its constructor leaves it -/
def MachAt (h : PH) (k : Nat) : Prop := hc h k = 6 ∧ (∀ f, gI h f k = 0) ∧ (∀ f, gJ h f k = 0) ∧ gR h 436603930 k = 0 ∧ gR h 444992538 k = 0 ∧ (gR h 369495066 k = k + 1 ∧ ModesAt h (k + 1)) ∧ (gR h 377883674 k = k + 5 ∧ AL h (k + 5) []) ∧ (gR h 394660890 k = k + 6 ∧ AL h (k + 6) []) ∧ (gR h 411438106 k = k + 7 ∧ AL h (k + 7) []) ∧ (gR h 428215322 k = k + 8 ∧ hc h (k + 8) = 74 ∧ hl h (k + 8) = 41) ∧ (gR h 486935578 k = k + 9 ∧ hc h (k + 9) = 66 ∧ hl h (k + 9) = 200) ∧ (gR h 495324186 k = k + 10 ∧ hc h (k + 10) = 67 ∧ hl h (k + 10) = 200) ∧ (gR h 554044442 k = k + 11 ∧ hc h (k + 11) = 67 ∧ hl h (k + 11) = 24008) ∧ (gR h 562433050 k = k + 12 ∧ hc h (k + 12) = 67 ∧ hl h (k + 12) = 24008) ∧ (gR h 587598874 k = k + 13 ∧ hc h (k + 13) = 44) ∧ ∀ i : Nat, i < 41 → eR h (k + 8) i = k + 14 + 2 * i ∧ RangeAt h (k + 14 + 2 * i)
/-- the ranges -/
theorem rng_loop (d : Nat) {k : Nat} (hk0 : hn h ≤ k) : ∀ (n i u : Nat) (g : PH), i + n = 41 → Ev W0 u h g → Room (2 * n) g → hc g k = 6 → gR g 428215322 k = k + 8 → hc g (k + 8) = 74 → hl g (k + 8) = 41 → hn g = k + 14 + 2 * i → (∀ j : Nat, j < i → eR g (k + 8) j = k + 14 + 2 * j ∧ RangeAt g (k + 14 + 2 * j)) → ∃ g', FA (F (d + 1)) 25702497 108 [vR k, vI (i : Int)] [] g = some (.inl none, g') ∧ Ev W0 (u + 2 * n) h g' ∧ Ev (· = k + 8) (2 * n) g g' ∧ hn g' = k + 96 ∧ ∀ j : Nat, j < 41 → eR g' (k + 8) j = k + 14 + 2 * j ∧ RangeAt g' (k + 14 + 2 * j) := by
  intro n
  induction n with
  | zero =>
    intro i u g e E rm c6 r8 c74 l41 hng hr
    have ei : i = 41 := by omega
    subst ei
    refine ⟨g, ?_, E, Ev.rf E.2.2.1, by omega, hr⟩
    rw [c_X7_init_108, if_pos (by decide), c_X7_init_133]
  | succ n ih =>
    intro i u g e E rm c6 r8 c74 l41 hng hr
    have I := E.2.2.1
    obtain ⟨g2, a1, a2, a3, a4⟩ := f_newRange d I (rm.le (by omega))
    have kl : k < hn g := by omega
    have k8 : k + 8 < hn g := by omega
    have S := a2.ob (q := k) kl (fun z => z) (by rw [c6]; decide)
    have S8 := a2.ob (q := k + 8) k8 (fun z => z) (by rw [c74]; decide)
    have c74' : hc g2 (k + 8) = 74 := S8.1.trans c74
    have e3 : Ev (· = k + 8) 2 g (qR g2 (k + 8) (i : Int) (hn g)) := (a2.mono (W' := (· = k + 8)) (fun _ _ z => z.elim) (Nat.le_refl _)).dR (Or.inl rfl) (by rw [c74']; rfl) (fun q hq hw h48 => fun z => by
      have := I.2 q h48
      rw [z] at this
      rcases this with y | ⟨-, ⟨y, -⟩ | ⟨y, -⟩⟩
      · omega
      · rw [c74] at y; cases y
      · have := (I.1.1.2.2.2 (k + 8) (by rw [y]; decide)).2
        rw [c74] at this; cases this)
    have e3' : Ev W0 (u + 2) h (qR g2 (k + 8) (i : Int) (hn g)) := E.tr e3 (fun q hq z => by omega)
    have rm2 : Room (2 * n) (qR g2 (k + 8) (i : Int) (hn g)) := by
      have : Room (2 * n) g2 := (rm.le (u' := 2 + 2 * n) (by omega)).ev a2
      exact this
    obtain ⟨g', b1, b2, b3, b4, b5⟩ := ih (i + 1) (u + 2) (qR g2 (k + 8) (i : Int) (hn g)) (by omega) e3' rm2 (S.1.trans c6) ((S.2.2.2.2.1 _).trans r8) c74' (S8.2.1.trans l41) (by show hn g2 = _; omega) (fun j hj => by
      by_cases z : j = i
      · rw [z]
        refine ⟨?_, ?_⟩
        · rw [sR_qR, if_pos ⟨rfl, rfl⟩]; exact hng
        · rw [← hng]; exact a3
      · obtain ⟨r1, r2⟩ := hr j (by omega)
        refine ⟨?_, ?_⟩
        · rw [sR_qR, if_neg (fun y => z (by have := y.2; omega)), S8.2.2.2.2.2.2.2]; exact r1
        · exact r2.ev e3 I.1 (fun q y1 y2 z => by omega))
    have i41 : ¬ (40 : Int) < (i : Int) := by omega
    have i6 : i < 1000000 := by omega
    unfold Room at rm
    have x1 : hk g < cLim := by omega
    have x2 : hs g + 4 ≤ sLim := by omega
    have g5 : inT 71 75 (hc g2 (k + 8)) ∧ hc g2 (k + 8) ≠ 72 ∧ okE g2 (hc g2 (k + 8)) (hn g) ∧ inA (i : Int) (hl g2 (k + 8)) := by
      rw [c74', S8.2.1, l41]
      exact ⟨by decide, by decide, Or.inr (Or.inr (Or.inr (Or.inl ⟨rfl, a3.1⟩))), by constructor <;> omega⟩
    refine ⟨g', ?_, by rw [show u + 2 * (n + 1) = u + 2 + 2 * n by omega]; exact b2, ?_, b4, b5⟩
    · rw [c_X7_init_108, if_neg i41, c_X7_init_114 _ _ _ _ (i11 c6) ⟨x1, x2⟩ (by rw [hc_nO', if_pos rfl]; decide), a1, bnd_v, pu_n, r8, c_X7_init_126 _ _ _ _ _ _ _ g5, w32_1 i6]
      exact b1
    · rw [show 2 * (n + 1) = 2 + 2 * n by omega]
      exact e3.tr b3 (fun _ _ z => z)
/-- one more array in a field of the machine -/
theorem fa_step (d : Nat) {k f t c : Nat} {n : Int} (E : Ev W0 u h g) (hk0 : hn h ≤ k) (kg : k < hn g) (c6 : hc g k = 6) (hf : f ≠ eD) (ht : 48 < t) (hn0 : n.toNat ≤ 64 * c) (c0 : 0 < c) : Ev W0 (u + c) h (fa g k f t n) ∧ Ev (· = k) c g (fa g k f t n) ∧ hc (nA g t n) k = 6 ∧ KeepF g (fa g k f t n) k f ∧ gR (fa g k f t n) f k = hn g ∧ hc (fa g k f t n) (hn g) = t ∧ hl (fa g k f t n) (hn g) = n ∧ hn (fa g k f t n) = hn g + 1 := by
  obtain ⟨a1, a2, a3, a4, a5, a6, a7, a8⟩ := fa_ok (k := k) (f := f) (t := t) (n := n) (c := c) (tg := 6) E hk0 kg c6 rfl hf ht hn0 c0
  exact ⟨a1, a2, a3, ⟨fun f' => rfl, fun f' => rfl, fun f' hf' => if_neg (fun z => hf' z.1), a4.trans c6.symm⟩, a5, a6, a7, a8⟩
theorem f_rtinit2 (d : Nat) {e : Nat} (I : HI h) (he : hc h e = 44) (hl0 : e < hn h) : ∃ h1, F (d + 3) 176519877 [vR e, vR 0, vR 0, vI 0, vI 0] h = some (.inl none, h1) ∧ Ev (· = e) 0 h h1 ∧ hn h1 = hn h := by
  have g : ∀ {f w : Nat} {k : PH}, Ev (· = e) 0 h k → f ≠ eD → Ev (· = e) 0 h (pR k f e w) := fun {f w k} a hf => a.cR (Or.inl rfl) (by rw [a.1.2.2.2.1 e hl0, he]; rfl) hf
  have e47 : ∀ {k : PH}, hc k e = 44 → inT 44 47 (hc k e) := fun z => by rw [z]; decide
  rw [e_J9_init_2, c_J9_init_2_0 _ _ _ _ _ _ _ (e47 he), e_J8_init_2, c_J8_init_2_0 _ _ _ _ _ _ _ (e47 he), e_J7_init_3, c_J7_init_3_0 _ _ _ _ _ _ _ (by rw [he]; decide) (e47 he), if_pos rfl, c_J7_init_3_36, if_pos rfl, c_J7_init_3_55, c_J7_init_3_60, bnd_v, pu_n, c_J8_init_2_9, bnd_v, pu_n, c_J9_init_2_9]
  · exact ⟨_, rfl, g (g (g (g (g (g (g (Ev.rf I) (by decide)) (by decide)) (by decide)) (by decide)) (by decide)) (by decide)) (by decide), rfl⟩
  all_goals exact e47 he
theorem ltk0 {a b : Nat} (e : b = a + 8) : a < b := by omega
theorem ltk1 {a b : Nat} (e : b = a + 8 + 1) : a < b := by omega
theorem ltk2 {a b : Nat} (e : b = a + 8 + 1 + 1) : a < b := by omega
theorem ltk3 {a b : Nat} (e : b = a + 8 + 1 + 1 + 1) : a < b := by omega
theorem ltk4 {a b : Nat} (e : b = a + 8 + 1 + 1 + 1 + 1) : a < b := by omega
theorem ltk5 {a b : Nat} (e : b = a + 8 + 1 + 1 + 1 + 1 + 1) : a < b := by omega
theorem hcn {k t : Nat} {n : Int} (kg : k < hn g) (c : hc g k = 6) : inT 6 6 (hc (nA g t n) k) := by
  rw [hc_nA', if_neg (by omega), c]; decide
theorem rm_O {n v : Nat} (r : Room v g) (h0 : n ≤ 64) (v0 : 0 < v) : rmO g n := by
  unfold Room at r
  exact ⟨by omega, by omega⟩
theorem mach1 (d : Nat) (I : HI h) (rm : Room 900 h) : ∃ A5, F (d + 8) 25702497 [vR (hn h)] (nO h 6 27) = FA (F (d + 7)) 25702497 93 [vR (hn h), vX] [] A5 ∧ Ev W0 769 h A5 ∧ (hc A5 (hn h) = 6 ∧ hn A5 = hn h + 13) ∧ ((∀ f, gI A5 f (hn h) = 0) ∧ (∀ f, gJ A5 f (hn h) = 0)) ∧ (gR A5 369495066 (hn h) = hn h + 1 ∧ gR A5 377883674 (hn h) = hn h + 5 ∧ gR A5 394660890 (hn h) = hn h + 6 ∧ gR A5 411438106 (hn h) = hn h + 7 ∧ gR A5 428215322 (hn h) = hn h + 8 ∧ gR A5 486935578 (hn h) = hn h + 8 + 1 ∧ gR A5 495324186 (hn h) = hn h + 8 + 1 + 1 ∧ gR A5 554044442 (hn h) = hn h + 8 + 1 + 1 + 1 ∧ gR A5 562433050 (hn h) = hn h + 8 + 1 + 1 + 1 + 1 ∧ gR A5 436603930 (hn h) = 0 ∧ gR A5 444992538 (hn h) = 0) ∧ ModesAt A5 (hn h + 1) ∧ (AL A5 (hn h + 5) [] ∧ AL A5 (hn h + 6) [] ∧ AL A5 (hn h + 7) []) ∧ (hc A5 (hn h + 8) = 74 ∧ hl A5 (hn h + 8) = 41) ∧ (hc A5 (hn h + 8 + 1) = 66 ∧ hl A5 (hn h + 8 + 1) = 200) ∧ (hc A5 (hn h + 8 + 1 + 1) = 67 ∧ hl A5 (hn h + 8 + 1 + 1) = 200) ∧ (hc A5 (hn h + 8 + 1 + 1 + 1) = 67 ∧ hl A5 (hn h + 8 + 1 + 1 + 1) = 24008) ∧ (hc A5 (hn h + 8 + 1 + 1 + 1 + 1) = 67 ∧ hl A5 (hn h + 8 + 1 + 1 + 1 + 1) = 24008) := by
  have e0 : Ev W0 1 h (nO h 6 27) := (Ev.rf I).mO (by decide) (by decide)
  have c0 : hc (nO h 6 27) (hn h) = 6 := if_pos rfl
  have R0 : Room 899 (nO h 6 27) := (rm.le (u' := 1 + 899) (by omega)).ev e0
  have fI0 : (∀ f, gI (nO h 6 27) f (hn h) = 0) ∧ (∀ f, gJ (nO h 6 27) f (hn h) = 0) ∧ (∀ f, gR (nO h 6 27) f (hn h) = 0) := ⟨fun f => if_pos rfl, fun f => if_pos rfl, fun f => if_pos rfl⟩
  have n0 : hn (nO h 6 27) = hn h + 1 := rfl
  have z0 : hn h ≠ 0 := by have := I.1.1.2.1; omega
  generalize hg0 : nO h 6 27 = g0 at e0 c0 R0 fI0 n0
  obtain ⟨g1, a1, a2, a3, a4⟩ := f_newModes (d + 3) e0.2.2.1 (R0.le (by omega))
  have E1 : Ev W0 5 h g1 := e0.tr a2 (fun _ _ z => z)
  have S1 := a2.ob (q := hn h) (by omega) (fun z => z) (by rw [c0]; decide)
  have c1 : hc g1 (hn h) = 6 := S1.1.trans c0
  rw [n0] at a1 a3 a4
  obtain ⟨g2, b1, b2, b3, b4, b5, b6, b7⟩ := fl_step (d + 4) (f := 369495066) (w := hn h + 1) E1 (Nat.le_refl _) (by omega) c1 (by decide)
  have c2 : hc g2 (hn h) = 6 := b5.2.2.2.trans c1
  obtain ⟨g3, d1, d2, d3, d4, d5, d6, d7⟩ := fl_step (d + 4) (f := 377883674) (w := hn h + 5) b2 (Nat.le_refl _) (by omega) c2 (by decide)
  have c3 : hc g3 (hn h) = 6 := d5.2.2.2.trans c2
  obtain ⟨g4, e1, e2, e3, e4, e5, e6, e7⟩ := fl_step (d + 4) (f := 394660890) (w := hn h + 6) d2 (Nat.le_refl _) (by omega) c3 (by decide)
  have c4 : hc g4 (hn h) = 6 := e5.2.2.2.trans c3
  have n4 : hn g4 = hn h + 8 := by omega
  have k376 : Int.toNat 24008 ≤ 64 * 376 := by have : Int.toNat 24008 = 24008 := rfl; omega
  have ep : Ev W0 8 h (pR g4 411438106 (hn h) (hn h + 7)) := e2.cR (Or.inr (Nat.le_refl _)) (by rw [c4]; rfl) (by decide)
  have ep' : Ev (· = hn h) 0 g4 (pR g4 411438106 (hn h) (hn h + 7)) := set_f e2.2.2.1 c4 rfl (by decide)
  have kp : KeepF g4 (pR g4 411438106 (hn h) (hn h + 7)) (hn h) 411438106 := ⟨fun _ => rfl, fun _ => rfl, fun f hf => if_neg (fun z => hf z.1), rfl⟩
  have vp : gR (pR g4 411438106 (hn h) (hn h + 7)) 411438106 (hn h) = hn h + 7 := if_pos ⟨rfl, rfl⟩
  have np : hn (pR g4 411438106 (hn h) (hn h + 7)) = hn h + 8 := n4
  generalize hgp : pR g4 411438106 (hn h) (hn h + 7) = gp at ep ep' kp vp np
  have cp : hc gp (hn h) = 6 := kp.2.2.2.trans c4
  obtain ⟨q1, q2, -, q4, q5, q6, q7, q8⟩ := fa_step d (f := 428215322) (t := 74) (n := 41) (c := 1) ep (Nat.le_refl _) (ltk0 np) cp (by decide) (by decide) (by decide) (by decide)
  generalize hA1 : fa gp (hn h) 428215322 74 41 = A1 at q1 q2 q4 q5 q6 q7 q8
  have cA1 : hc A1 (hn h) = 6 := q4.2.2.2.trans cp
  rw [np] at q5 q6 q7 q8
  obtain ⟨r1, r2, -, r4, r5, r6, r7, r8⟩ := fa_step d (f := 486935578) (t := 66) (n := 200) (c := 4) q1 (Nat.le_refl _) (ltk1 q8) cA1 (by decide) (by decide) (by decide) (by decide)
  generalize hA2 : fa A1 (hn h) 486935578 66 200 = A2 at r1 r2 r4 r5 r6 r7 r8
  have cA2 : hc A2 (hn h) = 6 := r4.2.2.2.trans cA1
  rw [q8] at r5 r6 r7 r8
  obtain ⟨s1, s2, -, s4, s5, s6, s7, s8⟩ := fa_step d (f := 495324186) (t := 67) (n := 200) (c := 4) r1 (Nat.le_refl _) (ltk2 r8) cA2 (by decide) (by decide) (by decide) (by decide)
  generalize hA3 : fa A2 (hn h) 495324186 67 200 = A3 at s1 s2 s4 s5 s6 s7 s8
  have cA3 : hc A3 (hn h) = 6 := s4.2.2.2.trans cA2
  rw [r8] at s5 s6 s7 s8
  obtain ⟨t1, t2, -, t4, t5, t6, t7, t8⟩ := fa_step d (f := 554044442) (t := 67) (n := 24008) (c := 376) s1 (Nat.le_refl _) (ltk3 s8) cA3 (by decide) (by decide) k376 (by decide)
  generalize hA4 : fa A3 (hn h) 554044442 67 24008 = A4 at t1 t2 t4 t5 t6 t7 t8
  have cA4 : hc A4 (hn h) = 6 := t4.2.2.2.trans cA3
  rw [s8] at t5 t6 t7 t8
  obtain ⟨u1, u2, -, u4, u5, u6, u7, u8⟩ := fa_step d (f := 562433050) (t := 67) (n := 24008) (c := 376) t1 (Nat.le_refl _) (ltk4 t8) cA4 (by decide) (by decide) k376 (by decide)
  generalize hA5 : fa A4 (hn h) 562433050 67 24008 = A5 at u1 u2 u4 u5 u6 u7 u8
  have cA5 : hc A5 (hn h) = 6 := u4.2.2.2.trans cA4
  rw [t8] at u5 u6 u7 u8
  have nA5 : hn A5 = hn h + 13 := u8
  -- the fault
  have k13 : hn h < hn A5 := ltk5 u8
  -- what each field of the machine holds
  have F5 : gR A5 369495066 (hn h) = hn h + 1 ∧ gR A5 377883674 (hn h) = hn h + 5 ∧ gR A5 394660890 (hn h) = hn h + 6 ∧ gR A5 411438106 (hn h) = hn h + 7 ∧ gR A5 428215322 (hn h) = hn h + 8 ∧ gR A5 486935578 (hn h) = hn h + 8 + 1 ∧ gR A5 495324186 (hn h) = hn h + 8 + 1 + 1 ∧ gR A5 554044442 (hn h) = hn h + 8 + 1 + 1 + 1 ∧ gR A5 562433050 (hn h) = hn h + 8 + 1 + 1 + 1 + 1 ∧ gR A5 436603930 (hn h) = 0 ∧ gR A5 444992538 (hn h) = 0 := by
    have k1 : ∀ f, f ≠ 562433050 → f ≠ 554044442 → f ≠ 495324186 → f ≠ 486935578 → f ≠ 428215322 → gR A5 f (hn h) = gR gp f (hn h) := fun f y1 y2 y3 y4 y5 => (u4.2.2.1 f y1).trans ((t4.2.2.1 f y2).trans ((s4.2.2.1 f y3).trans ((r4.2.2.1 f y4).trans (q4.2.2.1 f y5))))
    refine ⟨?_, ?_, ?_, ?_, ?_, ?_, ?_, ?_, u5, ?_, ?_⟩
    · exact (k1 _ (by decide) (by decide) (by decide) (by decide) (by decide)).trans ((kp.2.2.1 _ (by decide)).trans ((e5.2.2.1 _ (by decide)).trans ((d5.2.2.1 _ (by decide)).trans b4)))
    · exact (k1 _ (by decide) (by decide) (by decide) (by decide) (by decide)).trans ((kp.2.2.1 _ (by decide)).trans ((e5.2.2.1 _ (by decide)).trans d4))
    · exact (k1 _ (by decide) (by decide) (by decide) (by decide) (by decide)).trans ((kp.2.2.1 _ (by decide)).trans e4)
    · exact (k1 _ (by decide) (by decide) (by decide) (by decide) (by decide)).trans vp
    · exact (u4.2.2.1 _ (by decide)).trans ((t4.2.2.1 _ (by decide)).trans ((s4.2.2.1 _ (by decide)).trans ((r4.2.2.1 _ (by decide)).trans q5)))
    · exact (u4.2.2.1 _ (by decide)).trans ((t4.2.2.1 _ (by decide)).trans ((s4.2.2.1 _ (by decide)).trans r5))
    · exact (u4.2.2.1 _ (by decide)).trans ((t4.2.2.1 _ (by decide)).trans s5)
    · exact (u4.2.2.1 _ (by decide)).trans t5
    · exact (k1 _ (by decide) (by decide) (by decide) (by decide) (by decide)).trans ((kp.2.2.1 _ (by decide)).trans ((e5.2.2.1 _ (by decide)).trans ((d5.2.2.1 _ (by decide)).trans ((b5.2.2.1 _ (by decide)).trans ((S1.2.2.2.2.1 _).trans (fI0.2.2 _))))))
    · exact (k1 _ (by decide) (by decide) (by decide) (by decide) (by decide)).trans ((kp.2.2.1 _ (by decide)).trans ((e5.2.2.1 _ (by decide)).trans ((d5.2.2.1 _ (by decide)).trans ((b5.2.2.1 _ (by decide)).trans ((S1.2.2.2.2.1 _).trans (fI0.2.2 _))))))
  have I5 : (∀ f, gI A5 f (hn h) = 0) ∧ (∀ f, gJ A5 f (hn h) = 0) := ⟨fun f => (u4.1 f).trans ((t4.1 f).trans ((s4.1 f).trans ((r4.1 f).trans ((q4.1 f).trans ((kp.1 f).trans ((e5.1 f).trans ((d5.1 f).trans ((b5.1 f).trans ((S1.2.2.1 f).trans (fI0.1 f)))))))))), fun f => (u4.2.1 f).trans ((t4.2.1 f).trans ((s4.2.1 f).trans ((r4.2.1 f).trans ((q4.2.1 f).trans ((kp.2.1 f).trans ((e5.2.1 f).trans ((d5.2.1 f).trans ((b5.2.1 f).trans ((S1.2.2.2.1 f).trans (fI0.2.1 f))))))))))⟩
  have z0' : ¬ (0 = hn h) := fun z => z0 z.symm
  have H4 := t2.tr u2 (fun _ _ z => z)
  have H3 := s2.tr H4 (fun _ _ z => z)
  have H2 := r2.tr H3 (fun _ _ z => z)
  have H1 := q2.tr H2 (fun _ _ z => z)
  have G4 := ep'.tr H1 (fun _ _ z => z)
  have G3 := e3.tr G4 (fun _ _ z => z)
  have G2 := d3.tr G3 (fun _ _ z => z)
  have G1 := b3.tr G2 (fun _ _ z => z)
  have M5 : ModesAt A5 (hn h + 1) := a3.ev G1 E1.2.2.1.1 (fun q y1 y2 => ne_lo y1 (by decide)) z0'
  rw [show hn g1 = hn h + 5 from a4] at b6
  rw [b7, show hn g1 = hn h + 5 from a4] at d6
  rw [d7, b7, show hn g1 = hn h + 5 from a4] at e6
  have L5 : AL A5 (hn h + 5) [] := G2.al b2.2.2.1.1 (ne_lo (Nat.le_refl _) (by decide)) z0' b6
  have L6 : AL A5 (hn h + 6) [] := G3.al d2.2.2.1.1 (ne_lo (Nat.le_refl _) (by decide)) z0' d6
  have L7 : AL A5 (hn h + 7) [] := G4.al e2.2.2.1.1 (ne_lo (Nat.le_refl _) (by decide)) z0' e6
  have B1 := H2.ob (q := hn h + 8) (by rw [q8]; exact Nat.lt_succ_self _) (ne_lo (Nat.le_refl _) (by decide)) (by rw [q6]; decide)
  have B2 := H3.ob (q := hn h + 8 + 1) (by rw [r8]; exact Nat.lt_succ_self _) (ne_lo (c := 9) (Nat.le_refl _) (by decide)) (by rw [r6]; decide)
  have B3 := H4.ob (q := hn h + 8 + 1 + 1) (by rw [s8]; exact Nat.lt_succ_self _) (ne_lo (c := 10) (Nat.le_refl _) (by decide)) (by rw [s6]; decide)
  have B4 := u2.ob (q := hn h + 8 + 1 + 1 + 1) (by rw [t8]; exact Nat.lt_succ_self _) (ne_lo (c := 11) (Nat.le_refl _) (by decide)) (by rw [t6]; decide)
  refine ⟨A5, ?_, u1, ⟨cA5, u8⟩, I5, F5, M5, ⟨L5, L6, L7⟩, ⟨B1.1.trans q6, B1.2.1.trans q7⟩, ⟨B2.1.trans r6, B2.2.1.trans r7⟩, ⟨B3.1.trans s6, B3.2.1.trans s7⟩, ⟨B4.1.trans t6, B4.2.1.trans t7⟩, ⟨u6, u7⟩⟩
  have X1 : F (d + 8) 25702497 [vR (hn h)] g0 = FA (F (d + 7)) 25702497 45 [vR (hn h), vX] [vR (hn g3), vR (hn h)] g4 := by
    have y0 := rm_O (n := 4) R0 (by decide) (by decide)
    have y1 := rm_O (n := 3) (Room.ev (u := 5) (u' := 800) (rm.le (by decide)) E1) (by decide) (by decide)
    have y2 := rm_O (n := 3) (Room.ev (u := 5 + 1) (u' := 800) (rm.le (by decide)) b2) (by decide) (by decide)
    have y3 := rm_O (n := 3) (Room.ev (u := 5 + 1 + 1) (u' := 800) (rm.le (by decide)) d2) (by decide) (by decide)
    have m1 : hn g1 = hn h + 5 := a4
    have m2 : hn g2 = hn h + 6 := by rw [b7, m1]
    rw [e_X7_init, c_X7_init_0 _ _ _ _ (by rw [c0]; decide) y0 (gt_nO rfl), n0, a1, bnd_v, pu_n, c_X7_init_12 _ _ _ _ _ _ (i11 c1) y1 (gt_nO rfl), b1, bnd_v, pu_n, m1, c_X7_init_23 _ _ _ _ _ _ (i11 c2) y2 (gt_nO rfl), d1, bnd_v, pu_n, m2, c_X7_init_34 _ _ _ _ _ _ (i11 c3) y3 (gt_nO rfl), e1, bnd_v, pu_n]
  have m3 : hn g3 = hn h + 7 := by rw [d7, b7, show hn g1 = hn h + 5 from a4]
  rw [X1, m3, c_X7_init_45 _ _ _ _ _ _ (i11 c4), hgp, c_X7_init_48 _ _ _ _ (rm_A (c := 1) (Room.ev (u := 8) (u' := 800) (rm.le (by decide)) ep) (by decide) (by decide) (by decide) (by decide)) (hcn (ltk0 np) cp), show pR (nA gp 74 41) 428215322 (hn h) (hn gp) = A1 from hA1, c_X7_init_57 _ _ _ _ (rm_A (c := 4) (Room.ev (u := 8 + 1) (u' := 800) (rm.le (by decide)) q1) (by decide) (by decide) (by decide) (by decide)) (hcn (ltk1 q8) cA1), show pR (nA A1 66 200) 486935578 (hn h) (hn A1) = A2 from hA2, c_X7_init_66 _ _ _ _ (rm_A (c := 4) (Room.ev (u := 8 + 1 + 4) (u' := 800) (rm.le (by decide)) r1) (by decide) (by decide) (by decide) (by decide)) (hcn (ltk2 r8) cA2), show pR (nA A2 67 200) 495324186 (hn h) (hn A2) = A3 from hA3, c_X7_init_75 _ _ _ _ (rm_A (c := 376) (Room.ev (u := 8 + 1 + 4 + 4) (u' := 800) (rm.le (by decide)) s1) (by decide) k376 (by decide) (by decide)) (hcn (ltk3 s8) cA3), show pR (nA A3 67 24008) 554044442 (hn h) (hn A3) = A4 from hA4, c_X7_init_84 _ _ _ _ (rm_A (c := 376) (Room.ev (u := 8 + 1 + 4 + 4 + 376) (u' := 400) (rm.le (by decide)) t1) (by decide) k376 (by decide) (by decide)) (hcn (ltk4 t8) cA4), show pR (nA A4 67 24008) 562433050 (hn h) (hn A4) = A5 from hA5]
theorem f_newMachine (d : Nat) (I : HI h) (rm : Room 900 h) : ∃ h1, F (d + 8) 25702497 [vR (hn h)] (nO h 6 27) = some (.inl none, h1) ∧ Ev W0 852 h h1 ∧ MachAt h1 (hn h) ∧ hn h1 = hn h + 96 := by
  obtain ⟨A, x0, E, ⟨c6, nA⟩, ⟨i0, j0⟩, ⟨p1, p2, p3, p4, p5, p6, p7, p8, p9, p10, p11⟩, M, ⟨l5, l6, l7⟩, ⟨o1, o2⟩, ⟨o3, o4⟩, ⟨o5, o6⟩, ⟨o7, o8⟩, ⟨o9, o10⟩⟩ := mach1 d I rm
  have z0 : 0 < hn h := I.1.1.2.1
  have v0 : Ev W0 1 A (nO A 44 8) := (Ev.rf E.2.2.1).mO (by decide) (by decide)
  have v44 : hc (nO A 44 8) (hn A) = 44 := if_pos rfl
  obtain ⟨f1, w1, w2, w2n⟩ := f_rtinit2 (d + 3) v0.2.2.1 v44 (Nat.lt_succ_self _)
  have w44 : hc f1 (hn A) = 44 := (w2.1.2.2.2.1 _ (Nat.lt_succ_self _)).trans v44
  have w3 : Ev W0 1 A (pI (pI f1 3509344432 (hn A) 0) 3517733040 (hn A) 0) := (((v0.mono (W' := (· = hn A)) (fun _ _ z => z.elim) (Nat.le_refl _)).tr w2 (fun _ _ z => z)).cI (Or.inl rfl) (by rw [w44]; rfl)).cI (Or.inl rfl) (by show mdT (hc f1 (hn A)) = true; rw [w44]; rfl) |>.mono (fun q hq z => by omega) (Nat.le_refl _)
  have nf : hn f1 = hn h + 14 := by rw [w2n]; show hn A + 1 = _; omega
  have f44 : hc (pI (pI f1 3509344432 (hn A) 0) 3517733040 (hn A) 0) (hn A) = 44 := w44
  have nf' : hn (pI (pI f1 3509344432 (hn A) 0) 3517733040 (hn A) 0) = hn h + 14 := nf
  have xf : F (d + 7) 36004547 [vR (hn A), vI 0, vI 0] (nO A 44 8) = some (.inl none, pI (pI f1 3509344432 (hn A) 0) 3517733040 (hn A) 0) := by
    rw [e_X8_init, c_X8_init_0 _ _ _ _ _ (by rw [v44]; decide), w1, bnd_v, pu_n, c_X8_init_8 _ _ _ _ _ (i11 w44)]
  generalize hf2 : pI (pI f1 3509344432 (hn A) 0) 3517733040 (hn A) 0 = f2 at w3 f44 nf' xf
  clear hf2 nf w44 w1 w2 w2n v44 v0
  have S := w3.ob (q := hn h) (by omega) (fun z => z) (by rw [c6]; decide)
  have c6' : hc f2 (hn h) = 6 := S.1.trans c6
  have E3 : Ev W0 770 h f2 := E.tr w3 (fun _ _ z => z)
  have E4 : Ev W0 770 h (pR f2 587598874 (hn h) (hn A)) := E3.cR (Or.inr (Nat.le_refl _)) (by rw [c6']; rfl) (by decide)
  have E4' : Ev (· = hn h) 1 A (pR f2 587598874 (hn h) (hn A)) := (w3.mono (W' := (· = hn h)) (fun _ _ z => z.elim) (Nat.le_refl _)).cR (Or.inl rfl) (by rw [c6']; rfl) (by decide)
  have K : ∀ f, f ≠ 587598874 → gR (pR f2 587598874 (hn h) (hn A)) f (hn h) = gR A f (hn h) := fun f hf => by rw [rR_pR, if_neg (fun z => hf z.1)]; exact S.2.2.2.2.1 f
  have Kf : gR (pR f2 587598874 (hn h) (hn A)) 587598874 (hn h) = hn A := if_pos ⟨rfl, rfl⟩
  have KI : (∀ f, gI (pR f2 587598874 (hn h) (hn A)) f (hn h) = 0) ∧ (∀ f, gJ (pR f2 587598874 (hn h) (hn A)) f (hn h) = 0) := ⟨fun f => (S.2.2.1 f).trans (i0 f), fun f => (S.2.2.2.1 f).trans (j0 f)⟩
  have c4 : hc (pR f2 587598874 (hn h) (hn A)) (hn h) = 6 := c6'
  have n4 : hn (pR f2 587598874 (hn h) (hn A)) = hn h + 14 + 2 * 0 := nf'
  have f4 : hc (pR f2 587598874 (hn h) (hn A)) (hn A) = 44 := f44
  have x93 : FA (F (d + 7)) 25702497 93 [vR (hn h), vX] [] A = FA (F (d + 7)) 25702497 108 [vR (hn h), vI ((0 : Nat) : Int)] [] (pR f2 587598874 (hn h) (hn A)) := by
    rw [c_X7_init_93 _ _ _ _ (rm_O (Room.ev (u := 769) (u' := 100) (rm.le (by decide)) E) (by decide) (by decide)) (gt_nO rfl), xf, bnd_v, pu_n, c_X7_init_103 _ _ _ _ _ _ (i11 c6')]
    rfl
  generalize hg : pR f2 587598874 (hn h) (hn A) = g at E4 E4' K Kf KI c4 n4 f4 x93
  clear hg S c6' E3 w3 f44 nf' xf
  have o8' := E4'.ob (q := hn h + 8) (by omega) (by omega) (by rw [o1]; decide)
  obtain ⟨g', b1, b2, b3, b4, b5⟩ := rng_loop (d + 6) (Nat.le_refl (hn h)) 41 0 770 g (by decide) E4 (Room.ev (u := 770) (u' := 82) (rm.le (by decide)) E4) c4 ((K _ (by decide)).trans p5) (o8'.1.trans o1) (o8'.2.1.trans o2) n4 (fun j hj => absurd hj (Nat.not_lt_zero _))
  have T : Ev (fun q => q = hn h ∨ q = hn h + 8) (1 + 2 * 41) A g' := (E4'.mono (W' := fun q => q = hn h ∨ q = hn h + 8) (fun _ _ z => Or.inl z) (Nat.le_refl _)).tr (b3.mono (W' := fun q => q = hn h ∨ q = hn h + 8) (fun _ _ z => Or.inr z) (Nat.le_refl _)) (fun _ _ z => z)
  have S := b3.ob (q := hn h) (by rw [n4]; omega) (by omega) (by rw [c4]; decide)
  have hcA : ∀ q, q < hn A → hc g' q = hc A q := T.1.2.2.2.1
  have hlA : ∀ q, q < hn A → hl g' q = hl A q := T.1.2.2.2.2
  have C := E.2.2.1.1
  have R : ∀ f, f ≠ 587598874 → gR g' f (hn h) = gR A f (hn h) := fun f hf => (S.2.2.2.2.1 f).trans (K f hf)
  have a8 : hn h + 8 < hn A := by omega
  have a9 : hn h + 8 + 1 < hn A := by omega
  have a10 : hn h + 8 + 1 + 1 < hn A := by omega
  have a11 : hn h + 8 + 1 + 1 + 1 < hn A := by omega
  have a12 : hn h + 8 + 1 + 1 + 1 + 1 < hn A := by omega
  have aA : hn A < hn g := by rw [n4]; omega
  have w0 : ¬ (0 = hn h ∨ 0 = hn h + 8) := fun z => by omega
  have w5 : ¬ (hn h + 5 = hn h ∨ hn h + 5 = hn h + 8) := fun z => by omega
  have w6 : ¬ (hn h + 6 = hn h ∨ hn h + 6 = hn h + 8) := fun z => by omega
  have w7 : ¬ (hn h + 7 = hn h ∨ hn h + 7 = hn h + 8) := fun z => by omega
  have wM : ∀ q, hn h + 1 ≤ q → q < hn h + 1 + 4 → ¬ (q = hn h ∨ q = hn h + 8) := fun q y1 y2 z => by omega
  refine ⟨g', by rw [x0, x93]; exact b1, b2, ⟨S.1.trans c4, fun f => (S.2.2.1 f).trans (KI.1 f), fun f => (S.2.2.2.1 f).trans (KI.2 f), (R _ (by decide)).trans p10, (R _ (by decide)).trans p11, ⟨(R _ (by decide)).trans p1, M.ev T C wM w0⟩, ⟨(R _ (by decide)).trans p2, T.al C w5 w0 l5⟩, ⟨(R _ (by decide)).trans p3, T.al C w6 w0 l6⟩, ⟨(R _ (by decide)).trans p4, T.al C w7 w0 l7⟩, ⟨(R _ (by decide)).trans p5, (hcA _ a8).trans o1, (hlA _ a8).trans o2⟩, ⟨(R _ (by decide)).trans p6, (hcA _ a9).trans o3, (hlA _ a9).trans o4⟩, ⟨(R _ (by decide)).trans p7, (hcA _ a10).trans o5, (hlA _ a10).trans o6⟩, ⟨(R _ (by decide)).trans p8, (hcA _ a11).trans o7, (hlA _ a11).trans o8⟩, ⟨(R _ (by decide)).trans p9, (hcA _ a12).trans o9, (hlA _ a12).trans o10⟩, ⟨((S.2.2.2.2.1 _).trans Kf).trans nA, ?_⟩, b5⟩, b4⟩
  rw [← nA]
  exact (b3.1.2.2.2.1 _ aA).trans f4
end XMa
