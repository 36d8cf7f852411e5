/-! x's PARSER: new lists, modes, nodes -/
set_option maxRecDepth 100000
theorem e_X12_init (d : Nat) (a0 : Nat) (a1 : Int) (h : PH) : F (d + 1) 118034610 [vR a0, vI a1] h = FA (F d) 118034610 0 [vR a0, vI a1] [] h := rfl
theorem c_X12_init_0 (cf : Nat → List PV → PH → Rs) (a0 : Nat) (a1 : Int) (h : PH) (g0 : 0 < (hc h a0)) (g1 : rmO h 3) (g2 : inT 48 48 (hc (nO h 48 3) (hn h))) : FA cf 118034610 0 [vR a0, vI a1] [] h = bnd (cf 164987650 [vR (hn h), vI 2] (nO h 48 3)) (fun v h' => FA cf 118034610 13 [vR a0, vI a1] (pu v [vR (hn h), vR a0]) h') := ((FA_ex cf 118034610 7 _ _ _ _).trans rfl : FA cf 118034610 0 [vR a0, vI a1] [] h = gd (0 < (hc h a0)) (gd (rmO h 3) (gd (inT 48 48 (hc (nO h 48 3) (hn h))) (bnd (cf 164987650 [vR (hn h), vI 2] (nO h 48 3)) (fun v h' => FA cf 118034610 13 [vR a0, vI a1] (pu v [vR (hn h), vR a0]) h'))))).trans ((gd_t g0).trans ((gd_t g1).trans ((gd_t g2))))
theorem c_X12_init_13 (cf : Nat → List PV → PH → Rs) (a0 : Nat) (a1 : Int) (s0 : Nat) (s1 : Nat) (h : PH) (g0 : inT 11 34 (hc h s1)) (g1 : inT 11 34 (hc h a0)) : FA cf 118034610 13 [vR a0, vI a1] [vR s0, vR s1] h = some (.inl none, (pI (pR h 748831790 s1 s0) 740443180 a0 a1)) := ((FA_ex cf 118034610 5 _ _ _ _).trans rfl : FA cf 118034610 13 [vR a0, vI a1] [vR s0, vR s1] h = gd (inT 11 34 (hc h s1)) (gd (inT 11 34 (hc h a0)) (some (.inl none, (pI (pR h 748831790 s1 s0) 740443180 a0 a1))))).trans ((gd_t g0).trans ((gd_t g1)))
theorem e_X12_with (d : Nat) (a0 : Nat) (a1 : Nat) (h : PH) : F (d + 1) 118296754 [vR a0, vR a1] h = FA (F d) 118296754 0 [vR a0, vR a1] [] h := rfl
theorem c_X12_with_0 (cf : Nat → List PV → PH → Rs) (a0 : Nat) (a1 : Nat) (h : PH) (g0 : inT 11 34 (hc h a0)) (g1 : inT 48 48 (hc h (gR h 748831790 a0))) : FA cf 118296754 0 [vR a0, vR a1] [] h = bnd (cf 165774082 [vR (gR h 748831790 a0), vR a1] h) (fun v h' => FA cf 118296754 8 [vR a0, vR a1] (pu v []) h') := ((FA_ex cf 118296754 4 _ _ _ _).trans rfl : FA cf 118296754 0 [vR a0, vR a1] [] h = gd (inT 11 34 (hc h a0)) (gd (inT 48 48 (hc h (gR h 748831790 a0))) (bnd (cf 165774082 [vR (gR h 748831790 a0), vR a1] h) (fun v h' => FA cf 118296754 8 [vR a0, vR a1] (pu v []) h')))).trans ((gd_t g0).trans ((gd_t g1)))
theorem c_X12_with_8 (cf : Nat → List PV → PH → Rs) (a0 : Nat) (a1 : Nat) (s0 : Int) (h : PH) : FA cf 118296754 8 [vR a0, vR a1] [vI s0] h = some (.inl (some (vR a0)), h) := (FA_ex cf 118296754 3 _ _ _ _).trans rfl
theorem e_X12_part (d : Nat) (a0 : Nat) (a1 : Int) (h : PH) : F (d + 1) 118558898 [vR a0, vI a1] h = FA (F d) 118558898 0 [vR a0, vI a1] [] h := rfl
theorem c_X12_part_0 (cf : Nat → List PV → PH → Rs) (a0 : Nat) (a1 : Int) (h : PH) (g0 : inT 11 34 (hc h a0)) (g1 : inT 48 48 (hc h (gR h 748831790 a0))) : FA cf 118558898 0 [vR a0, vI a1] [] h = bnd (cf 166822658 [vR (gR h 748831790 a0), vI a1] h) (fun v h' => FA cf 118558898 8 [vR a0, vI a1] (pu v []) h') := ((FA_ex cf 118558898 4 _ _ _ _).trans rfl : FA cf 118558898 0 [vR a0, vI a1] [] h = gd (inT 11 34 (hc h a0)) (gd (inT 48 48 (hc h (gR h 748831790 a0))) (bnd (cf 166822658 [vR (gR h 748831790 a0), vI a1] h) (fun v h' => FA cf 118558898 8 [vR a0, vI a1] (pu v []) h')))).trans ((gd_t g0).trans ((gd_t g1)))
theorem c_X12_part_8 (cf : Nat → List PV → PH → Rs) (a0 : Nat) (a1 : Int) (s0 : Nat) (h : PH) (g0 : s0 = 0 ∨ inT 11 34 (hc h s0)) : FA cf 118558898 8 [vR a0, vI a1] [vR s0] h = some (.inl (some (vR s0)), h) := ((FA_ex cf 118558898 2 _ _ _ _).trans rfl : FA cf 118558898 8 [vR a0, vI a1] [vR s0] h = gd (s0 = 0 ∨ inT 11 34 (hc h s0)) (some (.inl (some (vR s0)), h))).trans ((gd_t g0))
theorem e_X6_init (d : Nat) (a0 : Nat) (a1 : Int) (h : PH) : F (d + 1) 24397970 [vR a0, vI a1] h = FA (F d) 24397970 0 [vR a0, vI a1] [] h := rfl
theorem c_X6_init_0 (cf : Nat → List PV → PH → Rs) (a0 : Nat) (a1 : Int) (h : PH) (g0 : 0 < (hc h a0)) (g1 : rmO h 3) (g2 : inT 48 48 (hc (nO h 48 3) (hn h))) : FA cf 24397970 0 [vR a0, vI a1] [] h = bnd (cf 164987650 [vR (hn h), vI 0] (nO h 48 3)) (fun v h' => FA cf 24397970 13 [vR a0, vI a1] (pu v [vR (hn h), vR a0]) h') := ((FA_ex cf 24397970 7 _ _ _ _).trans rfl : FA cf 24397970 0 [vR a0, vI a1] [] h = gd (0 < (hc h a0)) (gd (rmO h 3) (gd (inT 48 48 (hc (nO h 48 3) (hn h))) (bnd (cf 164987650 [vR (hn h), vI 0] (nO h 48 3)) (fun v h' => FA cf 24397970 13 [vR a0, vI a1] (pu v [vR (hn h), vR a0]) h'))))).trans ((gd_t g0).trans ((gd_t g1).trans ((gd_t g2))))
theorem c_X6_init_13 (cf : Nat → List PV → PH → Rs) (a0 : Nat) (a1 : Int) (s0 : Nat) (s1 : Nat) (h : PH) (g0 : inT 9 9 (hc h s1)) (g1 : inT 9 9 (hc h a0)) : FA cf 24397970 13 [vR a0, vI a1] [vR s0, vR s1] h = some (.inl none, (pI (pR h 646517286 s1 s0) 638128676 a0 a1)) := ((FA_ex cf 24397970 5 _ _ _ _).trans rfl : FA cf 24397970 13 [vR a0, vI a1] [vR s0, vR s1] h = gd (inT 9 9 (hc h s1)) (gd (inT 9 9 (hc h a0)) (some (.inl none, (pI (pR h 646517286 s1 s0) 638128676 a0 a1))))).trans ((gd_t g0).trans ((gd_t g1)))
theorem e_X6_init_2 (d : Nat) (a0 : Nat) (a1 : Int) (a2 : Nat) (h : PH) : F (d + 1) 24660115 [vR a0, vI a1, vR a2] h = FA (F d) 24660115 0 [vR a0, vI a1, vR a2] [] h := rfl
theorem c_X6_init_2_0 (cf : Nat → List PV → PH → Rs) (a0 : Nat) (a1 : Int) (a2 : Nat) (h : PH) (g0 : 0 < (hc h a0)) (g1 : rmO h 3) (g2 : inT 48 48 (hc (nO h 48 3) (hn h))) : FA cf 24660115 0 [vR a0, vI a1, vR a2] [] h = bnd (cf 164987650 [vR (hn h), vI 0] (nO h 48 3)) (fun v h' => FA cf 24660115 13 [vR a0, vI a1, vR a2] (pu v [vR (hn h), vR a0]) h') := ((FA_ex cf 24660115 7 _ _ _ _).trans rfl : FA cf 24660115 0 [vR a0, vI a1, vR a2] [] h = gd (0 < (hc h a0)) (gd (rmO h 3) (gd (inT 48 48 (hc (nO h 48 3) (hn h))) (bnd (cf 164987650 [vR (hn h), vI 0] (nO h 48 3)) (fun v h' => FA cf 24660115 13 [vR a0, vI a1, vR a2] (pu v [vR (hn h), vR a0]) h'))))).trans ((gd_t g0).trans ((gd_t g1).trans ((gd_t g2))))
theorem c_X6_init_2_13 (cf : Nat → List PV → PH → Rs) (a0 : Nat) (a1 : Int) (a2 : Nat) (s0 : Nat) (s1 : Nat) (h : PH) (g0 : inT 9 9 (hc h s1)) (g1 : inT 9 9 (hc h a0)) : FA cf 24660115 13 [vR a0, vI a1, vR a2] [vR s0, vR s1] h = some (.inl none, (pR (pI (pR h 646517286 s1 s0) 638128676 a0 a1) 671683110 a0 a2)) := ((FA_ex cf 24660115 8 _ _ _ _).trans rfl : FA cf 24660115 13 [vR a0, vI a1, vR a2] [vR s0, vR s1] h = gd (inT 9 9 (hc h s1)) (gd (inT 9 9 (hc h a0)) (gd (inT 9 9 (hc h a0)) (some (.inl none, (pR (pI (pR h 646517286 s1 s0) 638128676 a0 a1) 671683110 a0 a2)))))).trans ((gd_t g0).trans ((gd_t g1).trans ((gd_t g1))))
theorem e_X18_init (d : Nat) (a0 : Nat) (a1 : Int) (a2 : Int) (a3 : Nat) (h : PH) : F (d + 1) 127668260 [vR a0, vI a1, vI a2, vR a3] h = FA (F d) 127668260 0 [vR a0, vI a1, vI a2, vR a3] [] h := rfl
theorem c_X18_init_0 (cf : Nat → List PV → PH → Rs) (a0 : Nat) (a1 : Int) (a2 : Int) (a3 : Nat) (h : PH) (g0 : 0 < (hc h a0)) (g1 : inT 2 2 (hc h a0)) : FA cf 127668260 0 [vR a0, vI a1, vI a2, vR a3] [] h = some (.inl none, (pR (pI (pI h 92406792 a0 a1) 100795400 a0 a2) 109184010 a0 a3)) := ((FA_ex cf 127668260 12 _ _ _ _).trans rfl : FA cf 127668260 0 [vR a0, vI a1, vI a2, vR a3] [] h = gd (0 < (hc h a0)) (gd (inT 2 2 (hc h a0)) (gd (inT 2 2 (hc h a0)) (gd (inT 2 2 (hc h a0)) (some (.inl none, (pR (pI (pI h 92406792 a0 a1) 100795400 a0 a2) 109184010 a0 a3))))))).trans ((gd_t g0).trans ((gd_t g1).trans ((gd_t g1).trans ((gd_t g1)))))
theorem e_X15_init (d : Nat) (a0 : Nat) (a1 : Int) (h : PH) : F (d + 1) 124060162 [vR a0, vI a1] h = FA (F d) 124060162 0 [vR a0, vI a1] [] h := rfl
theorem c_X15_init_0 (cf : Nat → List PV → PH → Rs) (a0 : Nat) (a1 : Int) (h : PH) (g0 : inT 11 34 (hc h a0)) : FA cf 124060162 0 [vR a0, vI a1] [] h = bnd (cf 118034610 [vR a0, vI a1] h) (fun v h' => FA cf 124060162 5 [vR a0, vI a1] (pu v []) h') := ((FA_ex cf 124060162 3 _ _ _ _).trans rfl : FA cf 124060162 0 [vR a0, vI a1] [] h = gd (inT 11 34 (hc h a0)) (bnd (cf 118034610 [vR a0, vI a1] h) (fun v h' => FA cf 124060162 5 [vR a0, vI a1] (pu v []) h'))).trans ((gd_t g0))
theorem c_X15_init_5 (cf : Nat → List PV → PH → Rs) (a0 : Nat) (a1 : Int) (h : PH) : FA cf 124060162 5 [vR a0, vI a1] [] h = some (.inl none, h) := (FA_ex cf 124060162 1 _ _ _ _).trans rfl
theorem e_X13_init (d : Nat) (a0 : Nat) (a1 : Int) (h : PH) : F (d + 1) 121155890 [vR a0, vI a1] h = FA (F d) 121155890 0 [vR a0, vI a1] [] h := rfl
theorem c_X13_init_0 (cf : Nat → List PV → PH → Rs) (a0 : Nat) (a1 : Int) (h : PH) (g0 : inT 11 34 (hc h a0)) : FA cf 121155890 0 [vR a0, vI a1] [] h = bnd (cf 118034610 [vR a0, vI a1] h) (fun v h' => FA cf 121155890 5 [vR a0, vI a1] (pu v []) h') := ((FA_ex cf 121155890 3 _ _ _ _).trans rfl : FA cf 121155890 0 [vR a0, vI a1] [] h = gd (inT 11 34 (hc h a0)) (bnd (cf 118034610 [vR a0, vI a1] h) (fun v h' => FA cf 121155890 5 [vR a0, vI a1] (pu v []) h'))).trans ((gd_t g0))
theorem c_X13_init_5 (cf : Nat → List PV → PH → Rs) (a0 : Nat) (a1 : Int) (h : PH) : FA cf 121155890 5 [vR a0, vI a1] [] h = some (.inl none, h) := (FA_ex cf 121155890 1 _ _ _ _).trans rfl
theorem e_X14_init (d : Nat) (a0 : Nat) (a1 : Int) (h : PH) : F (d + 1) 121940306 [vR a0, vI a1] h = FA (F d) 121940306 0 [vR a0, vI a1] [] h := rfl
theorem c_X14_init_0 (cf : Nat → List PV → PH → Rs) (a0 : Nat) (a1 : Int) (h : PH) (g0 : inT 19 22 (hc h a0)) : FA cf 121940306 0 [vR a0, vI a1] [] h = bnd (cf 121155890 [vR a0, vI a1] h) (fun v h' => FA cf 121940306 5 [vR a0, vI a1] (pu v []) h') := ((FA_ex cf 121940306 3 _ _ _ _).trans rfl : FA cf 121940306 0 [vR a0, vI a1] [] h = gd (inT 19 22 (hc h a0)) (bnd (cf 121155890 [vR a0, vI a1] h) (fun v h' => FA cf 121940306 5 [vR a0, vI a1] (pu v []) h'))).trans ((gd_t g0))
theorem c_X14_init_5 (cf : Nat → List PV → PH → Rs) (a0 : Nat) (a1 : Int) (h : PH) : FA cf 121940306 5 [vR a0, vI a1] [] h = some (.inl none, h) := (FA_ex cf 121940306 1 _ _ _ _).trans rfl
section XN
variable {h : PH} {W : Nat → Prop} {u : Nat}
theorem HI.z (I : HI h) {q : Nat} (h0 : hc h q ≠ 0) : q < hn h := by
  rcases Nat.lt_or_ge q (hn h) with z | z
  · exact z
  · exact absurd (I.1.1.2.2.1 q z) h0
/-- a list with an array of its own -/
theorem mk_listN (d : Nat) (I : HI h) (rm : Room 2 h) {n : Int} (n0 : 0 < n) (n1 : n ≤ 64) : ∃ h1, F (d + 3) 164987650 [vR (hn h), vI n] (nO h 48 3) = some (.inl none, h1) ∧ Ev W0 2 h h1 ∧ AL h1 (hn h) [] ∧ hn h1 = hn h + 2 ∧ gR h1 eD (hn h) = hn h + 1 := by
  have e0 : Ev W0 1 h (nO h 48 3) := (Ev.rf I).mO (by decide) (by decide)
  have h48 : hc (nO h 48 3) (hn h) = 48 := if_pos rfl
  have e1 : Ev W0 1 h (pI (nO h 48 3) eM (hn h) 0) := e0.cI (Or.inr (Nat.le_refl _)) (by rw [h48]; rfl)
  have e2 : Ev W0 2 h (nA (pI (nO h 48 3) eM (hn h) 0) 71 n) := e1.mA (c := 1) (by omega) (by decide) (by decide)
  have c48 : hc (nA (pI (nO h 48 3) eM (hn h) 0) 71 n) (hn h) = 48 := by
    rw [hc_nA', if_neg (by show hn h ≠ hn h + 1; omega)]
    exact h48
  have c71 : hc (nA (pI (nO h 48 3) eM (hn h) 0) 71 n) (hn h + 1) = 71 := if_pos rfl
  have e3 : Ev W0 2 h (pR (nA (pI (nO h 48 3) eM (hn h) 0) 71 n) eD (hn h) (hn h + 1)) := e2.cD (Or.inr (Nat.le_refl _)) c48 ⟨by show hn h + 1 < hn h + 1 + 1; omega, Or.inl ⟨c71, fun r' hr' e' => by
    have e' : (if r' = hn h then 0 else gR h eD r') = hn h + 1 := e'
    by_cases z : r' = hn h
    · exact z
    · rw [if_neg z] at e'
      have h48' : hc h r' = 48 := by
        have hr' : (if r' = hn h + 1 then 71 else if r' = hn h then 48 else hc h r') = 48 := hr'
        by_cases y : r' = hn h + 1
        · rw [if_pos y] at hr'; exact absurd hr' (by decide)
        · rw [if_neg y, if_neg z] at hr'; exact hr'
      have := I.1.1.2.1
      rcases I.2 r' h48' with x | ⟨x, -⟩ <;> omega⟩⟩
  have hg : gR (pR (nA (pI (nO h 48 3) eM (hn h) 0) 71 n) eD (hn h) (hn h + 1)) eD (hn h) = hn h + 1 := if_pos ⟨rfl, rfl⟩
  refine ⟨_, f_ainitN d h48 (Nat.lt_succ_self _) n0 (by unfold Room at rm; exact ⟨by omega, by show hk h + 1 < cLim; omega, by show hs h + 3 + n.toNat ≤ sLim; omega⟩), e3, ?_, rfl, hg⟩
  refine al_nil c48 ?_ (Or.inl ⟨?_, ?_⟩)
  · show (if eS = eM ∧ hn h = hn h then (0 : Int) else if hn h = hn h then 0 else gI h eS (hn h)) = 0
    rw [if_neg (fun z => absurd z.1 (by decide)), if_pos rfl]
  · rw [show hn (nO h 48 3) = hn h + 1 from rfl, hg]; exact c71
  · rw [show hn (nO h 48 3) = hn h + 1 from rfl, hg]
    have : hl (nA (pI (nO h 48 3) eM (hn h) 0) 71 n) (hn h + 1) = n := if_pos rfl
    show 0 ≤ hl (nA (pI (nO h 48 3) eM (hn h) 0) 71 n) (hn h + 1)
    rw [this]; omega
/-- an empty list with a constant array -/
theorem mk_listC (I : HI h) {c : Nat} (hc0 : kc h c = 72 ∧ hl h c = 0) : Ev W0 1 h (pR (pI (nO h 48 3) eM (hn h) 0) eD (hn h) c) ∧ AL (pR (pI (nO h 48 3) eM (hn h) 0) eD (hn h) c) (hn h) [] := by
  have e0 : Ev W0 1 h (nO h 48 3) := (Ev.rf I).mO (by decide) (by decide)
  have h48 : hc (nO h 48 3) (hn h) = 48 := if_pos rfl
  have e1 : Ev W0 1 h (pI (nO h 48 3) eM (hn h) 0) := e0.cI (Or.inr (Nat.le_refl _)) (by rw [h48]; rfl)
  have kk : kc (pI (nO h 48 3) eM (hn h) 0) c = 72 := by rw [ev_kc e1 I.1 (fun z => z)]; exact hc0.1
  have cl : c < hn h := (I.1.1.2.2.2 c (by rw [hc0.1]; decide)).1
  have e2 := e1.cD (r := hn h) (w := c) (Or.inr (Nat.le_refl _)) h48 ⟨by show c < hn h + 1; omega, Or.inr ⟨kk, hc0.2⟩⟩
  have hg : gR (pR (pI (nO h 48 3) eM (hn h) 0) eD (hn h) c) eD (hn h) = c := if_pos ⟨rfl, rfl⟩
  refine ⟨e2, al_nil h48 ?_ (Or.inr ?_)⟩
  · show (if eS = eM ∧ hn h = hn h then (0 : Int) else if hn h = hn h then 0 else gI h eS (hn h)) = 0
    rw [if_neg (fun z => absurd z.1 (by decide)), if_pos rfl]
  · rw [hg]
    refine ⟨?_, hc0.2⟩
    rw [ev_kc e2 I.1 (fun z => z)]; exact hc0.1
/-- a node's own part of its constructor -/
theorem f_nodeInit (d : Nat) (I : HI h) (rm : Room 2 h) {q : Nat} (hq : inT 11 34 (hc h q)) (P : Int) : ∃ h1, F (d + 4) 118034610 [vR q, vI P] h = some (.inl none, h1) ∧ Ev (· = q) 2 h h1 ∧ gR h1 748831790 q = hn h ∧ AL h1 (hn h) [] ∧ gI h1 740443180 q = P ∧ hn h1 = hn h + 2 ∧ (∀ f, f ≠ 740443180 → gI h1 f q = gI h f q) ∧ (∀ f, gJ h1 f q = gJ h f q) ∧ (∀ f, f ≠ 748831790 → gR h1 f q = gR h f q) := by
  have ql : q < hn h := I.z (by omega)
  obtain ⟨h1, a1, a2, a3, a4, a5⟩ := mk_listN d I rm (n := 2) (by decide) (by decide)
  have s := a2.ob ql (fun z => z) (by omega)
  have hq1 : inT 11 34 (hc h1 q) := by rw [s.1]; exact hq
  have hmd : mdT (hc h1 q) = true := by
    unfold mdT
    have h1' : Nat.ble 1 (hc h1 q) = true := Nat.ble_eq.mpr (by omega)
    have h2' : Nat.ble (hc h1 q) 49 = true := Nat.ble_eq.mpr (by omega)
    rw [h1', h2']
    rfl
  have e1 : Ev (· = q) 2 h (pR h1 748831790 q (hn h)) := (a2.mono (W' := (· = q)) (fun _ _ z => z.elim) (Nat.le_refl _)).cR (Or.inl rfl) hmd (by decide)
  have e2 : Ev (· = q) 2 h (pI (pR h1 748831790 q (hn h)) 740443180 q P) := e1.cI (Or.inl rfl) hmd
  refine ⟨_, ?_, e2, if_pos ⟨rfl, rfl⟩, ?_, gI_pI, a4, fun f hf => ?_, fun f => s.2.2.2.1 f, fun f hf => ?_⟩
  · rw [e_X12_init, c_X12_init_0 _ _ _ _ (by omega) (by unfold Room at rm; exact ⟨by omega, by omega⟩) (by rw [hc_nO', if_pos rfl]; decide), a1, bnd_v, pu_n, c_X12_init_13 _ _ _ _ _ _ hq1 hq1]
  · have hne : hn h ≠ q := by omega
    have w : Ev (· = q) 0 h1 (pI (pR h1 748831790 q (hn h)) 740443180 q P) := ((Ev.rf (W := (· = q)) a2.2.2.1).cR (f := 748831790) (w := hn h) (Or.inl rfl) hmd (by decide)).cI (Or.inl rfl) hmd
    exact w.al a2.2.2.1.1 hne (fun z => by
      have h0 : hc h 0 = 0 := I.1.1.1
      rw [← z] at hq; omega) a3
  · rw [rI_pI, if_neg (fun z => hf z.1)]; exact s.2.2.1 f
  · rw [rR_pI, rR_pR, if_neg (fun z => hf z.1)]; exact s.2.2.2.2.1 f
/-- a new node -/
def NewN (h h1 : PH) (tg : Nat) (P : Int) : Prop := Ev W0 3 h h1 ∧ hc h1 (hn h) = tg ∧ gR h1 748831790 (hn h) = hn h + 1 ∧ AL h1 (hn h + 1) [] ∧ gI h1 740443180 (hn h) = P ∧ hn h1 = hn h + 3 ∧ (∀ f, f ≠ 740443180 → gI h1 f (hn h) = 0) ∧ (∀ f, gJ h1 f (hn h) = 0) ∧ (∀ f, f ≠ 748831790 → gR h1 f (hn h) = 0)
theorem f_newNode (d : Nat) (I : HI h) (rm : Room 3 h) {tg n : Nat} (ht : inT 11 34 tg) (hn0 : n ≤ 64) (P : Int) : ∃ h1, F (d + 4) 118034610 [vR (hn h), vI P] (nO h tg n) = some (.inl none, h1) ∧ NewN h h1 tg P := by
  have e0 : Ev W0 1 h (nO h tg n) := (Ev.rf I).mO hn0 (by omega)
  have ct : hc (nO h tg n) (hn h) = tg := if_pos rfl
  obtain ⟨h1, a1, a2, a3, a4, a5, a6, a7, a8, a9⟩ := f_nodeInit d e0.2.2.1 (rm.ev (u := 1) (u' := 2) e0) (q := hn h) (by rw [ct]; exact ht) P
  have ev := e0.tr (u' := 2) a2 (W := W0) (fun q hq z => by omega)
  refine ⟨h1, a1, ev, ?_, a3, a4, a5, a6, fun f hf => ?_, fun f => ?_, fun f hf => ?_⟩
  · rw [a2.1.2.2.2.1 _ (Nat.lt_succ_self _)]; exact ct
  · rw [a7 f hf]; exact if_pos rfl
  · rw [a8 f]; exact if_pos rfl
  · rw [a9 f hf]; exact if_pos rfl
/-- a part more -/
theorem f_with (d : Nat) (I : HI h) {q v : Nat} {ps : List Nat} (hq : inT 11 34 (hc h q)) (hp : gR h 748831790 q = q + 1) (A : AL h (q + 1) ps) (hv : okE h 71 v) (hlen : ps.length < 100000) (rm : Room (ps.length / 32 + 2) h) : ∃ h1, F (d + 7) 118296754 [vR q, vR v] h = some (.inl (some (vR q)), h1) ∧ Ev (· = q + 1) (ps.length / 32 + 2) h h1 ∧ AL h1 (q + 1) (ps ++ [v]) := by
  obtain ⟨h1, a1, a2, a3⟩ := f_add d I A hv hlen rm
  refine ⟨h1, ?_, a2, a3⟩
  rw [e_X12_with, c_X12_with_0 _ _ _ _ hq (by rw [hp]; exact i11 A.1), hp, a1, bnd_v, pu_s, c_X12_with_8]
/-- an empty list of a constant array, at the next key -/
theorem f_listE (d : Nat) (I : HI h) : ∃ h1, F (d + 3) 164987650 [vR (hn h), vI 0] (nO h 48 3) = some (.inl none, h1) ∧ Ev W0 1 h h1 ∧ AL h1 (hn h) [] ∧ hn h1 = hn h + 1 := by
  have hk0 := I.1.2.2.2.2.1
  obtain ⟨l1, l2⟩ := mk_listC I (c := gR h 4043309058 0) ⟨hk0.2.2.1, hk0.2.2.2.1⟩
  have hp := I.1.1.2.1
  refine ⟨_, ?_, l1, l2, rfl⟩
  rw [f_ainitE d (show hc (nO h 48 3) (hn h) = 48 from if_pos rfl)]
  have : gR (nO h 48 3) 4043309058 0 = gR h 4043309058 0 := if_neg (by omega)
  rw [this]
theorem f_list0 (d : Nat) (I : HI h) : ∃ h1, F (d + 3) 164725505 [vR (hn h)] (nO h 48 3) = some (.inl none, h1) ∧ Ev W0 1 h h1 ∧ AL h1 (hn h) [] ∧ hn h1 = hn h + 1 := by
  have hk0 := I.1.2.2.2.2.1
  obtain ⟨l1, l2⟩ := mk_listC I (c := gR h 4034920450 0) ⟨hk0.1, hk0.2.1⟩
  have hp := I.1.1.2.1
  refine ⟨_, ?_, l1, l2, rfl⟩
  rw [f_ainit0 d (show hc (nO h 48 3) (hn h) = 48 from if_pos rfl)]
  have : gR (nO h 48 3) 4034920450 0 = gR h 4034920450 0 := if_neg (by omega)
  rw [this]
/-- the constructors of modes -/
theorem f_modeInit (d : Nat) (I : HI h) (rm : Room 1 h) {q : Nat} (hq : hc h q = 9) (k : Int) : ∃ h1, F (d + 4) 24397970 [vR q, vI k] h = some (.inl none, h1) ∧ Ev (· = q) 1 h h1 ∧ gR h1 646517286 q = hn h ∧ AL h1 (hn h) [] ∧ gI h1 638128676 q = k ∧ hn h1 = hn h + 1 ∧ (∀ f, f ≠ 638128676 → gI h1 f q = gI h f q) ∧ (∀ f, gJ h1 f q = gJ h f q) ∧ (∀ f, f ≠ 646517286 → gR h1 f q = gR h f q) := by
  have ql : q < hn h := I.z (by rw [hq]; decide)
  obtain ⟨h1, a1, a2, a3, a4⟩ := f_listE d I
  have s := a2.ob ql (fun z => z) (by rw [hq]; decide)
  have g9 : hc h1 q = 9 := s.1.trans hq
  have hmd : mdT (hc h1 q) = true := by rw [g9]; rfl
  have e1 : Ev (· = q) 1 h (pR h1 646517286 q (hn h)) := (a2.mono (W' := (· = q)) (fun _ _ z => z.elim) (Nat.le_refl _)).cR (Or.inl rfl) hmd (by decide)
  have e2 : Ev (· = q) 1 h (pI (pR h1 646517286 q (hn h)) 638128676 q k) := e1.cI (Or.inl rfl) hmd
  have w : Ev (· = q) 0 h1 (pI (pR h1 646517286 q (hn h)) 638128676 q k) := ((Ev.rf (W := (· = q)) a2.2.2.1).cR (f := 646517286) (w := hn h) (Or.inl rfl) hmd (by decide)).cI (Or.inl rfl) hmd
  have q0 : ¬ (0 = q) := fun z => by rw [← z] at hq; have := I.1.1.1; omega
  refine ⟨_, ?_, e2, if_pos ⟨rfl, rfl⟩, w.al a2.2.2.1.1 (by omega) q0 a3, gI_pI, a4, fun f hf => ?_, fun f => s.2.2.2.1 f, fun f hf => ?_⟩
  · rw [e_X6_init, c_X6_init_0 _ _ _ _ (by rw [hq]; decide) (by unfold Room at rm; exact ⟨by omega, by omega⟩) (by rw [hc_nO', if_pos rfl]; decide), a1, bnd_v, pu_n, c_X6_init_13 _ _ _ _ _ _ (i11 g9) (i11 g9)]
  · rw [rI_pI, if_neg (fun z => hf z.1)]; exact s.2.2.1 f
  · rw [rR_pI, rR_pR, if_neg (fun z => hf z.1)]; exact s.2.2.2.2.1 f
theorem f_modeInit2 (d : Nat) (I : HI h) (rm : Room 1 h) {q : Nat} (hq : hc h q = 9) (k : Int) (nx : Nat) : ∃ h1, F (d + 4) 24660115 [vR q, vI k, vR nx] h = some (.inl none, h1) ∧ Ev (· = q) 1 h h1 ∧ gR h1 646517286 q = hn h ∧ AL h1 (hn h) [] ∧ gI h1 638128676 q = k ∧ gR h1 671683110 q = nx ∧ hn h1 = hn h + 1 ∧ (∀ f, f ≠ 638128676 → gI h1 f q = gI h f q) ∧ (∀ f, gJ h1 f q = gJ h f q) ∧ (∀ f, f ≠ 646517286 → f ≠ 671683110 → gR h1 f q = gR h f q) := by
  have ql : q < hn h := I.z (by rw [hq]; decide)
  obtain ⟨h1, a1, a2, a3, a4⟩ := f_listE d I
  have s := a2.ob ql (fun z => z) (by rw [hq]; decide)
  have g9 : hc h1 q = 9 := s.1.trans hq
  have hmd : mdT (hc h1 q) = true := by rw [g9]; rfl
  have e1 : Ev (· = q) 1 h (pR h1 646517286 q (hn h)) := (a2.mono (W' := (· = q)) (fun _ _ z => z.elim) (Nat.le_refl _)).cR (Or.inl rfl) hmd (by decide)
  have e2 : Ev (· = q) 1 h (pI (pR h1 646517286 q (hn h)) 638128676 q k) := e1.cI (Or.inl rfl) hmd
  have e3 : Ev (· = q) 1 h (pR (pI (pR h1 646517286 q (hn h)) 638128676 q k) 671683110 q nx) := e2.cR (Or.inl rfl) hmd (by decide)
  have w : Ev (· = q) 0 h1 (pR (pI (pR h1 646517286 q (hn h)) 638128676 q k) 671683110 q nx) := (((Ev.rf (W := (· = q)) a2.2.2.1).cR (f := 646517286) (w := hn h) (Or.inl rfl) hmd (by decide)).cI (Or.inl rfl) hmd).cR (Or.inl rfl) hmd (by decide)
  have q0 : ¬ (0 = q) := fun z => by rw [← z] at hq; have := I.1.1.1; omega
  refine ⟨_, ?_, e3, ?_, w.al a2.2.2.1.1 (by omega) q0 a3, gI_pI, if_pos ⟨rfl, rfl⟩, a4, fun f hf => ?_, fun f => s.2.2.2.1 f, fun f hf hf2 => ?_⟩
  · rw [e_X6_init_2, c_X6_init_2_0 _ _ _ _ _ (by rw [hq]; decide) (by unfold Room at rm; exact ⟨by omega, by omega⟩) (by rw [hc_nO', if_pos rfl]; decide), a1, bnd_v, pu_n, c_X6_init_2_13 _ _ _ _ _ _ _ (i11 g9) (i11 g9)]
  · rw [rR_pR, if_neg (fun z => absurd z.1 (by decide)), rR_pI, rR_pR, if_pos ⟨rfl, rfl⟩]
  · rw [rI_pR, rI_pI, if_neg (fun z => hf z.1)]; exact s.2.2.1 f
  · rw [rR_pR, if_neg (fun z => hf2 z.1), rR_pI, rR_pR, if_neg (fun z => hf z.1)]; exact s.2.2.2.2.1 f
/-- a candidate -/
theorem f_candInit (d : Nat) {q : Nat} (hq : hc h q = 2) (k P : Int) (un : Nat) : F (d + 1) 127668260 [vR q, vI k, vI P, vR un] h = some (.inl none, pR (pI (pI h 92406792 q k) 100795400 q P) 109184010 q un) := by
  rw [e_X18_init, c_X18_init_0 _ _ _ _ _ _ (by rw [hq]; decide) (i11 hq)]
end XN
