/-! THE MODEL's CALLS AND SLICES: paths and steps -/
set_option maxRecDepth 100000
set_option maxHeartbeats 1000000
section MCA
variable {s : MS} {l : List TokE} {t o : Nat} {PR g i : Int}
theorem m6_end (M : MJ s l t o PR) (cn : CN s t o PR) (ho24 : o ≤ 24) (hg : fI s 2066437804 = g + 1) (h60 : 0 ≤ g) (h61 : g < 590) (hz : aI s 35 g = 6) (q1 : ¬ (kd l t = 5 ∧ sI l t = 40)) (q2 : ¬ (kd l t = 5 ∧ sI l t = 91)) : MCall 49896114 g s ((vI' s 35 (g) (7))) := by
  have ha : fI s 1764447916 = t := M.1.2.1
  have T := M.1.1
  have hlt : t < l.length := M.1.a
  have hl2 := T.2.1
  have ho := M.2.1
  have hbad := M.2.2.1
  have b1 : (0 : Int) ≤ t := by omega
  have b2 : (t : Int) < 490 := by omega
  have b3 : (0 : Int) ≤ (t : Int) + 1 := by omega
  have b4 : (t : Int) + 1 < 490 := by omega
  have b5 : (0 : Int) ≤ o := by omega
  have b6 : (o : Int) < 25 := by omega
  have b7 : (0 : Int) ≤ g + 1 := by omega
  have b8 : g + 1 < 601 := by omega
  have b9 : g + 1 < 600 := by omega
  have g1 : g < 600 := by omega
  obtain ⟨⟨n1, a1, s1, p1⟩, c2, c3, c4⟩ := cn
  have n2 : fI s 1915442860 < 700 := by omega
  have n3 : 0 ≤ fI s 1915442860 + 1 := by omega
  have n4 : fI s 1915442860 + 1 < 700 := by omega
  have a2 : fI s 2217432748 < 490 := by omega
  have s2 : fI s 2192266924 < 490 := by omega
  obtain ⟨e1, e2, e3, e4⟩ := T.at' hlt
  intro b m d B C
  simp (config := {implicitDefEqProofs := false}) only [e_X10_formula, k_X10_formula_0, k_X10_formula_104, k_X10_formula_109, k_X10_formula_112, k_X10_formula_117, k_X10_formula_120, k_X10_formula_127, k_X10_formula_140, k_X10_formula_151, k_X10_formula_179, k_X10_formula_191, k_X10_formula_197, k_X10_formula_200, k_X10_formula_203, k_X10_formula_219, k_X10_formula_235, k_X10_formula_240, k_X10_formula_243, k_X10_formula_254, k_X10_formula_266, k_X10_formula_272, k_X10_formula_288, k_X10_formula_294, k_X10_formula_297, k_X10_formula_300, k_X10_formula_308, k_X10_formula_323, k_X10_formula_355, k_X10_formula_359, k_X10_formula_364, e_X10_behindBase, k_X10_behindBase_0, k_X10_behindBase_6, k_X10_behindBase_9, k_X10_behindBase_15, k_X10_behindBase_18, k_X10_behindBase_24, k_X10_behindBase_29, k_X10_behindBase_32, k_X10_behindBase_33, k_X10_behindBase_38, k_X10_behindBase_43, k_X10_behindBase_45, k_X10_behindBase_52, k_X10_behindBase_62, k_X10_behindBase_85, k_X10_behindBase_90, k_X10_behindBase_92, k_X10_behindBase_99, k_X10_behindBase_101, bnd_v, bnd_x, pu_s, pu_n, b01_T, b01_F, Int.reduceEq, Int.reduceLT, Int.reduceLE, Int.reduceNe, Nat.reduceEqDiff, Nat.reduceLeDiff, and_false, false_and, and_true, true_and, or_false, false_or, or_true, true_or, if_true, if_false, not_true_eq_false, not_false_eq_true, eq_self, ne_eq, reduceCtorEq, false_implies, true_implies, implies_true, fI_uI, fI_uJ, fI_vI, fI_vJ, fJ_uI, fJ_uJ, fJ_vI, fJ_vJ, aI_uI, aI_uJ, aI_vI, aI_vJ, aJ_uI, aJ_uJ, aJ_vI, aJ_vJ, inA, mr_isSign, mr_isKept, mr_fails, mr_takeSign, mr_takeKept, mr_opens, mr_opensSign, mr_closesSign, mf_newNode, mf_newMode, mf_child, mf_push, mf_give, mf_giveRoutine, mf_giveMode, tkd, tis, tpl, fI_uI, fI_uJ, fI_vI, fI_vJ, fJ_uI, fJ_uJ, fJ_vI, fJ_vJ, aI_uI, aI_uJ, aI_vI, aI_vJ, aJ_uI, aJ_uJ, aJ_vI, aJ_vJ, fI_nodeS, aI_nodeS, aJ_nodeS, fI_modeS, aI_modeS, aJ_modeS, fI_pushS, aI_pushS, aJ_pushS, fI_giveS, aI_giveS, aJ_giveS, fI_gmodeS, aI_gmodeS, aJ_gmodeS, fI_childS, aI_childS, aJ_childS, B, mf_childD, hz, hg, ha, ho, b1, b2, b3, b4, b5, b6, b7, b8, b9, h60, g1, hbad, n1, n2, n3, n4, a1, a2, s1, s2, e1, e2, e3, e4, w32_id (x := (t : Int) + 1) (by omega) (by omega), w32_id (x := (o : Int) - 1) (by omega) (by omega), w32_id (x := (o : Int) + 1) (by omega) (by omega), q1, q2]
theorem m8_6 (M : MJ s l t o PR) (cn : CN s t o PR) (ho24 : o ≤ 24) (hg : fI s 2066437804 = g + 1) (h60 : 0 ≤ g) (h61 : g < 590) (hz : aI s 35 g = 8)  : MCall 49896114 g s ((vI' s 35 (g) (6))) := by
  have ha : fI s 1764447916 = t := M.1.2.1
  have T := M.1.1
  have hlt : t < l.length := M.1.a
  have hl2 := T.2.1
  have ho := M.2.1
  have hbad := M.2.2.1
  have b1 : (0 : Int) ≤ t := by omega
  have b2 : (t : Int) < 490 := by omega
  have b3 : (0 : Int) ≤ (t : Int) + 1 := by omega
  have b4 : (t : Int) + 1 < 490 := by omega
  have b5 : (0 : Int) ≤ o := by omega
  have b6 : (o : Int) < 25 := by omega
  have b7 : (0 : Int) ≤ g + 1 := by omega
  have b8 : g + 1 < 601 := by omega
  have b9 : g + 1 < 600 := by omega
  have g1 : g < 600 := by omega
  obtain ⟨⟨n1, a1, s1, p1⟩, c2, c3, c4⟩ := cn
  have n2 : fI s 1915442860 < 700 := by omega
  have n3 : 0 ≤ fI s 1915442860 + 1 := by omega
  have n4 : fI s 1915442860 + 1 < 700 := by omega
  have a2 : fI s 2217432748 < 490 := by omega
  have s2 : fI s 2192266924 < 490 := by omega
  obtain ⟨e1, e2, e3, e4⟩ := T.at' hlt
  intro b m d B C
  simp (config := {implicitDefEqProofs := false}) only [e_X10_formula, k_X10_formula_0, k_X10_formula_104, k_X10_formula_109, k_X10_formula_112, k_X10_formula_117, k_X10_formula_120, k_X10_formula_127, k_X10_formula_140, k_X10_formula_151, k_X10_formula_179, k_X10_formula_191, k_X10_formula_197, k_X10_formula_200, k_X10_formula_203, k_X10_formula_219, k_X10_formula_235, k_X10_formula_240, k_X10_formula_243, k_X10_formula_254, k_X10_formula_266, k_X10_formula_272, k_X10_formula_288, k_X10_formula_294, k_X10_formula_297, k_X10_formula_300, k_X10_formula_308, k_X10_formula_323, k_X10_formula_355, k_X10_formula_359, k_X10_formula_364, bnd_v, bnd_x, pu_s, pu_n, b01_T, b01_F, Int.reduceEq, Int.reduceLT, Int.reduceLE, Int.reduceNe, Nat.reduceEqDiff, Nat.reduceLeDiff, and_false, false_and, and_true, true_and, or_false, false_or, or_true, true_or, if_true, if_false, not_true_eq_false, not_false_eq_true, eq_self, ne_eq, reduceCtorEq, false_implies, true_implies, implies_true, fI_uI, fI_uJ, fI_vI, fI_vJ, fJ_uI, fJ_uJ, fJ_vI, fJ_vJ, aI_uI, aI_uJ, aI_vI, aI_vJ, aJ_uI, aJ_uJ, aJ_vI, aJ_vJ, inA, mr_isSign, mr_isKept, mr_fails, mr_takeSign, mr_takeKept, mr_opens, mr_opensSign, mr_closesSign, mf_newNode, mf_newMode, mf_child, mf_push, mf_give, mf_giveRoutine, mf_giveMode, tkd, tis, tpl, fI_uI, fI_uJ, fI_vI, fI_vJ, fJ_uI, fJ_uJ, fJ_vI, fJ_vJ, aI_uI, aI_uJ, aI_vI, aI_vJ, aJ_uI, aJ_uJ, aJ_vI, aJ_vJ, fI_nodeS, aI_nodeS, aJ_nodeS, fI_modeS, aI_modeS, aJ_modeS, fI_pushS, aI_pushS, aJ_pushS, fI_giveS, aI_giveS, aJ_giveS, fI_gmodeS, aI_gmodeS, aJ_gmodeS, fI_childS, aI_childS, aJ_childS, B, mf_childD, hz, hg, ha, ho, b1, b2, b3, b4, b5, b6, b7, b8, b9, h60, g1, hbad, n1, n2, n3, n4, a1, a2, s1, s2, e1, e2, e3, e4, w32_id (x := (t : Int) + 1) (by omega) (by omega), w32_id (x := (o : Int) - 1) (by omega) (by omega), w32_id (x := (o : Int) + 1) (by omega) (by omega)]
theorem m6_callF (M : MJ s l t o PR) (cn : CN s t o PR) (ho24 : o ≤ 24) (hg : fI s 2066437804 = g + 1) (h60 : 0 ≤ g) (h61 : g < 590) (hz : aI s 35 g = 6) (q : kd l t = 5) (r : sI l t = 40) (qo : o = 24) : MCall 49896114 g s ((uI s 1772836524 (pl l t))) := by
  have ha : fI s 1764447916 = t := M.1.2.1
  have T := M.1.1
  have hlt : t < l.length := M.1.a
  have hl2 := T.2.1
  have ho := M.2.1
  have hbad := M.2.2.1
  have b1 : (0 : Int) ≤ t := by omega
  have b2 : (t : Int) < 490 := by omega
  have b3 : (0 : Int) ≤ (t : Int) + 1 := by omega
  have b4 : (t : Int) + 1 < 490 := by omega
  have b5 : (0 : Int) ≤ o := by omega
  have b6 : (o : Int) < 25 := by omega
  have b7 : (0 : Int) ≤ g + 1 := by omega
  have b8 : g + 1 < 601 := by omega
  have b9 : g + 1 < 600 := by omega
  have g1 : g < 600 := by omega
  obtain ⟨⟨n1, a1, s1, p1⟩, c2, c3, c4⟩ := cn
  have n2 : fI s 1915442860 < 700 := by omega
  have n3 : 0 ≤ fI s 1915442860 + 1 := by omega
  have n4 : fI s 1915442860 + 1 < 700 := by omega
  have a2 : fI s 2217432748 < 490 := by omega
  have s2 : fI s 2192266924 < 490 := by omega
  obtain ⟨e1, e2, e3, e4⟩ := T.at' hlt
  have yo : (o : Int) = 24 := by omega
  intro b m d B C
  simp (config := {implicitDefEqProofs := false}) only [e_X10_formula, k_X10_formula_0, k_X10_formula_104, k_X10_formula_109, k_X10_formula_112, k_X10_formula_117, k_X10_formula_120, k_X10_formula_127, k_X10_formula_140, k_X10_formula_151, k_X10_formula_179, k_X10_formula_191, k_X10_formula_197, k_X10_formula_200, k_X10_formula_203, k_X10_formula_219, k_X10_formula_235, k_X10_formula_240, k_X10_formula_243, k_X10_formula_254, k_X10_formula_266, k_X10_formula_272, k_X10_formula_288, k_X10_formula_294, k_X10_formula_297, k_X10_formula_300, k_X10_formula_308, k_X10_formula_323, k_X10_formula_355, k_X10_formula_359, k_X10_formula_364, e_X10_behindBase, k_X10_behindBase_0, k_X10_behindBase_6, k_X10_behindBase_9, k_X10_behindBase_15, k_X10_behindBase_18, k_X10_behindBase_24, k_X10_behindBase_29, k_X10_behindBase_32, k_X10_behindBase_33, k_X10_behindBase_38, k_X10_behindBase_43, k_X10_behindBase_45, k_X10_behindBase_52, k_X10_behindBase_62, k_X10_behindBase_85, k_X10_behindBase_90, k_X10_behindBase_92, k_X10_behindBase_99, k_X10_behindBase_101, bnd_v, bnd_x, pu_s, pu_n, b01_T, b01_F, Int.reduceEq, Int.reduceLT, Int.reduceLE, Int.reduceNe, Nat.reduceEqDiff, Nat.reduceLeDiff, and_false, false_and, and_true, true_and, or_false, false_or, or_true, true_or, if_true, if_false, not_true_eq_false, not_false_eq_true, eq_self, ne_eq, reduceCtorEq, false_implies, true_implies, implies_true, fI_uI, fI_uJ, fI_vI, fI_vJ, fJ_uI, fJ_uJ, fJ_vI, fJ_vJ, aI_uI, aI_uJ, aI_vI, aI_vJ, aJ_uI, aJ_uJ, aJ_vI, aJ_vJ, inA, mr_isSign, mr_isKept, mr_fails, mr_takeSign, mr_takeKept, mr_opens, mr_opensSign, mr_closesSign, mf_newNode, mf_newMode, mf_child, mf_push, mf_give, mf_giveRoutine, mf_giveMode, tkd, tis, tpl, fI_uI, fI_uJ, fI_vI, fI_vJ, fJ_uI, fJ_uJ, fJ_vI, fJ_vJ, aI_uI, aI_uJ, aI_vI, aI_vJ, aJ_uI, aJ_uJ, aJ_vI, aJ_vJ, fI_nodeS, aI_nodeS, aJ_nodeS, fI_modeS, aI_modeS, aJ_modeS, fI_pushS, aI_pushS, aJ_pushS, fI_giveS, aI_giveS, aJ_giveS, fI_gmodeS, aI_gmodeS, aJ_gmodeS, fI_childS, aI_childS, aJ_childS, B, mf_childD, hz, hg, ha, ho, b1, b2, b3, b4, b5, b6, b7, b8, b9, h60, g1, hbad, n1, n2, n3, n4, a1, a2, s1, s2, e1, e2, e3, e4, w32_id (x := (t : Int) + 1) (by omega) (by omega), w32_id (x := (o : Int) - 1) (by omega) (by omega), w32_id (x := (o : Int) + 1) (by omega) (by omega), q, r, yo]
theorem m6_call (M : MJ s l t o PR) (cn : CN s t o PR) (ho24 : o ≤ 24) (hg : fI s 2066437804 = g + 1) (h60 : 0 ≤ g) (h61 : g < 590) (hz : aI s 35 g = 6) (q : kd l t = 5) (r : sI l t = 40) (qo : o < 24) : MCall 49896114 g s ((pushS (vI' (uI (childS (nodeS (uI s 1781225132 ((o : Int) + 1)) 20 (t)) (fI s 1915442860) (fI s 2125158060)) 1764447916 ((t : Int) + 1)) 35 (g) (8)) 8 0 (fI s 1915442860) (0) (0))) := by
  have ha : fI s 1764447916 = t := M.1.2.1
  have T := M.1.1
  have hlt : t < l.length := M.1.a
  have hl2 := T.2.1
  have ho := M.2.1
  have hbad := M.2.2.1
  have b1 : (0 : Int) ≤ t := by omega
  have b2 : (t : Int) < 490 := by omega
  have b3 : (0 : Int) ≤ (t : Int) + 1 := by omega
  have b4 : (t : Int) + 1 < 490 := by omega
  have b5 : (0 : Int) ≤ o := by omega
  have b6 : (o : Int) < 25 := by omega
  have b7 : (0 : Int) ≤ g + 1 := by omega
  have b8 : g + 1 < 601 := by omega
  have b9 : g + 1 < 600 := by omega
  have g1 : g < 600 := by omega
  obtain ⟨⟨n1, a1, s1, p1⟩, c2, c3, c4⟩ := cn
  have n2 : fI s 1915442860 < 700 := by omega
  have n3 : 0 ≤ fI s 1915442860 + 1 := by omega
  have n4 : fI s 1915442860 + 1 < 700 := by omega
  have a2 : fI s 2217432748 < 490 := by omega
  have s2 : fI s 2192266924 < 490 := by omega
  obtain ⟨e1, e2, e3, e4⟩ := T.at' hlt
  have no24 : ¬ (o : Int) = 24 := by omega
  intro b m d B C
  simp (config := {implicitDefEqProofs := false}) only [e_X10_formula, k_X10_formula_0, k_X10_formula_104, k_X10_formula_109, k_X10_formula_112, k_X10_formula_117, k_X10_formula_120, k_X10_formula_127, k_X10_formula_140, k_X10_formula_151, k_X10_formula_179, k_X10_formula_191, k_X10_formula_197, k_X10_formula_200, k_X10_formula_203, k_X10_formula_219, k_X10_formula_235, k_X10_formula_240, k_X10_formula_243, k_X10_formula_254, k_X10_formula_266, k_X10_formula_272, k_X10_formula_288, k_X10_formula_294, k_X10_formula_297, k_X10_formula_300, k_X10_formula_308, k_X10_formula_323, k_X10_formula_355, k_X10_formula_359, k_X10_formula_364, e_X10_behindBase, k_X10_behindBase_0, k_X10_behindBase_6, k_X10_behindBase_9, k_X10_behindBase_15, k_X10_behindBase_18, k_X10_behindBase_24, k_X10_behindBase_29, k_X10_behindBase_32, k_X10_behindBase_33, k_X10_behindBase_38, k_X10_behindBase_43, k_X10_behindBase_45, k_X10_behindBase_52, k_X10_behindBase_62, k_X10_behindBase_85, k_X10_behindBase_90, k_X10_behindBase_92, k_X10_behindBase_99, k_X10_behindBase_101, bnd_v, bnd_x, pu_s, pu_n, b01_T, b01_F, Int.reduceEq, Int.reduceLT, Int.reduceLE, Int.reduceNe, Nat.reduceEqDiff, Nat.reduceLeDiff, and_false, false_and, and_true, true_and, or_false, false_or, or_true, true_or, if_true, if_false, not_true_eq_false, not_false_eq_true, eq_self, ne_eq, reduceCtorEq, false_implies, true_implies, implies_true, fI_uI, fI_uJ, fI_vI, fI_vJ, fJ_uI, fJ_uJ, fJ_vI, fJ_vJ, aI_uI, aI_uJ, aI_vI, aI_vJ, aJ_uI, aJ_uJ, aJ_vI, aJ_vJ, inA, mr_isSign, mr_isKept, mr_fails, mr_takeSign, mr_takeKept, mr_opens, mr_opensSign, mr_closesSign, mf_newNode, mf_newMode, mf_child, mf_push, mf_give, mf_giveRoutine, mf_giveMode, tkd, tis, tpl, fI_uI, fI_uJ, fI_vI, fI_vJ, fJ_uI, fJ_uJ, fJ_vI, fJ_vJ, aI_uI, aI_uJ, aI_vI, aI_vJ, aJ_uI, aJ_uJ, aJ_vI, aJ_vJ, fI_nodeS, aI_nodeS, aJ_nodeS, fI_modeS, aI_modeS, aJ_modeS, fI_pushS, aI_pushS, aJ_pushS, fI_giveS, aI_giveS, aJ_giveS, fI_gmodeS, aI_gmodeS, aJ_gmodeS, fI_childS, aI_childS, aJ_childS, B, mf_childD, hz, hg, ha, ho, b1, b2, b3, b4, b5, b6, b7, b8, b9, h60, g1, hbad, n1, n2, n3, n4, a1, a2, s1, s2, e1, e2, e3, e4, w32_id (x := (t : Int) + 1) (by omega) (by omega), w32_id (x := (o : Int) - 1) (by omega) (by omega), w32_id (x := (o : Int) + 1) (by omega) (by omega), q, r, no24]
theorem m6_idxF (M : MJ s l t o PR) (cn : CN s t o PR) (ho24 : o ≤ 24) (hg : fI s 2066437804 = g + 1) (h60 : 0 ≤ g) (h61 : g < 590) (hz : aI s 35 g = 6) (q : kd l t = 5) (r : sI l t = 91) (qo : o = 24) : MCall 49896114 g s ((uI s 1772836524 (pl l t))) := by
  have ha : fI s 1764447916 = t := M.1.2.1
  have T := M.1.1
  have hlt : t < l.length := M.1.a
  have hl2 := T.2.1
  have ho := M.2.1
  have hbad := M.2.2.1
  have b1 : (0 : Int) ≤ t := by omega
  have b2 : (t : Int) < 490 := by omega
  have b3 : (0 : Int) ≤ (t : Int) + 1 := by omega
  have b4 : (t : Int) + 1 < 490 := by omega
  have b5 : (0 : Int) ≤ o := by omega
  have b6 : (o : Int) < 25 := by omega
  have b7 : (0 : Int) ≤ g + 1 := by omega
  have b8 : g + 1 < 601 := by omega
  have b9 : g + 1 < 600 := by omega
  have g1 : g < 600 := by omega
  obtain ⟨⟨n1, a1, s1, p1⟩, c2, c3, c4⟩ := cn
  have n2 : fI s 1915442860 < 700 := by omega
  have n3 : 0 ≤ fI s 1915442860 + 1 := by omega
  have n4 : fI s 1915442860 + 1 < 700 := by omega
  have a2 : fI s 2217432748 < 490 := by omega
  have s2 : fI s 2192266924 < 490 := by omega
  obtain ⟨e1, e2, e3, e4⟩ := T.at' hlt
  have yo : (o : Int) = 24 := by omega
  intro b m d B C
  simp (config := {implicitDefEqProofs := false}) only [e_X10_formula, k_X10_formula_0, k_X10_formula_104, k_X10_formula_109, k_X10_formula_112, k_X10_formula_117, k_X10_formula_120, k_X10_formula_127, k_X10_formula_140, k_X10_formula_151, k_X10_formula_179, k_X10_formula_191, k_X10_formula_197, k_X10_formula_200, k_X10_formula_203, k_X10_formula_219, k_X10_formula_235, k_X10_formula_240, k_X10_formula_243, k_X10_formula_254, k_X10_formula_266, k_X10_formula_272, k_X10_formula_288, k_X10_formula_294, k_X10_formula_297, k_X10_formula_300, k_X10_formula_308, k_X10_formula_323, k_X10_formula_355, k_X10_formula_359, k_X10_formula_364, e_X10_behindBase, k_X10_behindBase_0, k_X10_behindBase_6, k_X10_behindBase_9, k_X10_behindBase_15, k_X10_behindBase_18, k_X10_behindBase_24, k_X10_behindBase_29, k_X10_behindBase_32, k_X10_behindBase_33, k_X10_behindBase_38, k_X10_behindBase_43, k_X10_behindBase_45, k_X10_behindBase_52, k_X10_behindBase_62, k_X10_behindBase_85, k_X10_behindBase_90, k_X10_behindBase_92, k_X10_behindBase_99, k_X10_behindBase_101, bnd_v, bnd_x, pu_s, pu_n, b01_T, b01_F, Int.reduceEq, Int.reduceLT, Int.reduceLE, Int.reduceNe, Nat.reduceEqDiff, Nat.reduceLeDiff, and_false, false_and, and_true, true_and, or_false, false_or, or_true, true_or, if_true, if_false, not_true_eq_false, not_false_eq_true, eq_self, ne_eq, reduceCtorEq, false_implies, true_implies, implies_true, fI_uI, fI_uJ, fI_vI, fI_vJ, fJ_uI, fJ_uJ, fJ_vI, fJ_vJ, aI_uI, aI_uJ, aI_vI, aI_vJ, aJ_uI, aJ_uJ, aJ_vI, aJ_vJ, inA, mr_isSign, mr_isKept, mr_fails, mr_takeSign, mr_takeKept, mr_opens, mr_opensSign, mr_closesSign, mf_newNode, mf_newMode, mf_child, mf_push, mf_give, mf_giveRoutine, mf_giveMode, tkd, tis, tpl, fI_uI, fI_uJ, fI_vI, fI_vJ, fJ_uI, fJ_uJ, fJ_vI, fJ_vJ, aI_uI, aI_uJ, aI_vI, aI_vJ, aJ_uI, aJ_uJ, aJ_vI, aJ_vJ, fI_nodeS, aI_nodeS, aJ_nodeS, fI_modeS, aI_modeS, aJ_modeS, fI_pushS, aI_pushS, aJ_pushS, fI_giveS, aI_giveS, aJ_giveS, fI_gmodeS, aI_gmodeS, aJ_gmodeS, fI_childS, aI_childS, aJ_childS, B, mf_childD, hz, hg, ha, ho, b1, b2, b3, b4, b5, b6, b7, b8, b9, h60, g1, hbad, n1, n2, n3, n4, a1, a2, s1, s2, e1, e2, e3, e4, w32_id (x := (t : Int) + 1) (by omega) (by omega), w32_id (x := (o : Int) - 1) (by omega) (by omega), w32_id (x := (o : Int) + 1) (by omega) (by omega), q, r, yo]
theorem m6_idx (M : MJ s l t o PR) (cn : CN s t o PR) (ho24 : o ≤ 24) (hg : fI s 2066437804 = g + 1) (h60 : 0 ≤ g) (h61 : g < 590) (hz : aI s 35 g = 6) (q : kd l t = 5) (r : sI l t = 91) (qo : o < 24) : MCall 49896114 g s ((pushS (vI' (uI (childS (nodeS (uI s 1781225132 ((o : Int) + 1)) 21 (t)) (fI s 1915442860) (fI s 2125158060)) 1764447916 ((t : Int) + 1)) 35 (g) (8)) 9 0 (fI s 1915442860) (0) (0))) := by
  have ha : fI s 1764447916 = t := M.1.2.1
  have T := M.1.1
  have hlt : t < l.length := M.1.a
  have hl2 := T.2.1
  have ho := M.2.1
  have hbad := M.2.2.1
  have b1 : (0 : Int) ≤ t := by omega
  have b2 : (t : Int) < 490 := by omega
  have b3 : (0 : Int) ≤ (t : Int) + 1 := by omega
  have b4 : (t : Int) + 1 < 490 := by omega
  have b5 : (0 : Int) ≤ o := by omega
  have b6 : (o : Int) < 25 := by omega
  have b7 : (0 : Int) ≤ g + 1 := by omega
  have b8 : g + 1 < 601 := by omega
  have b9 : g + 1 < 600 := by omega
  have g1 : g < 600 := by omega
  obtain ⟨⟨n1, a1, s1, p1⟩, c2, c3, c4⟩ := cn
  have n2 : fI s 1915442860 < 700 := by omega
  have n3 : 0 ≤ fI s 1915442860 + 1 := by omega
  have n4 : fI s 1915442860 + 1 < 700 := by omega
  have a2 : fI s 2217432748 < 490 := by omega
  have s2 : fI s 2192266924 < 490 := by omega
  obtain ⟨e1, e2, e3, e4⟩ := T.at' hlt
  have no24 : ¬ (o : Int) = 24 := by omega
  intro b m d B C
  simp (config := {implicitDefEqProofs := false}) only [e_X10_formula, k_X10_formula_0, k_X10_formula_104, k_X10_formula_109, k_X10_formula_112, k_X10_formula_117, k_X10_formula_120, k_X10_formula_127, k_X10_formula_140, k_X10_formula_151, k_X10_formula_179, k_X10_formula_191, k_X10_formula_197, k_X10_formula_200, k_X10_formula_203, k_X10_formula_219, k_X10_formula_235, k_X10_formula_240, k_X10_formula_243, k_X10_formula_254, k_X10_formula_266, k_X10_formula_272, k_X10_formula_288, k_X10_formula_294, k_X10_formula_297, k_X10_formula_300, k_X10_formula_308, k_X10_formula_323, k_X10_formula_355, k_X10_formula_359, k_X10_formula_364, e_X10_behindBase, k_X10_behindBase_0, k_X10_behindBase_6, k_X10_behindBase_9, k_X10_behindBase_15, k_X10_behindBase_18, k_X10_behindBase_24, k_X10_behindBase_29, k_X10_behindBase_32, k_X10_behindBase_33, k_X10_behindBase_38, k_X10_behindBase_43, k_X10_behindBase_45, k_X10_behindBase_52, k_X10_behindBase_62, k_X10_behindBase_85, k_X10_behindBase_90, k_X10_behindBase_92, k_X10_behindBase_99, k_X10_behindBase_101, bnd_v, bnd_x, pu_s, pu_n, b01_T, b01_F, Int.reduceEq, Int.reduceLT, Int.reduceLE, Int.reduceNe, Nat.reduceEqDiff, Nat.reduceLeDiff, and_false, false_and, and_true, true_and, or_false, false_or, or_true, true_or, if_true, if_false, not_true_eq_false, not_false_eq_true, eq_self, ne_eq, reduceCtorEq, false_implies, true_implies, implies_true, fI_uI, fI_uJ, fI_vI, fI_vJ, fJ_uI, fJ_uJ, fJ_vI, fJ_vJ, aI_uI, aI_uJ, aI_vI, aI_vJ, aJ_uI, aJ_uJ, aJ_vI, aJ_vJ, inA, mr_isSign, mr_isKept, mr_fails, mr_takeSign, mr_takeKept, mr_opens, mr_opensSign, mr_closesSign, mf_newNode, mf_newMode, mf_child, mf_push, mf_give, mf_giveRoutine, mf_giveMode, tkd, tis, tpl, fI_uI, fI_uJ, fI_vI, fI_vJ, fJ_uI, fJ_uJ, fJ_vI, fJ_vJ, aI_uI, aI_uJ, aI_vI, aI_vJ, aJ_uI, aJ_uJ, aJ_vI, aJ_vJ, fI_nodeS, aI_nodeS, aJ_nodeS, fI_modeS, aI_modeS, aJ_modeS, fI_pushS, aI_pushS, aJ_pushS, fI_giveS, aI_giveS, aJ_giveS, fI_gmodeS, aI_gmodeS, aJ_gmodeS, fI_childS, aI_childS, aJ_childS, B, mf_childD, hz, hg, ha, ho, b1, b2, b3, b4, b5, b6, b7, b8, b9, h60, g1, hbad, n1, n2, n3, n4, a1, a2, s1, s2, e1, e2, e3, e4, w32_id (x := (t : Int) + 1) (by omega) (by omega), w32_id (x := (o : Int) - 1) (by omega) (by omega), w32_id (x := (o : Int) + 1) (by omega) (by omega), q, r, no24]
theorem mc0 (M : MJ s l t o PR) (cn : CN s t o PR) (ho24 : o ≤ 24) (hg : fI s 2066437804 = g + 1) (h60 : 0 ≤ g) (h61 : g < 590) (hz : aI s 35 g = 0) (q : aI s 37 g = 0) : MCall 56449714 g s ((pushS (vI' (vI' s 37 (g) (1)) 35 (g) (1)) 2 0 (0) (0) (0))) := by
  have ha : fI s 1764447916 = t := M.1.2.1
  have T := M.1.1
  have hlt : t < l.length := M.1.a
  have hl2 := T.2.1
  have ho := M.2.1
  have hbad := M.2.2.1
  have b1 : (0 : Int) ≤ t := by omega
  have b2 : (t : Int) < 490 := by omega
  have b3 : (0 : Int) ≤ (t : Int) + 1 := by omega
  have b4 : (t : Int) + 1 < 490 := by omega
  have b5 : (0 : Int) ≤ o := by omega
  have b6 : (o : Int) < 25 := by omega
  have b7 : (0 : Int) ≤ g + 1 := by omega
  have b8 : g + 1 < 601 := by omega
  have b9 : g + 1 < 600 := by omega
  have g1 : g < 600 := by omega
  obtain ⟨⟨n1, a1, s1, p1⟩, c2, c3, c4⟩ := cn
  have n2 : fI s 1915442860 < 700 := by omega
  have n3 : 0 ≤ fI s 1915442860 + 1 := by omega
  have n4 : fI s 1915442860 + 1 < 700 := by omega
  have a2 : fI s 2217432748 < 490 := by omega
  have s2 : fI s 2192266924 < 490 := by omega
  obtain ⟨e1, e2, e3, e4⟩ := T.at' hlt
  intro b m d B C
  simp (config := {implicitDefEqProofs := false}) only [e_X10_call, k_X10_call_0, k_X10_call_10, k_X10_call_24, k_X10_call_30, k_X10_call_33, k_X10_call_39, k_X10_call_42, k_X10_call_52, k_X10_call_53, k_X10_call_63, k_X10_call_74, k_X10_call_78, k_X10_call_80, k_X10_call_106, bnd_v, bnd_x, pu_s, pu_n, b01_T, b01_F, Int.reduceEq, Int.reduceLT, Int.reduceLE, Int.reduceNe, Nat.reduceEqDiff, Nat.reduceLeDiff, and_false, false_and, and_true, true_and, or_false, false_or, or_true, true_or, if_true, if_false, not_true_eq_false, not_false_eq_true, eq_self, ne_eq, reduceCtorEq, false_implies, true_implies, implies_true, fI_uI, fI_uJ, fI_vI, fI_vJ, fJ_uI, fJ_uJ, fJ_vI, fJ_vJ, aI_uI, aI_uJ, aI_vI, aI_vJ, aJ_uI, aJ_uJ, aJ_vI, aJ_vJ, inA, mr_isSign, mr_isKept, mr_fails, mr_takeSign, mr_takeKept, mr_opens, mr_opensSign, mr_closesSign, mf_newNode, mf_newMode, mf_child, mf_push, mf_give, mf_giveRoutine, mf_giveMode, tkd, tis, tpl, fI_uI, fI_uJ, fI_vI, fI_vJ, fJ_uI, fJ_uJ, fJ_vI, fJ_vJ, aI_uI, aI_uJ, aI_vI, aI_vJ, aJ_uI, aJ_uJ, aJ_vI, aJ_vJ, fI_nodeS, aI_nodeS, aJ_nodeS, fI_modeS, aI_modeS, aJ_modeS, fI_pushS, aI_pushS, aJ_pushS, fI_giveS, aI_giveS, aJ_giveS, fI_gmodeS, aI_gmodeS, aJ_gmodeS, fI_childS, aI_childS, aJ_childS, B, mf_childD, hz, hg, ha, ho, b1, b2, b3, b4, b5, b6, b7, b8, b9, h60, g1, hbad, n1, n2, n3, n4, a1, a2, s1, s2, e1, e2, e3, e4, w32_id (x := (t : Int) + 1) (by omega) (by omega), w32_id (x := (o : Int) - 1) (by omega) (by omega), w32_id (x := (o : Int) + 1) (by omega) (by omega), q, show w32 (0 + 1) = 1 from by decide]
theorem mc1_co (M : MJ s l t o PR) (cn : CN s t o PR) (ho24 : o ≤ 24) (hg : fI s 2066437804 = g + 1) (h60 : 0 ≤ g) (h61 : g < 590) (hz : aI s 35 g = 1) (d1 : 0 ≤ aI s 36 g) (d2 : aI s 36 g < 700) (hl : aI s 20 (aI s 36 g) = -1 ∨ (0 ≤ aI s 21 (aI s 36 g) ∧ aI s 21 (aI s 36 g) < 700)) (q : kd l t = 5) (r : sI l t = 44) (q8 : ¬ aI s 37 g = 8) (q9 : 0 ≤ aI s 37 g) (q10 : aI s 37 g < 1000) : MCall 56449714 g s ((pushS (vI' (vI' (uI (childS s (aI s 36 g) (fI s 2125158060)) 1764447916 ((t : Int) + 1)) 37 (g) (aI s 37 g + 1)) 35 (g) (1)) 2 0 (0) (0) (0))) := by
  have ha : fI s 1764447916 = t := M.1.2.1
  have T := M.1.1
  have hlt : t < l.length := M.1.a
  have hl2 := T.2.1
  have ho := M.2.1
  have hbad := M.2.2.1
  have b1 : (0 : Int) ≤ t := by omega
  have b2 : (t : Int) < 490 := by omega
  have b3 : (0 : Int) ≤ (t : Int) + 1 := by omega
  have b4 : (t : Int) + 1 < 490 := by omega
  have b5 : (0 : Int) ≤ o := by omega
  have b6 : (o : Int) < 25 := by omega
  have b7 : (0 : Int) ≤ g + 1 := by omega
  have b8 : g + 1 < 601 := by omega
  have b9 : g + 1 < 600 := by omega
  have g1 : g < 600 := by omega
  obtain ⟨⟨n1, a1, s1, p1⟩, c2, c3, c4⟩ := cn
  have n2 : fI s 1915442860 < 700 := by omega
  have n3 : 0 ≤ fI s 1915442860 + 1 := by omega
  have n4 : fI s 1915442860 + 1 < 700 := by omega
  have a2 : fI s 2217432748 < 490 := by omega
  have s2 : fI s 2192266924 < 490 := by omega
  obtain ⟨e1, e2, e3, e4⟩ := T.at' hlt
  intro b m d B C
  simp (config := {implicitDefEqProofs := false}) only [e_X10_call, k_X10_call_0, k_X10_call_10, k_X10_call_24, k_X10_call_30, k_X10_call_33, k_X10_call_39, k_X10_call_42, k_X10_call_52, k_X10_call_53, k_X10_call_63, k_X10_call_74, k_X10_call_78, k_X10_call_80, k_X10_call_106, bnd_v, bnd_x, pu_s, pu_n, b01_T, b01_F, Int.reduceEq, Int.reduceLT, Int.reduceLE, Int.reduceNe, Nat.reduceEqDiff, Nat.reduceLeDiff, and_false, false_and, and_true, true_and, or_false, false_or, or_true, true_or, if_true, if_false, not_true_eq_false, not_false_eq_true, eq_self, ne_eq, reduceCtorEq, false_implies, true_implies, implies_true, fI_uI, fI_uJ, fI_vI, fI_vJ, fJ_uI, fJ_uJ, fJ_vI, fJ_vJ, aI_uI, aI_uJ, aI_vI, aI_vJ, aJ_uI, aJ_uJ, aJ_vI, aJ_vJ, inA, mr_isSign, mr_isKept, mr_fails, mr_takeSign, mr_takeKept, mr_opens, mr_opensSign, mr_closesSign, mf_newNode, mf_newMode, mf_child, mf_push, mf_give, mf_giveRoutine, mf_giveMode, tkd, tis, tpl, fI_uI, fI_uJ, fI_vI, fI_vJ, fJ_uI, fJ_uJ, fJ_vI, fJ_vJ, aI_uI, aI_uJ, aI_vI, aI_vJ, aJ_uI, aJ_uJ, aJ_vI, aJ_vJ, fI_nodeS, aI_nodeS, aJ_nodeS, fI_modeS, aI_modeS, aJ_modeS, fI_pushS, aI_pushS, aJ_pushS, fI_giveS, aI_giveS, aJ_giveS, fI_gmodeS, aI_gmodeS, aJ_gmodeS, fI_childS, aI_childS, aJ_childS, B, mf_childD, hz, hg, ha, ho, b1, b2, b3, b4, b5, b6, b7, b8, b9, h60, g1, hbad, n1, n2, n3, n4, a1, a2, s1, s2, e1, e2, e3, e4, w32_id (x := (t : Int) + 1) (by omega) (by omega), w32_id (x := (o : Int) - 1) (by omega) (by omega), w32_id (x := (o : Int) + 1) (by omega) (by omega), d1, d2, hl, q, r, q8, w32_id (x := aI s 37 g + 1) (by omega) (by omega)]
theorem mc1_coF (M : MJ s l t o PR) (cn : CN s t o PR) (ho24 : o ≤ 24) (hg : fI s 2066437804 = g + 1) (h60 : 0 ≤ g) (h61 : g < 590) (hz : aI s 35 g = 1) (d1 : 0 ≤ aI s 36 g) (d2 : aI s 36 g < 700) (hl : aI s 20 (aI s 36 g) = -1 ∨ (0 ≤ aI s 21 (aI s 36 g) ∧ aI s 21 (aI s 36 g) < 700)) (q : kd l t = 5) (r : sI l t = 44) (hl1 : t + 1 < l.length) (q8 : aI s 37 g = 8) : MCall 56449714 g s ((uI (uI (childS s (aI s 36 g) (fI s 2125158060)) 1764447916 ((t : Int) + 1)) 1772836524 (pl l (t + 1)))) := by
  have ha : fI s 1764447916 = t := M.1.2.1
  have T := M.1.1
  have hlt : t < l.length := M.1.a
  have hl2 := T.2.1
  have ho := M.2.1
  have hbad := M.2.2.1
  have b1 : (0 : Int) ≤ t := by omega
  have b2 : (t : Int) < 490 := by omega
  have b3 : (0 : Int) ≤ (t : Int) + 1 := by omega
  have b4 : (t : Int) + 1 < 490 := by omega
  have b5 : (0 : Int) ≤ o := by omega
  have b6 : (o : Int) < 25 := by omega
  have b7 : (0 : Int) ≤ g + 1 := by omega
  have b8 : g + 1 < 601 := by omega
  have b9 : g + 1 < 600 := by omega
  have g1 : g < 600 := by omega
  obtain ⟨⟨n1, a1, s1, p1⟩, c2, c3, c4⟩ := cn
  have n2 : fI s 1915442860 < 700 := by omega
  have n3 : 0 ≤ fI s 1915442860 + 1 := by omega
  have n4 : fI s 1915442860 + 1 < 700 := by omega
  have a2 : fI s 2217432748 < 490 := by omega
  have s2 : fI s 2192266924 < 490 := by omega
  obtain ⟨e1, e2, e3, e4⟩ := T.at' hlt
  obtain ⟨f1, f2, f3, f4⟩ := T.at' hl1
  rw [show ((t + 1 : Nat) : Int) = (t : Int) + 1 by omega] at f1 f2 f3 f4
  have b10 : (0 : Int) ≤ (t : Int) + 1 + 1 := by omega
  have b11 : (t : Int) + 1 + 1 < 490 := by omega
  intro b m d B C
  simp (config := {implicitDefEqProofs := false}) only [e_X10_call, k_X10_call_0, k_X10_call_10, k_X10_call_24, k_X10_call_30, k_X10_call_33, k_X10_call_39, k_X10_call_42, k_X10_call_52, k_X10_call_53, k_X10_call_63, k_X10_call_74, k_X10_call_78, k_X10_call_80, k_X10_call_106, bnd_v, bnd_x, pu_s, pu_n, b01_T, b01_F, Int.reduceEq, Int.reduceLT, Int.reduceLE, Int.reduceNe, Nat.reduceEqDiff, Nat.reduceLeDiff, and_false, false_and, and_true, true_and, or_false, false_or, or_true, true_or, if_true, if_false, not_true_eq_false, not_false_eq_true, eq_self, ne_eq, reduceCtorEq, false_implies, true_implies, implies_true, fI_uI, fI_uJ, fI_vI, fI_vJ, fJ_uI, fJ_uJ, fJ_vI, fJ_vJ, aI_uI, aI_uJ, aI_vI, aI_vJ, aJ_uI, aJ_uJ, aJ_vI, aJ_vJ, inA, mr_isSign, mr_isKept, mr_fails, mr_takeSign, mr_takeKept, mr_opens, mr_opensSign, mr_closesSign, mf_newNode, mf_newMode, mf_child, mf_push, mf_give, mf_giveRoutine, mf_giveMode, tkd, tis, tpl, fI_uI, fI_uJ, fI_vI, fI_vJ, fJ_uI, fJ_uJ, fJ_vI, fJ_vJ, aI_uI, aI_uJ, aI_vI, aI_vJ, aJ_uI, aJ_uJ, aJ_vI, aJ_vJ, fI_nodeS, aI_nodeS, aJ_nodeS, fI_modeS, aI_modeS, aJ_modeS, fI_pushS, aI_pushS, aJ_pushS, fI_giveS, aI_giveS, aJ_giveS, fI_gmodeS, aI_gmodeS, aJ_gmodeS, fI_childS, aI_childS, aJ_childS, B, mf_childD, hz, hg, ha, ho, b1, b2, b3, b4, b5, b6, b7, b8, b9, h60, g1, hbad, n1, n2, n3, n4, a1, a2, s1, s2, e1, e2, e3, e4, w32_id (x := (t : Int) + 1) (by omega) (by omega), w32_id (x := (o : Int) - 1) (by omega) (by omega), w32_id (x := (o : Int) + 1) (by omega) (by omega), f1, f2, f3, f4, b10, b11, d1, d2, hl, q, r, q8]
theorem mc1_cp (M : MJ s l t o PR) (cn : CN s t o PR) (ho24 : o ≤ 24) (hg : fI s 2066437804 = g + 1) (h60 : 0 ≤ g) (h61 : g < 590) (hz : aI s 35 g = 1) (d1 : 0 ≤ aI s 36 g) (d2 : aI s 36 g < 700) (hl : aI s 20 (aI s 36 g) = -1 ∨ (0 ≤ aI s 21 (aI s 36 g) ∧ aI s 21 (aI s 36 g) < 700)) (q : kd l t = 5) (r : sI l t = 41) (qo : 0 < o) : MCall 56449714 g s ((giveS (uI (uI (childS s (aI s 36 g) (fI s 2125158060)) 1764447916 ((t : Int) + 1)) 1781225132 ((o : Int) - 1)) (aI s 36 g) 0)) := by
  have ha : fI s 1764447916 = t := M.1.2.1
  have T := M.1.1
  have hlt : t < l.length := M.1.a
  have hl2 := T.2.1
  have ho := M.2.1
  have hbad := M.2.2.1
  have b1 : (0 : Int) ≤ t := by omega
  have b2 : (t : Int) < 490 := by omega
  have b3 : (0 : Int) ≤ (t : Int) + 1 := by omega
  have b4 : (t : Int) + 1 < 490 := by omega
  have b5 : (0 : Int) ≤ o := by omega
  have b6 : (o : Int) < 25 := by omega
  have b7 : (0 : Int) ≤ g + 1 := by omega
  have b8 : g + 1 < 601 := by omega
  have b9 : g + 1 < 600 := by omega
  have g1 : g < 600 := by omega
  obtain ⟨⟨n1, a1, s1, p1⟩, c2, c3, c4⟩ := cn
  have n2 : fI s 1915442860 < 700 := by omega
  have n3 : 0 ≤ fI s 1915442860 + 1 := by omega
  have n4 : fI s 1915442860 + 1 < 700 := by omega
  have a2 : fI s 2217432748 < 490 := by omega
  have s2 : fI s 2192266924 < 490 := by omega
  obtain ⟨e1, e2, e3, e4⟩ := T.at' hlt
  intro b m d B C
  simp (config := {implicitDefEqProofs := false}) only [e_X10_call, k_X10_call_0, k_X10_call_10, k_X10_call_24, k_X10_call_30, k_X10_call_33, k_X10_call_39, k_X10_call_42, k_X10_call_52, k_X10_call_53, k_X10_call_63, k_X10_call_74, k_X10_call_78, k_X10_call_80, k_X10_call_106, bnd_v, bnd_x, pu_s, pu_n, b01_T, b01_F, Int.reduceEq, Int.reduceLT, Int.reduceLE, Int.reduceNe, Nat.reduceEqDiff, Nat.reduceLeDiff, and_false, false_and, and_true, true_and, or_false, false_or, or_true, true_or, if_true, if_false, not_true_eq_false, not_false_eq_true, eq_self, ne_eq, reduceCtorEq, false_implies, true_implies, implies_true, fI_uI, fI_uJ, fI_vI, fI_vJ, fJ_uI, fJ_uJ, fJ_vI, fJ_vJ, aI_uI, aI_uJ, aI_vI, aI_vJ, aJ_uI, aJ_uJ, aJ_vI, aJ_vJ, inA, mr_isSign, mr_isKept, mr_fails, mr_takeSign, mr_takeKept, mr_opens, mr_opensSign, mr_closesSign, mf_newNode, mf_newMode, mf_child, mf_push, mf_give, mf_giveRoutine, mf_giveMode, tkd, tis, tpl, fI_uI, fI_uJ, fI_vI, fI_vJ, fJ_uI, fJ_uJ, fJ_vI, fJ_vJ, aI_uI, aI_uJ, aI_vI, aI_vJ, aJ_uI, aJ_uJ, aJ_vI, aJ_vJ, fI_nodeS, aI_nodeS, aJ_nodeS, fI_modeS, aI_modeS, aJ_modeS, fI_pushS, aI_pushS, aJ_pushS, fI_giveS, aI_giveS, aJ_giveS, fI_gmodeS, aI_gmodeS, aJ_gmodeS, fI_childS, aI_childS, aJ_childS, B, mf_childD, hz, hg, ha, ho, b1, b2, b3, b4, b5, b6, b7, b8, b9, h60, g1, hbad, n1, n2, n3, n4, a1, a2, s1, s2, e1, e2, e3, e4, w32_id (x := (t : Int) + 1) (by omega) (by omega), w32_id (x := (o : Int) - 1) (by omega) (by omega), w32_id (x := (o : Int) + 1) (by omega) (by omega), d1, d2, hl, q, r]
theorem mc1_F (M : MJ s l t o PR) (cn : CN s t o PR) (ho24 : o ≤ 24) (hg : fI s 2066437804 = g + 1) (h60 : 0 ≤ g) (h61 : g < 590) (hz : aI s 35 g = 1) (d1 : 0 ≤ aI s 36 g) (d2 : aI s 36 g < 700) (hl : aI s 20 (aI s 36 g) = -1 ∨ (0 ≤ aI s 21 (aI s 36 g) ∧ aI s 21 (aI s 36 g) < 700)) (q1 : ¬ (kd l t = 5 ∧ sI l t = 44)) (q2 : ¬ (kd l t = 5 ∧ sI l t = 41)) : MCall 56449714 g s ((uI (childS s (aI s 36 g) (fI s 2125158060)) 1772836524 (pl l t))) := by
  have ha : fI s 1764447916 = t := M.1.2.1
  have T := M.1.1
  have hlt : t < l.length := M.1.a
  have hl2 := T.2.1
  have ho := M.2.1
  have hbad := M.2.2.1
  have b1 : (0 : Int) ≤ t := by omega
  have b2 : (t : Int) < 490 := by omega
  have b3 : (0 : Int) ≤ (t : Int) + 1 := by omega
  have b4 : (t : Int) + 1 < 490 := by omega
  have b5 : (0 : Int) ≤ o := by omega
  have b6 : (o : Int) < 25 := by omega
  have b7 : (0 : Int) ≤ g + 1 := by omega
  have b8 : g + 1 < 601 := by omega
  have b9 : g + 1 < 600 := by omega
  have g1 : g < 600 := by omega
  obtain ⟨⟨n1, a1, s1, p1⟩, c2, c3, c4⟩ := cn
  have n2 : fI s 1915442860 < 700 := by omega
  have n3 : 0 ≤ fI s 1915442860 + 1 := by omega
  have n4 : fI s 1915442860 + 1 < 700 := by omega
  have a2 : fI s 2217432748 < 490 := by omega
  have s2 : fI s 2192266924 < 490 := by omega
  obtain ⟨e1, e2, e3, e4⟩ := T.at' hlt
  intro b m d B C
  simp (config := {implicitDefEqProofs := false}) only [e_X10_call, k_X10_call_0, k_X10_call_10, k_X10_call_24, k_X10_call_30, k_X10_call_33, k_X10_call_39, k_X10_call_42, k_X10_call_52, k_X10_call_53, k_X10_call_63, k_X10_call_74, k_X10_call_78, k_X10_call_80, k_X10_call_106, bnd_v, bnd_x, pu_s, pu_n, b01_T, b01_F, Int.reduceEq, Int.reduceLT, Int.reduceLE, Int.reduceNe, Nat.reduceEqDiff, Nat.reduceLeDiff, and_false, false_and, and_true, true_and, or_false, false_or, or_true, true_or, if_true, if_false, not_true_eq_false, not_false_eq_true, eq_self, ne_eq, reduceCtorEq, false_implies, true_implies, implies_true, fI_uI, fI_uJ, fI_vI, fI_vJ, fJ_uI, fJ_uJ, fJ_vI, fJ_vJ, aI_uI, aI_uJ, aI_vI, aI_vJ, aJ_uI, aJ_uJ, aJ_vI, aJ_vJ, inA, mr_isSign, mr_isKept, mr_fails, mr_takeSign, mr_takeKept, mr_opens, mr_opensSign, mr_closesSign, mf_newNode, mf_newMode, mf_child, mf_push, mf_give, mf_giveRoutine, mf_giveMode, tkd, tis, tpl, fI_uI, fI_uJ, fI_vI, fI_vJ, fJ_uI, fJ_uJ, fJ_vI, fJ_vJ, aI_uI, aI_uJ, aI_vI, aI_vJ, aJ_uI, aJ_uJ, aJ_vI, aJ_vJ, fI_nodeS, aI_nodeS, aJ_nodeS, fI_modeS, aI_modeS, aJ_modeS, fI_pushS, aI_pushS, aJ_pushS, fI_giveS, aI_giveS, aJ_giveS, fI_gmodeS, aI_gmodeS, aJ_gmodeS, fI_childS, aI_childS, aJ_childS, B, mf_childD, hz, hg, ha, ho, b1, b2, b3, b4, b5, b6, b7, b8, b9, h60, g1, hbad, n1, n2, n3, n4, a1, a2, s1, s2, e1, e2, e3, e4, w32_id (x := (t : Int) + 1) (by omega) (by omega), w32_id (x := (o : Int) - 1) (by omega) (by omega), w32_id (x := (o : Int) + 1) (by omega) (by omega), d1, d2, hl, q1, q2]
theorem mi0 (M : MJ s l t o PR) (cn : CN s t o PR) (ho24 : o ≤ 24) (hg : fI s 2066437804 = g + 1) (h60 : 0 ≤ g) (h61 : g < 590) (hz : aI s 35 g = 0)  : MCall 56711858 g s ((pushS (vI' s 35 (g) (1)) 2 0 (0) (0) (0))) := by
  have ha : fI s 1764447916 = t := M.1.2.1
  have T := M.1.1
  have hlt : t < l.length := M.1.a
  have hl2 := T.2.1
  have ho := M.2.1
  have hbad := M.2.2.1
  have b1 : (0 : Int) ≤ t := by omega
  have b2 : (t : Int) < 490 := by omega
  have b3 : (0 : Int) ≤ (t : Int) + 1 := by omega
  have b4 : (t : Int) + 1 < 490 := by omega
  have b5 : (0 : Int) ≤ o := by omega
  have b6 : (o : Int) < 25 := by omega
  have b7 : (0 : Int) ≤ g + 1 := by omega
  have b8 : g + 1 < 601 := by omega
  have b9 : g + 1 < 600 := by omega
  have g1 : g < 600 := by omega
  obtain ⟨⟨n1, a1, s1, p1⟩, c2, c3, c4⟩ := cn
  have n2 : fI s 1915442860 < 700 := by omega
  have n3 : 0 ≤ fI s 1915442860 + 1 := by omega
  have n4 : fI s 1915442860 + 1 < 700 := by omega
  have a2 : fI s 2217432748 < 490 := by omega
  have s2 : fI s 2192266924 < 490 := by omega
  obtain ⟨e1, e2, e3, e4⟩ := T.at' hlt
  intro b m d B C
  simp (config := {implicitDefEqProofs := false}) only [e_X10_index, k_X10_index_0, k_X10_index_9, k_X10_index_23, k_X10_index_33, k_X10_index_39, k_X10_index_42, k_X10_index_81, k_X10_index_85, k_X10_index_94, k_X10_index_100, k_X10_index_103, k_X10_index_113, k_X10_index_116, k_X10_index_132, k_X10_index_133, bnd_v, bnd_x, pu_s, pu_n, b01_T, b01_F, Int.reduceEq, Int.reduceLT, Int.reduceLE, Int.reduceNe, Nat.reduceEqDiff, Nat.reduceLeDiff, and_false, false_and, and_true, true_and, or_false, false_or, or_true, true_or, if_true, if_false, not_true_eq_false, not_false_eq_true, eq_self, ne_eq, reduceCtorEq, false_implies, true_implies, implies_true, fI_uI, fI_uJ, fI_vI, fI_vJ, fJ_uI, fJ_uJ, fJ_vI, fJ_vJ, aI_uI, aI_uJ, aI_vI, aI_vJ, aJ_uI, aJ_uJ, aJ_vI, aJ_vJ, inA, mr_isSign, mr_isKept, mr_fails, mr_takeSign, mr_takeKept, mr_opens, mr_opensSign, mr_closesSign, mf_newNode, mf_newMode, mf_child, mf_push, mf_give, mf_giveRoutine, mf_giveMode, tkd, tis, tpl, fI_uI, fI_uJ, fI_vI, fI_vJ, fJ_uI, fJ_uJ, fJ_vI, fJ_vJ, aI_uI, aI_uJ, aI_vI, aI_vJ, aJ_uI, aJ_uJ, aJ_vI, aJ_vJ, fI_nodeS, aI_nodeS, aJ_nodeS, fI_modeS, aI_modeS, aJ_modeS, fI_pushS, aI_pushS, aJ_pushS, fI_giveS, aI_giveS, aJ_giveS, fI_gmodeS, aI_gmodeS, aJ_gmodeS, fI_childS, aI_childS, aJ_childS, B, mf_childD, hz, hg, ha, ho, b1, b2, b3, b4, b5, b6, b7, b8, b9, h60, g1, hbad, n1, n2, n3, n4, a1, a2, s1, s2, e1, e2, e3, e4, w32_id (x := (t : Int) + 1) (by omega) (by omega), w32_id (x := (o : Int) - 1) (by omega) (by omega), w32_id (x := (o : Int) + 1) (by omega) (by omega)]
theorem mi1_cl (M : MJ s l t o PR) (cn : CN s t o PR) (ho24 : o ≤ 24) (hg : fI s 2066437804 = g + 1) (h60 : 0 ≤ g) (h61 : g < 590) (hz : aI s 35 g = 1) (d1 : 0 ≤ aI s 36 g) (d2 : aI s 36 g < 700) (hl : aI s 20 (aI s 36 g) = -1 ∨ (0 ≤ aI s 21 (aI s 36 g) ∧ aI s 21 (aI s 36 g) < 700)) (q : kd l t = 5) (r : sI l t = 58) : MCall 56711858 g s ((pushS (vI' (vI' (uI (childS s (aI s 36 g) (fI s 2125158060)) 1764447916 ((t : Int) + 1)) 18 (aI s 36 g) (22)) 35 (g) (2)) 2 0 (0) (0) (0))) := by
  have ha : fI s 1764447916 = t := M.1.2.1
  have T := M.1.1
  have hlt : t < l.length := M.1.a
  have hl2 := T.2.1
  have ho := M.2.1
  have hbad := M.2.2.1
  have b1 : (0 : Int) ≤ t := by omega
  have b2 : (t : Int) < 490 := by omega
  have b3 : (0 : Int) ≤ (t : Int) + 1 := by omega
  have b4 : (t : Int) + 1 < 490 := by omega
  have b5 : (0 : Int) ≤ o := by omega
  have b6 : (o : Int) < 25 := by omega
  have b7 : (0 : Int) ≤ g + 1 := by omega
  have b8 : g + 1 < 601 := by omega
  have b9 : g + 1 < 600 := by omega
  have g1 : g < 600 := by omega
  obtain ⟨⟨n1, a1, s1, p1⟩, c2, c3, c4⟩ := cn
  have n2 : fI s 1915442860 < 700 := by omega
  have n3 : 0 ≤ fI s 1915442860 + 1 := by omega
  have n4 : fI s 1915442860 + 1 < 700 := by omega
  have a2 : fI s 2217432748 < 490 := by omega
  have s2 : fI s 2192266924 < 490 := by omega
  obtain ⟨e1, e2, e3, e4⟩ := T.at' hlt
  intro b m d B C
  simp (config := {implicitDefEqProofs := false}) only [e_X10_index, k_X10_index_0, k_X10_index_9, k_X10_index_23, k_X10_index_33, k_X10_index_39, k_X10_index_42, k_X10_index_81, k_X10_index_85, k_X10_index_94, k_X10_index_100, k_X10_index_103, k_X10_index_113, k_X10_index_116, k_X10_index_132, k_X10_index_133, bnd_v, bnd_x, pu_s, pu_n, b01_T, b01_F, Int.reduceEq, Int.reduceLT, Int.reduceLE, Int.reduceNe, Nat.reduceEqDiff, Nat.reduceLeDiff, and_false, false_and, and_true, true_and, or_false, false_or, or_true, true_or, if_true, if_false, not_true_eq_false, not_false_eq_true, eq_self, ne_eq, reduceCtorEq, false_implies, true_implies, implies_true, fI_uI, fI_uJ, fI_vI, fI_vJ, fJ_uI, fJ_uJ, fJ_vI, fJ_vJ, aI_uI, aI_uJ, aI_vI, aI_vJ, aJ_uI, aJ_uJ, aJ_vI, aJ_vJ, inA, mr_isSign, mr_isKept, mr_fails, mr_takeSign, mr_takeKept, mr_opens, mr_opensSign, mr_closesSign, mf_newNode, mf_newMode, mf_child, mf_push, mf_give, mf_giveRoutine, mf_giveMode, tkd, tis, tpl, fI_uI, fI_uJ, fI_vI, fI_vJ, fJ_uI, fJ_uJ, fJ_vI, fJ_vJ, aI_uI, aI_uJ, aI_vI, aI_vJ, aJ_uI, aJ_uJ, aJ_vI, aJ_vJ, fI_nodeS, aI_nodeS, aJ_nodeS, fI_modeS, aI_modeS, aJ_modeS, fI_pushS, aI_pushS, aJ_pushS, fI_giveS, aI_giveS, aJ_giveS, fI_gmodeS, aI_gmodeS, aJ_gmodeS, fI_childS, aI_childS, aJ_childS, B, mf_childD, hz, hg, ha, ho, b1, b2, b3, b4, b5, b6, b7, b8, b9, h60, g1, hbad, n1, n2, n3, n4, a1, a2, s1, s2, e1, e2, e3, e4, w32_id (x := (t : Int) + 1) (by omega) (by omega), w32_id (x := (o : Int) - 1) (by omega) (by omega), w32_id (x := (o : Int) + 1) (by omega) (by omega), d1, d2, hl, q, r]
theorem mi1_cb (M : MJ s l t o PR) (cn : CN s t o PR) (ho24 : o ≤ 24) (hg : fI s 2066437804 = g + 1) (h60 : 0 ≤ g) (h61 : g < 590) (hz : aI s 35 g = 1) (d1 : 0 ≤ aI s 36 g) (d2 : aI s 36 g < 700) (hl : aI s 20 (aI s 36 g) = -1 ∨ (0 ≤ aI s 21 (aI s 36 g) ∧ aI s 21 (aI s 36 g) < 700)) (q : kd l t = 5) (r : sI l t = 93) (qo : 0 < o) : MCall 56711858 g s ((giveS (uI (uI (childS s (aI s 36 g) (fI s 2125158060)) 1764447916 ((t : Int) + 1)) 1781225132 ((o : Int) - 1)) (aI s 36 g) 0)) := by
  have ha : fI s 1764447916 = t := M.1.2.1
  have T := M.1.1
  have hlt : t < l.length := M.1.a
  have hl2 := T.2.1
  have ho := M.2.1
  have hbad := M.2.2.1
  have b1 : (0 : Int) ≤ t := by omega
  have b2 : (t : Int) < 490 := by omega
  have b3 : (0 : Int) ≤ (t : Int) + 1 := by omega
  have b4 : (t : Int) + 1 < 490 := by omega
  have b5 : (0 : Int) ≤ o := by omega
  have b6 : (o : Int) < 25 := by omega
  have b7 : (0 : Int) ≤ g + 1 := by omega
  have b8 : g + 1 < 601 := by omega
  have b9 : g + 1 < 600 := by omega
  have g1 : g < 600 := by omega
  obtain ⟨⟨n1, a1, s1, p1⟩, c2, c3, c4⟩ := cn
  have n2 : fI s 1915442860 < 700 := by omega
  have n3 : 0 ≤ fI s 1915442860 + 1 := by omega
  have n4 : fI s 1915442860 + 1 < 700 := by omega
  have a2 : fI s 2217432748 < 490 := by omega
  have s2 : fI s 2192266924 < 490 := by omega
  obtain ⟨e1, e2, e3, e4⟩ := T.at' hlt
  intro b m d B C
  simp (config := {implicitDefEqProofs := false}) only [e_X10_index, k_X10_index_0, k_X10_index_9, k_X10_index_23, k_X10_index_33, k_X10_index_39, k_X10_index_42, k_X10_index_81, k_X10_index_85, k_X10_index_94, k_X10_index_100, k_X10_index_103, k_X10_index_113, k_X10_index_116, k_X10_index_132, k_X10_index_133, bnd_v, bnd_x, pu_s, pu_n, b01_T, b01_F, Int.reduceEq, Int.reduceLT, Int.reduceLE, Int.reduceNe, Nat.reduceEqDiff, Nat.reduceLeDiff, and_false, false_and, and_true, true_and, or_false, false_or, or_true, true_or, if_true, if_false, not_true_eq_false, not_false_eq_true, eq_self, ne_eq, reduceCtorEq, false_implies, true_implies, implies_true, fI_uI, fI_uJ, fI_vI, fI_vJ, fJ_uI, fJ_uJ, fJ_vI, fJ_vJ, aI_uI, aI_uJ, aI_vI, aI_vJ, aJ_uI, aJ_uJ, aJ_vI, aJ_vJ, inA, mr_isSign, mr_isKept, mr_fails, mr_takeSign, mr_takeKept, mr_opens, mr_opensSign, mr_closesSign, mf_newNode, mf_newMode, mf_child, mf_push, mf_give, mf_giveRoutine, mf_giveMode, tkd, tis, tpl, fI_uI, fI_uJ, fI_vI, fI_vJ, fJ_uI, fJ_uJ, fJ_vI, fJ_vJ, aI_uI, aI_uJ, aI_vI, aI_vJ, aJ_uI, aJ_uJ, aJ_vI, aJ_vJ, fI_nodeS, aI_nodeS, aJ_nodeS, fI_modeS, aI_modeS, aJ_modeS, fI_pushS, aI_pushS, aJ_pushS, fI_giveS, aI_giveS, aJ_giveS, fI_gmodeS, aI_gmodeS, aJ_gmodeS, fI_childS, aI_childS, aJ_childS, B, mf_childD, hz, hg, ha, ho, b1, b2, b3, b4, b5, b6, b7, b8, b9, h60, g1, hbad, n1, n2, n3, n4, a1, a2, s1, s2, e1, e2, e3, e4, w32_id (x := (t : Int) + 1) (by omega) (by omega), w32_id (x := (o : Int) - 1) (by omega) (by omega), w32_id (x := (o : Int) + 1) (by omega) (by omega), d1, d2, hl, q, r]
theorem mi2_cb (M : MJ s l t o PR) (cn : CN s t o PR) (ho24 : o ≤ 24) (hg : fI s 2066437804 = g + 1) (h60 : 0 ≤ g) (h61 : g < 590) (hz : aI s 35 g = 2) (d1 : 0 ≤ aI s 36 g) (d2 : aI s 36 g < 700) (hl : aI s 20 (aI s 36 g) = -1 ∨ (0 ≤ aI s 21 (aI s 36 g) ∧ aI s 21 (aI s 36 g) < 700)) (q : kd l t = 5) (r : sI l t = 93) (qo : 0 < o) : MCall 56711858 g s ((giveS (uI (uI (childS s (aI s 36 g) (fI s 2125158060)) 1764447916 ((t : Int) + 1)) 1781225132 ((o : Int) - 1)) (aI s 36 g) 0)) := by
  have ha : fI s 1764447916 = t := M.1.2.1
  have T := M.1.1
  have hlt : t < l.length := M.1.a
  have hl2 := T.2.1
  have ho := M.2.1
  have hbad := M.2.2.1
  have b1 : (0 : Int) ≤ t := by omega
  have b2 : (t : Int) < 490 := by omega
  have b3 : (0 : Int) ≤ (t : Int) + 1 := by omega
  have b4 : (t : Int) + 1 < 490 := by omega
  have b5 : (0 : Int) ≤ o := by omega
  have b6 : (o : Int) < 25 := by omega
  have b7 : (0 : Int) ≤ g + 1 := by omega
  have b8 : g + 1 < 601 := by omega
  have b9 : g + 1 < 600 := by omega
  have g1 : g < 600 := by omega
  obtain ⟨⟨n1, a1, s1, p1⟩, c2, c3, c4⟩ := cn
  have n2 : fI s 1915442860 < 700 := by omega
  have n3 : 0 ≤ fI s 1915442860 + 1 := by omega
  have n4 : fI s 1915442860 + 1 < 700 := by omega
  have a2 : fI s 2217432748 < 490 := by omega
  have s2 : fI s 2192266924 < 490 := by omega
  obtain ⟨e1, e2, e3, e4⟩ := T.at' hlt
  intro b m d B C
  simp (config := {implicitDefEqProofs := false}) only [e_X10_index, k_X10_index_0, k_X10_index_9, k_X10_index_23, k_X10_index_33, k_X10_index_39, k_X10_index_42, k_X10_index_81, k_X10_index_85, k_X10_index_94, k_X10_index_100, k_X10_index_103, k_X10_index_113, k_X10_index_116, k_X10_index_132, k_X10_index_133, bnd_v, bnd_x, pu_s, pu_n, b01_T, b01_F, Int.reduceEq, Int.reduceLT, Int.reduceLE, Int.reduceNe, Nat.reduceEqDiff, Nat.reduceLeDiff, and_false, false_and, and_true, true_and, or_false, false_or, or_true, true_or, if_true, if_false, not_true_eq_false, not_false_eq_true, eq_self, ne_eq, reduceCtorEq, false_implies, true_implies, implies_true, fI_uI, fI_uJ, fI_vI, fI_vJ, fJ_uI, fJ_uJ, fJ_vI, fJ_vJ, aI_uI, aI_uJ, aI_vI, aI_vJ, aJ_uI, aJ_uJ, aJ_vI, aJ_vJ, inA, mr_isSign, mr_isKept, mr_fails, mr_takeSign, mr_takeKept, mr_opens, mr_opensSign, mr_closesSign, mf_newNode, mf_newMode, mf_child, mf_push, mf_give, mf_giveRoutine, mf_giveMode, tkd, tis, tpl, fI_uI, fI_uJ, fI_vI, fI_vJ, fJ_uI, fJ_uJ, fJ_vI, fJ_vJ, aI_uI, aI_uJ, aI_vI, aI_vJ, aJ_uI, aJ_uJ, aJ_vI, aJ_vJ, fI_nodeS, aI_nodeS, aJ_nodeS, fI_modeS, aI_modeS, aJ_modeS, fI_pushS, aI_pushS, aJ_pushS, fI_giveS, aI_giveS, aJ_giveS, fI_gmodeS, aI_gmodeS, aJ_gmodeS, fI_childS, aI_childS, aJ_childS, B, mf_childD, hz, hg, ha, ho, b1, b2, b3, b4, b5, b6, b7, b8, b9, h60, g1, hbad, n1, n2, n3, n4, a1, a2, s1, s2, e1, e2, e3, e4, w32_id (x := (t : Int) + 1) (by omega) (by omega), w32_id (x := (o : Int) - 1) (by omega) (by omega), w32_id (x := (o : Int) + 1) (by omega) (by omega), d1, d2, hl, q, r]
theorem mi1_F (M : MJ s l t o PR) (cn : CN s t o PR) (ho24 : o ≤ 24) (hg : fI s 2066437804 = g + 1) (h60 : 0 ≤ g) (h61 : g < 590) (hz : aI s 35 g = 1) (d1 : 0 ≤ aI s 36 g) (d2 : aI s 36 g < 700) (hl : aI s 20 (aI s 36 g) = -1 ∨ (0 ≤ aI s 21 (aI s 36 g) ∧ aI s 21 (aI s 36 g) < 700)) (q1 : ¬ (kd l t = 5 ∧ sI l t = 58)) (q2 : ¬ (kd l t = 5 ∧ sI l t = 93)) : MCall 56711858 g s ((uI (childS s (aI s 36 g) (fI s 2125158060)) 1772836524 (pl l t))) := by
  have ha : fI s 1764447916 = t := M.1.2.1
  have T := M.1.1
  have hlt : t < l.length := M.1.a
  have hl2 := T.2.1
  have ho := M.2.1
  have hbad := M.2.2.1
  have b1 : (0 : Int) ≤ t := by omega
  have b2 : (t : Int) < 490 := by omega
  have b3 : (0 : Int) ≤ (t : Int) + 1 := by omega
  have b4 : (t : Int) + 1 < 490 := by omega
  have b5 : (0 : Int) ≤ o := by omega
  have b6 : (o : Int) < 25 := by omega
  have b7 : (0 : Int) ≤ g + 1 := by omega
  have b8 : g + 1 < 601 := by omega
  have b9 : g + 1 < 600 := by omega
  have g1 : g < 600 := by omega
  obtain ⟨⟨n1, a1, s1, p1⟩, c2, c3, c4⟩ := cn
  have n2 : fI s 1915442860 < 700 := by omega
  have n3 : 0 ≤ fI s 1915442860 + 1 := by omega
  have n4 : fI s 1915442860 + 1 < 700 := by omega
  have a2 : fI s 2217432748 < 490 := by omega
  have s2 : fI s 2192266924 < 490 := by omega
  obtain ⟨e1, e2, e3, e4⟩ := T.at' hlt
  intro b m d B C
  simp (config := {implicitDefEqProofs := false}) only [e_X10_index, k_X10_index_0, k_X10_index_9, k_X10_index_23, k_X10_index_33, k_X10_index_39, k_X10_index_42, k_X10_index_81, k_X10_index_85, k_X10_index_94, k_X10_index_100, k_X10_index_103, k_X10_index_113, k_X10_index_116, k_X10_index_132, k_X10_index_133, bnd_v, bnd_x, pu_s, pu_n, b01_T, b01_F, Int.reduceEq, Int.reduceLT, Int.reduceLE, Int.reduceNe, Nat.reduceEqDiff, Nat.reduceLeDiff, and_false, false_and, and_true, true_and, or_false, false_or, or_true, true_or, if_true, if_false, not_true_eq_false, not_false_eq_true, eq_self, ne_eq, reduceCtorEq, false_implies, true_implies, implies_true, fI_uI, fI_uJ, fI_vI, fI_vJ, fJ_uI, fJ_uJ, fJ_vI, fJ_vJ, aI_uI, aI_uJ, aI_vI, aI_vJ, aJ_uI, aJ_uJ, aJ_vI, aJ_vJ, inA, mr_isSign, mr_isKept, mr_fails, mr_takeSign, mr_takeKept, mr_opens, mr_opensSign, mr_closesSign, mf_newNode, mf_newMode, mf_child, mf_push, mf_give, mf_giveRoutine, mf_giveMode, tkd, tis, tpl, fI_uI, fI_uJ, fI_vI, fI_vJ, fJ_uI, fJ_uJ, fJ_vI, fJ_vJ, aI_uI, aI_uJ, aI_vI, aI_vJ, aJ_uI, aJ_uJ, aJ_vI, aJ_vJ, fI_nodeS, aI_nodeS, aJ_nodeS, fI_modeS, aI_modeS, aJ_modeS, fI_pushS, aI_pushS, aJ_pushS, fI_giveS, aI_giveS, aJ_giveS, fI_gmodeS, aI_gmodeS, aJ_gmodeS, fI_childS, aI_childS, aJ_childS, B, mf_childD, hz, hg, ha, ho, b1, b2, b3, b4, b5, b6, b7, b8, b9, h60, g1, hbad, n1, n2, n3, n4, a1, a2, s1, s2, e1, e2, e3, e4, w32_id (x := (t : Int) + 1) (by omega) (by omega), w32_id (x := (o : Int) - 1) (by omega) (by omega), w32_id (x := (o : Int) + 1) (by omega) (by omega), d1, d2, hl, q1, q2]
theorem mi2_F (M : MJ s l t o PR) (cn : CN s t o PR) (ho24 : o ≤ 24) (hg : fI s 2066437804 = g + 1) (h60 : 0 ≤ g) (h61 : g < 590) (hz : aI s 35 g = 2) (d1 : 0 ≤ aI s 36 g) (d2 : aI s 36 g < 700) (hl : aI s 20 (aI s 36 g) = -1 ∨ (0 ≤ aI s 21 (aI s 36 g) ∧ aI s 21 (aI s 36 g) < 700)) (q2 : ¬ (kd l t = 5 ∧ sI l t = 93)) : MCall 56711858 g s ((uI (childS s (aI s 36 g) (fI s 2125158060)) 1772836524 (pl l t))) := by
  have ha : fI s 1764447916 = t := M.1.2.1
  have T := M.1.1
  have hlt : t < l.length := M.1.a
  have hl2 := T.2.1
  have ho := M.2.1
  have hbad := M.2.2.1
  have b1 : (0 : Int) ≤ t := by omega
  have b2 : (t : Int) < 490 := by omega
  have b3 : (0 : Int) ≤ (t : Int) + 1 := by omega
  have b4 : (t : Int) + 1 < 490 := by omega
  have b5 : (0 : Int) ≤ o := by omega
  have b6 : (o : Int) < 25 := by omega
  have b7 : (0 : Int) ≤ g + 1 := by omega
  have b8 : g + 1 < 601 := by omega
  have b9 : g + 1 < 600 := by omega
  have g1 : g < 600 := by omega
  obtain ⟨⟨n1, a1, s1, p1⟩, c2, c3, c4⟩ := cn
  have n2 : fI s 1915442860 < 700 := by omega
  have n3 : 0 ≤ fI s 1915442860 + 1 := by omega
  have n4 : fI s 1915442860 + 1 < 700 := by omega
  have a2 : fI s 2217432748 < 490 := by omega
  have s2 : fI s 2192266924 < 490 := by omega
  obtain ⟨e1, e2, e3, e4⟩ := T.at' hlt
  intro b m d B C
  simp (config := {implicitDefEqProofs := false}) only [e_X10_index, k_X10_index_0, k_X10_index_9, k_X10_index_23, k_X10_index_33, k_X10_index_39, k_X10_index_42, k_X10_index_81, k_X10_index_85, k_X10_index_94, k_X10_index_100, k_X10_index_103, k_X10_index_113, k_X10_index_116, k_X10_index_132, k_X10_index_133, bnd_v, bnd_x, pu_s, pu_n, b01_T, b01_F, Int.reduceEq, Int.reduceLT, Int.reduceLE, Int.reduceNe, Nat.reduceEqDiff, Nat.reduceLeDiff, and_false, false_and, and_true, true_and, or_false, false_or, or_true, true_or, if_true, if_false, not_true_eq_false, not_false_eq_true, eq_self, ne_eq, reduceCtorEq, false_implies, true_implies, implies_true, fI_uI, fI_uJ, fI_vI, fI_vJ, fJ_uI, fJ_uJ, fJ_vI, fJ_vJ, aI_uI, aI_uJ, aI_vI, aI_vJ, aJ_uI, aJ_uJ, aJ_vI, aJ_vJ, inA, mr_isSign, mr_isKept, mr_fails, mr_takeSign, mr_takeKept, mr_opens, mr_opensSign, mr_closesSign, mf_newNode, mf_newMode, mf_child, mf_push, mf_give, mf_giveRoutine, mf_giveMode, tkd, tis, tpl, fI_uI, fI_uJ, fI_vI, fI_vJ, fJ_uI, fJ_uJ, fJ_vI, fJ_vJ, aI_uI, aI_uJ, aI_vI, aI_vJ, aJ_uI, aJ_uJ, aJ_vI, aJ_vJ, fI_nodeS, aI_nodeS, aJ_nodeS, fI_modeS, aI_modeS, aJ_modeS, fI_pushS, aI_pushS, aJ_pushS, fI_giveS, aI_giveS, aJ_giveS, fI_gmodeS, aI_gmodeS, aJ_gmodeS, fI_childS, aI_childS, aJ_childS, B, mf_childD, hz, hg, ha, ho, b1, b2, b3, b4, b5, b6, b7, b8, b9, h60, g1, hbad, n1, n2, n3, n4, a1, a2, s1, s2, e1, e2, e3, e4, w32_id (x := (t : Int) + 1) (by omega) (by omega), w32_id (x := (o : Int) - 1) (by omega) (by omega), w32_id (x := (o : Int) + 1) (by omega) (by omega), d1, d2, hl, q2]
end MCA
