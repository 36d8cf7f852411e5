/-! THE MODEL's UNITS: paths -/
set_option maxRecDepth 100000
set_option maxHeartbeats 1000000
section MU
variable {s : MS} {l : List TokE} {t o : Nat} {PR g : Int}
theorem mu5_give (M : MJ s l t o PR) (cn : CN s t o PR) (ho24 : o ≤ 24) (hg : fI s 2066437804 = g + 1) (h60 : 0 ≤ g) (h61 : g < 590) (hz : aI s 35 g = 5) (q1 : ¬ (kd l t = 5 ∧ sI l t = 300)) (q2 : ¬ (kd l t = 1 ∧ sI l t = 7)) (q3 : ¬ (kd l t = 1 ∧ sI l t = 8)) : MCall 48323250 g s ((giveS s (aI s 36 g) 0)) := by
  have ha : fI s 1764447916 = t := M.1.2.1
  have T := M.1.1
  have hlt : t < l.length := M.1.a
  have hl2 := T.2.1
  have ho := M.2.1
  have hbad := M.2.2.1
  have b1 : (0 : Int) ≤ t := by omega
  have b2 : (t : Int) < 490 := by omega
  have b3 : (0 : Int) ≤ (t : Int) + 1 := by omega
  have b4 : (t : Int) + 1 < 490 := by omega
  have b5 : (0 : Int) ≤ o := by omega
  have b6 : (o : Int) < 25 := by omega
  have b7 : (0 : Int) ≤ g + 1 := by omega
  have b8 : g + 1 < 601 := by omega
  have b9 : g + 1 < 600 := by omega
  have g1 : g < 600 := by omega
  obtain ⟨⟨n1, a1, s1, p1⟩, c2, c3, c4⟩ := cn
  have n2 : fI s 1915442860 < 700 := by omega
  have n3 : 0 ≤ fI s 1915442860 + 1 := by omega
  have n4 : fI s 1915442860 + 1 < 700 := by omega
  have a2 : fI s 2217432748 < 490 := by omega
  have s2 : fI s 2192266924 < 490 := by omega
  obtain ⟨e1, e2, e3, e4⟩ := T.at' hlt
  intro b m d B C
  simp (config := {implicitDefEqProofs := false}) only [e_X10_unit, k_X10_unit_0, k_X10_unit_104, k_X10_unit_109, k_X10_unit_112, k_X10_unit_135, k_X10_unit_138, k_X10_unit_141, k_X10_unit_147, k_X10_unit_150, k_X10_unit_177, k_X10_unit_188, k_X10_unit_196, k_X10_unit_199, k_X10_unit_225, k_X10_unit_229, k_X10_unit_242, k_X10_unit_245, k_X10_unit_265, k_X10_unit_270, k_X10_unit_273, k_X10_unit_287, k_X10_unit_307, k_X10_unit_310, k_X10_unit_317, k_X10_unit_330, k_X10_unit_350, k_X10_unit_355, k_X10_unit_358, k_X10_unit_382, k_X10_unit_385, k_X10_unit_399, k_X10_unit_419, e_X10_behindTertiary, k_X10_behindTertiary_0, k_X10_behindTertiary_7, k_X10_behindTertiary_12, k_X10_behindTertiary_18, k_X10_behindTertiary_21, k_X10_behindTertiary_27, k_X10_behindTertiary_30, k_X10_behindTertiary_40, k_X10_behindTertiary_41, k_X10_behindTertiary_45, k_X10_behindTertiary_48, k_X10_behindTertiary_49, k_X10_behindTertiary_59, k_X10_behindTertiary_63, k_X10_behindTertiary_65, k_X10_behindTertiary_72, k_X10_behindTertiary_89, k_X10_behindTertiary_92, k_X10_behindTertiary_96, k_X10_behindTertiary_97, k_X10_behindTertiary_114, k_X10_behindTertiary_136, k_X10_behindTertiary_145, k_X10_behindTertiary_149, k_X10_behindTertiary_155, k_X10_behindTertiary_158, k_X10_behindTertiary_181, k_X10_behindTertiary_187, k_X10_behindTertiary_193, bnd_v, bnd_x, pu_s, pu_n, b01_T, b01_F, Int.reduceEq, Int.reduceLT, Int.reduceLE, Int.reduceNe, Nat.reduceEqDiff, Nat.reduceLeDiff, and_false, false_and, and_true, true_and, or_false, false_or, or_true, true_or, if_true, if_false, not_true_eq_false, not_false_eq_true, eq_self, ne_eq, reduceCtorEq, false_implies, true_implies, implies_true, fI_uI, fI_uJ, fI_vI, fI_vJ, fJ_uI, fJ_uJ, fJ_vI, fJ_vJ, aI_uI, aI_uJ, aI_vI, aI_vJ, aJ_uI, aJ_uJ, aJ_vI, aJ_vJ, inA, mr_isSign, mr_isKept, mr_fails, mr_takeSign, mr_takeKept, mr_opens, mr_opensSign, mr_closesSign, mf_newNode, mf_newMode, mf_child, mf_push, mf_give, mf_giveRoutine, mf_giveMode, tkd, tis, tpl, fI_uI, fI_uJ, fI_vI, fI_vJ, fJ_uI, fJ_uJ, fJ_vI, fJ_vJ, aI_uI, aI_uJ, aI_vI, aI_vJ, aJ_uI, aJ_uJ, aJ_vI, aJ_vJ, fI_nodeS, aI_nodeS, aJ_nodeS, fI_modeS, aI_modeS, aJ_modeS, fI_pushS, aI_pushS, aJ_pushS, fI_giveS, aI_giveS, aJ_giveS, fI_gmodeS, aI_gmodeS, aJ_gmodeS, fI_childS, aI_childS, aJ_childS, B, mf_childD, hz, hg, ha, ho, b1, b2, b3, b4, b5, b6, b7, b8, b9, h60, g1, hbad, n1, n2, n3, n4, a1, a2, s1, s2, e1, e2, e3, e4, w32_id (x := (t : Int) + 1) (by omega) (by omega), w32_id (x := (o : Int) - 1) (by omega) (by omega), w32_id (x := (o : Int) + 1) (by omega) (by omega), q1, q2, q3]
theorem mu5_beF (M : MJ s l t o PR) (cn : CN s t o PR) (ho24 : o ≤ 24) (hg : fI s 2066437804 = g + 1) (h60 : 0 ≤ g) (h61 : g < 590) (hz : aI s 35 g = 5) (q : kd l t = 5) (r : sI l t = 300) (qo : o = 24) : MCall 48323250 g s ((uI s 1772836524 (pl l t))) := by
  have ha : fI s 1764447916 = t := M.1.2.1
  have T := M.1.1
  have hlt : t < l.length := M.1.a
  have hl2 := T.2.1
  have ho := M.2.1
  have hbad := M.2.2.1
  have b1 : (0 : Int) ≤ t := by omega
  have b2 : (t : Int) < 490 := by omega
  have b3 : (0 : Int) ≤ (t : Int) + 1 := by omega
  have b4 : (t : Int) + 1 < 490 := by omega
  have b5 : (0 : Int) ≤ o := by omega
  have b6 : (o : Int) < 25 := by omega
  have b7 : (0 : Int) ≤ g + 1 := by omega
  have b8 : g + 1 < 601 := by omega
  have b9 : g + 1 < 600 := by omega
  have g1 : g < 600 := by omega
  obtain ⟨⟨n1, a1, s1, p1⟩, c2, c3, c4⟩ := cn
  have n2 : fI s 1915442860 < 700 := by omega
  have n3 : 0 ≤ fI s 1915442860 + 1 := by omega
  have n4 : fI s 1915442860 + 1 < 700 := by omega
  have a2 : fI s 2217432748 < 490 := by omega
  have s2 : fI s 2192266924 < 490 := by omega
  obtain ⟨e1, e2, e3, e4⟩ := T.at' hlt
  have yo : (o : Int) = 24 := by omega
  intro b m d B C
  simp (config := {implicitDefEqProofs := false}) only [e_X10_unit, k_X10_unit_0, k_X10_unit_104, k_X10_unit_109, k_X10_unit_112, k_X10_unit_135, k_X10_unit_138, k_X10_unit_141, k_X10_unit_147, k_X10_unit_150, k_X10_unit_177, k_X10_unit_188, k_X10_unit_196, k_X10_unit_199, k_X10_unit_225, k_X10_unit_229, k_X10_unit_242, k_X10_unit_245, k_X10_unit_265, k_X10_unit_270, k_X10_unit_273, k_X10_unit_287, k_X10_unit_307, k_X10_unit_310, k_X10_unit_317, k_X10_unit_330, k_X10_unit_350, k_X10_unit_355, k_X10_unit_358, k_X10_unit_382, k_X10_unit_385, k_X10_unit_399, k_X10_unit_419, e_X10_behindTertiary, k_X10_behindTertiary_0, k_X10_behindTertiary_7, k_X10_behindTertiary_12, k_X10_behindTertiary_18, k_X10_behindTertiary_21, k_X10_behindTertiary_27, k_X10_behindTertiary_30, k_X10_behindTertiary_40, k_X10_behindTertiary_41, k_X10_behindTertiary_45, k_X10_behindTertiary_48, k_X10_behindTertiary_49, k_X10_behindTertiary_59, k_X10_behindTertiary_63, k_X10_behindTertiary_65, k_X10_behindTertiary_72, k_X10_behindTertiary_89, k_X10_behindTertiary_92, k_X10_behindTertiary_96, k_X10_behindTertiary_97, k_X10_behindTertiary_114, k_X10_behindTertiary_136, k_X10_behindTertiary_145, k_X10_behindTertiary_149, k_X10_behindTertiary_155, k_X10_behindTertiary_158, k_X10_behindTertiary_181, k_X10_behindTertiary_187, k_X10_behindTertiary_193, bnd_v, bnd_x, pu_s, pu_n, b01_T, b01_F, Int.reduceEq, Int.reduceLT, Int.reduceLE, Int.reduceNe, Nat.reduceEqDiff, Nat.reduceLeDiff, and_false, false_and, and_true, true_and, or_false, false_or, or_true, true_or, if_true, if_false, not_true_eq_false, not_false_eq_true, eq_self, ne_eq, reduceCtorEq, false_implies, true_implies, implies_true, fI_uI, fI_uJ, fI_vI, fI_vJ, fJ_uI, fJ_uJ, fJ_vI, fJ_vJ, aI_uI, aI_uJ, aI_vI, aI_vJ, aJ_uI, aJ_uJ, aJ_vI, aJ_vJ, inA, mr_isSign, mr_isKept, mr_fails, mr_takeSign, mr_takeKept, mr_opens, mr_opensSign, mr_closesSign, mf_newNode, mf_newMode, mf_child, mf_push, mf_give, mf_giveRoutine, mf_giveMode, tkd, tis, tpl, fI_uI, fI_uJ, fI_vI, fI_vJ, fJ_uI, fJ_uJ, fJ_vI, fJ_vJ, aI_uI, aI_uJ, aI_vI, aI_vJ, aJ_uI, aJ_uJ, aJ_vI, aJ_vJ, fI_nodeS, aI_nodeS, aJ_nodeS, fI_modeS, aI_modeS, aJ_modeS, fI_pushS, aI_pushS, aJ_pushS, fI_giveS, aI_giveS, aJ_giveS, fI_gmodeS, aI_gmodeS, aJ_gmodeS, fI_childS, aI_childS, aJ_childS, B, mf_childD, hz, hg, ha, ho, b1, b2, b3, b4, b5, b6, b7, b8, b9, h60, g1, hbad, n1, n2, n3, n4, a1, a2, s1, s2, e1, e2, e3, e4, w32_id (x := (t : Int) + 1) (by omega) (by omega), w32_id (x := (o : Int) - 1) (by omega) (by omega), w32_id (x := (o : Int) + 1) (by omega) (by omega), q, r, yo]
theorem mu5_isF (M : MJ s l t o PR) (cn : CN s t o PR) (ho24 : o ≤ 24) (hg : fI s 2066437804 = g + 1) (h60 : 0 ≤ g) (h61 : g < 590) (hz : aI s 35 g = 5) (q : kd l t = 1) (r : sI l t = 7) (qo : o = 24) : MCall 48323250 g s ((uI s 1772836524 (pl l t))) := by
  have ha : fI s 1764447916 = t := M.1.2.1
  have T := M.1.1
  have hlt : t < l.length := M.1.a
  have hl2 := T.2.1
  have ho := M.2.1
  have hbad := M.2.2.1
  have b1 : (0 : Int) ≤ t := by omega
  have b2 : (t : Int) < 490 := by omega
  have b3 : (0 : Int) ≤ (t : Int) + 1 := by omega
  have b4 : (t : Int) + 1 < 490 := by omega
  have b5 : (0 : Int) ≤ o := by omega
  have b6 : (o : Int) < 25 := by omega
  have b7 : (0 : Int) ≤ g + 1 := by omega
  have b8 : g + 1 < 601 := by omega
  have b9 : g + 1 < 600 := by omega
  have g1 : g < 600 := by omega
  obtain ⟨⟨n1, a1, s1, p1⟩, c2, c3, c4⟩ := cn
  have n2 : fI s 1915442860 < 700 := by omega
  have n3 : 0 ≤ fI s 1915442860 + 1 := by omega
  have n4 : fI s 1915442860 + 1 < 700 := by omega
  have a2 : fI s 2217432748 < 490 := by omega
  have s2 : fI s 2192266924 < 490 := by omega
  obtain ⟨e1, e2, e3, e4⟩ := T.at' hlt
  have yo : (o : Int) = 24 := by omega
  intro b m d B C
  simp (config := {implicitDefEqProofs := false}) only [e_X10_unit, k_X10_unit_0, k_X10_unit_104, k_X10_unit_109, k_X10_unit_112, k_X10_unit_135, k_X10_unit_138, k_X10_unit_141, k_X10_unit_147, k_X10_unit_150, k_X10_unit_177, k_X10_unit_188, k_X10_unit_196, k_X10_unit_199, k_X10_unit_225, k_X10_unit_229, k_X10_unit_242, k_X10_unit_245, k_X10_unit_265, k_X10_unit_270, k_X10_unit_273, k_X10_unit_287, k_X10_unit_307, k_X10_unit_310, k_X10_unit_317, k_X10_unit_330, k_X10_unit_350, k_X10_unit_355, k_X10_unit_358, k_X10_unit_382, k_X10_unit_385, k_X10_unit_399, k_X10_unit_419, e_X10_behindTertiary, k_X10_behindTertiary_0, k_X10_behindTertiary_7, k_X10_behindTertiary_12, k_X10_behindTertiary_18, k_X10_behindTertiary_21, k_X10_behindTertiary_27, k_X10_behindTertiary_30, k_X10_behindTertiary_40, k_X10_behindTertiary_41, k_X10_behindTertiary_45, k_X10_behindTertiary_48, k_X10_behindTertiary_49, k_X10_behindTertiary_59, k_X10_behindTertiary_63, k_X10_behindTertiary_65, k_X10_behindTertiary_72, k_X10_behindTertiary_89, k_X10_behindTertiary_92, k_X10_behindTertiary_96, k_X10_behindTertiary_97, k_X10_behindTertiary_114, k_X10_behindTertiary_136, k_X10_behindTertiary_145, k_X10_behindTertiary_149, k_X10_behindTertiary_155, k_X10_behindTertiary_158, k_X10_behindTertiary_181, k_X10_behindTertiary_187, k_X10_behindTertiary_193, bnd_v, bnd_x, pu_s, pu_n, b01_T, b01_F, Int.reduceEq, Int.reduceLT, Int.reduceLE, Int.reduceNe, Nat.reduceEqDiff, Nat.reduceLeDiff, and_false, false_and, and_true, true_and, or_false, false_or, or_true, true_or, if_true, if_false, not_true_eq_false, not_false_eq_true, eq_self, ne_eq, reduceCtorEq, false_implies, true_implies, implies_true, fI_uI, fI_uJ, fI_vI, fI_vJ, fJ_uI, fJ_uJ, fJ_vI, fJ_vJ, aI_uI, aI_uJ, aI_vI, aI_vJ, aJ_uI, aJ_uJ, aJ_vI, aJ_vJ, inA, mr_isSign, mr_isKept, mr_fails, mr_takeSign, mr_takeKept, mr_opens, mr_opensSign, mr_closesSign, mf_newNode, mf_newMode, mf_child, mf_push, mf_give, mf_giveRoutine, mf_giveMode, tkd, tis, tpl, fI_uI, fI_uJ, fI_vI, fI_vJ, fJ_uI, fJ_uJ, fJ_vI, fJ_vJ, aI_uI, aI_uJ, aI_vI, aI_vJ, aJ_uI, aJ_uJ, aJ_vI, aJ_vJ, fI_nodeS, aI_nodeS, aJ_nodeS, fI_modeS, aI_modeS, aJ_modeS, fI_pushS, aI_pushS, aJ_pushS, fI_giveS, aI_giveS, aJ_giveS, fI_gmodeS, aI_gmodeS, aJ_gmodeS, fI_childS, aI_childS, aJ_childS, B, mf_childD, hz, hg, ha, ho, b1, b2, b3, b4, b5, b6, b7, b8, b9, h60, g1, hbad, n1, n2, n3, n4, a1, a2, s1, s2, e1, e2, e3, e4, w32_id (x := (t : Int) + 1) (by omega) (by omega), w32_id (x := (o : Int) - 1) (by omega) (by omega), w32_id (x := (o : Int) + 1) (by omega) (by omega), q, r, yo]
theorem mu5_ntF (M : MJ s l t o PR) (cn : CN s t o PR) (ho24 : o ≤ 24) (hg : fI s 2066437804 = g + 1) (h60 : 0 ≤ g) (h61 : g < 590) (hz : aI s 35 g = 5) (q : kd l t = 1) (r : sI l t = 8) (qo : o = 24) : MCall 48323250 g s ((uI s 1772836524 (pl l t))) := by
  have ha : fI s 1764447916 = t := M.1.2.1
  have T := M.1.1
  have hlt : t < l.length := M.1.a
  have hl2 := T.2.1
  have ho := M.2.1
  have hbad := M.2.2.1
  have b1 : (0 : Int) ≤ t := by omega
  have b2 : (t : Int) < 490 := by omega
  have b3 : (0 : Int) ≤ (t : Int) + 1 := by omega
  have b4 : (t : Int) + 1 < 490 := by omega
  have b5 : (0 : Int) ≤ o := by omega
  have b6 : (o : Int) < 25 := by omega
  have b7 : (0 : Int) ≤ g + 1 := by omega
  have b8 : g + 1 < 601 := by omega
  have b9 : g + 1 < 600 := by omega
  have g1 : g < 600 := by omega
  obtain ⟨⟨n1, a1, s1, p1⟩, c2, c3, c4⟩ := cn
  have n2 : fI s 1915442860 < 700 := by omega
  have n3 : 0 ≤ fI s 1915442860 + 1 := by omega
  have n4 : fI s 1915442860 + 1 < 700 := by omega
  have a2 : fI s 2217432748 < 490 := by omega
  have s2 : fI s 2192266924 < 490 := by omega
  obtain ⟨e1, e2, e3, e4⟩ := T.at' hlt
  have yo : (o : Int) = 24 := by omega
  intro b m d B C
  simp (config := {implicitDefEqProofs := false}) only [e_X10_unit, k_X10_unit_0, k_X10_unit_104, k_X10_unit_109, k_X10_unit_112, k_X10_unit_135, k_X10_unit_138, k_X10_unit_141, k_X10_unit_147, k_X10_unit_150, k_X10_unit_177, k_X10_unit_188, k_X10_unit_196, k_X10_unit_199, k_X10_unit_225, k_X10_unit_229, k_X10_unit_242, k_X10_unit_245, k_X10_unit_265, k_X10_unit_270, k_X10_unit_273, k_X10_unit_287, k_X10_unit_307, k_X10_unit_310, k_X10_unit_317, k_X10_unit_330, k_X10_unit_350, k_X10_unit_355, k_X10_unit_358, k_X10_unit_382, k_X10_unit_385, k_X10_unit_399, k_X10_unit_419, e_X10_behindTertiary, k_X10_behindTertiary_0, k_X10_behindTertiary_7, k_X10_behindTertiary_12, k_X10_behindTertiary_18, k_X10_behindTertiary_21, k_X10_behindTertiary_27, k_X10_behindTertiary_30, k_X10_behindTertiary_40, k_X10_behindTertiary_41, k_X10_behindTertiary_45, k_X10_behindTertiary_48, k_X10_behindTertiary_49, k_X10_behindTertiary_59, k_X10_behindTertiary_63, k_X10_behindTertiary_65, k_X10_behindTertiary_72, k_X10_behindTertiary_89, k_X10_behindTertiary_92, k_X10_behindTertiary_96, k_X10_behindTertiary_97, k_X10_behindTertiary_114, k_X10_behindTertiary_136, k_X10_behindTertiary_145, k_X10_behindTertiary_149, k_X10_behindTertiary_155, k_X10_behindTertiary_158, k_X10_behindTertiary_181, k_X10_behindTertiary_187, k_X10_behindTertiary_193, bnd_v, bnd_x, pu_s, pu_n, b01_T, b01_F, Int.reduceEq, Int.reduceLT, Int.reduceLE, Int.reduceNe, Nat.reduceEqDiff, Nat.reduceLeDiff, and_false, false_and, and_true, true_and, or_false, false_or, or_true, true_or, if_true, if_false, not_true_eq_false, not_false_eq_true, eq_self, ne_eq, reduceCtorEq, false_implies, true_implies, implies_true, fI_uI, fI_uJ, fI_vI, fI_vJ, fJ_uI, fJ_uJ, fJ_vI, fJ_vJ, aI_uI, aI_uJ, aI_vI, aI_vJ, aJ_uI, aJ_uJ, aJ_vI, aJ_vJ, inA, mr_isSign, mr_isKept, mr_fails, mr_takeSign, mr_takeKept, mr_opens, mr_opensSign, mr_closesSign, mf_newNode, mf_newMode, mf_child, mf_push, mf_give, mf_giveRoutine, mf_giveMode, tkd, tis, tpl, fI_uI, fI_uJ, fI_vI, fI_vJ, fJ_uI, fJ_uJ, fJ_vI, fJ_vJ, aI_uI, aI_uJ, aI_vI, aI_vJ, aJ_uI, aJ_uJ, aJ_vI, aJ_vJ, fI_nodeS, aI_nodeS, aJ_nodeS, fI_modeS, aI_modeS, aJ_modeS, fI_pushS, aI_pushS, aJ_pushS, fI_giveS, aI_giveS, aJ_giveS, fI_gmodeS, aI_gmodeS, aJ_gmodeS, fI_childS, aI_childS, aJ_childS, B, mf_childD, hz, hg, ha, ho, b1, b2, b3, b4, b5, b6, b7, b8, b9, h60, g1, hbad, n1, n2, n3, n4, a1, a2, s1, s2, e1, e2, e3, e4, w32_id (x := (t : Int) + 1) (by omega) (by omega), w32_id (x := (o : Int) - 1) (by omega) (by omega), w32_id (x := (o : Int) + 1) (by omega) (by omega), q, r, yo]
theorem mu5_be (M : MJ s l t o PR) (cn : CN s t o PR) (ho24 : o ≤ 24) (hg : fI s 2066437804 = g + 1) (h60 : 0 ≤ g) (h61 : g < 590) (hz : aI s 35 g = 5) (q : kd l t = 5) (r : sI l t = 300) (qo : o < 24) (hl1 : t + 1 < l.length) : MCall 48323250 g s ((pushS (vI' (uI (childS (vI' (vI' (nodeS (uI s 1781225132 ((o : Int) + 1)) 5 (t)) 39 (g) (fI s 1915442860)) 23 (fI s 1915442860) (0)) (fI s 1915442860) (aI s 36 g)) 1764447916 ((t : Int) + 1)) 35 (g) (6)) 2 0 (0) (0) (0))) := by
  have ha : fI s 1764447916 = t := M.1.2.1
  have T := M.1.1
  have hlt : t < l.length := M.1.a
  have hl2 := T.2.1
  have ho := M.2.1
  have hbad := M.2.2.1
  have b1 : (0 : Int) ≤ t := by omega
  have b2 : (t : Int) < 490 := by omega
  have b3 : (0 : Int) ≤ (t : Int) + 1 := by omega
  have b4 : (t : Int) + 1 < 490 := by omega
  have b5 : (0 : Int) ≤ o := by omega
  have b6 : (o : Int) < 25 := by omega
  have b7 : (0 : Int) ≤ g + 1 := by omega
  have b8 : g + 1 < 601 := by omega
  have b9 : g + 1 < 600 := by omega
  have g1 : g < 600 := by omega
  obtain ⟨⟨n1, a1, s1, p1⟩, c2, c3, c4⟩ := cn
  have n2 : fI s 1915442860 < 700 := by omega
  have n3 : 0 ≤ fI s 1915442860 + 1 := by omega
  have n4 : fI s 1915442860 + 1 < 700 := by omega
  have a2 : fI s 2217432748 < 490 := by omega
  have s2 : fI s 2192266924 < 490 := by omega
  obtain ⟨e1, e2, e3, e4⟩ := T.at' hlt
  obtain ⟨f1, f2, f3, f4⟩ := T.at' hl1
  rw [show ((t + 1 : Nat) : Int) = (t : Int) + 1 by omega] at f1 f2 f3 f4
  have b10 : (0 : Int) ≤ (t : Int) + 1 + 1 := by omega
  have b11 : (t : Int) + 1 + 1 < 490 := by omega
  have no24 : ¬ (o : Int) = 24 := by omega
  intro b m d B C
  simp (config := {implicitDefEqProofs := false}) only [e_X10_unit, k_X10_unit_0, k_X10_unit_104, k_X10_unit_109, k_X10_unit_112, k_X10_unit_135, k_X10_unit_138, k_X10_unit_141, k_X10_unit_147, k_X10_unit_150, k_X10_unit_177, k_X10_unit_188, k_X10_unit_196, k_X10_unit_199, k_X10_unit_225, k_X10_unit_229, k_X10_unit_242, k_X10_unit_245, k_X10_unit_265, k_X10_unit_270, k_X10_unit_273, k_X10_unit_287, k_X10_unit_307, k_X10_unit_310, k_X10_unit_317, k_X10_unit_330, k_X10_unit_350, k_X10_unit_355, k_X10_unit_358, k_X10_unit_382, k_X10_unit_385, k_X10_unit_399, k_X10_unit_419, e_X10_behindTertiary, k_X10_behindTertiary_0, k_X10_behindTertiary_7, k_X10_behindTertiary_12, k_X10_behindTertiary_18, k_X10_behindTertiary_21, k_X10_behindTertiary_27, k_X10_behindTertiary_30, k_X10_behindTertiary_40, k_X10_behindTertiary_41, k_X10_behindTertiary_45, k_X10_behindTertiary_48, k_X10_behindTertiary_49, k_X10_behindTertiary_59, k_X10_behindTertiary_63, k_X10_behindTertiary_65, k_X10_behindTertiary_72, k_X10_behindTertiary_89, k_X10_behindTertiary_92, k_X10_behindTertiary_96, k_X10_behindTertiary_97, k_X10_behindTertiary_114, k_X10_behindTertiary_136, k_X10_behindTertiary_145, k_X10_behindTertiary_149, k_X10_behindTertiary_155, k_X10_behindTertiary_158, k_X10_behindTertiary_181, k_X10_behindTertiary_187, k_X10_behindTertiary_193, bnd_v, bnd_x, pu_s, pu_n, b01_T, b01_F, Int.reduceEq, Int.reduceLT, Int.reduceLE, Int.reduceNe, Nat.reduceEqDiff, Nat.reduceLeDiff, and_false, false_and, and_true, true_and, or_false, false_or, or_true, true_or, if_true, if_false, not_true_eq_false, not_false_eq_true, eq_self, ne_eq, reduceCtorEq, false_implies, true_implies, implies_true, fI_uI, fI_uJ, fI_vI, fI_vJ, fJ_uI, fJ_uJ, fJ_vI, fJ_vJ, aI_uI, aI_uJ, aI_vI, aI_vJ, aJ_uI, aJ_uJ, aJ_vI, aJ_vJ, inA, mr_isSign, mr_isKept, mr_fails, mr_takeSign, mr_takeKept, mr_opens, mr_opensSign, mr_closesSign, mf_newNode, mf_newMode, mf_child, mf_push, mf_give, mf_giveRoutine, mf_giveMode, tkd, tis, tpl, fI_uI, fI_uJ, fI_vI, fI_vJ, fJ_uI, fJ_uJ, fJ_vI, fJ_vJ, aI_uI, aI_uJ, aI_vI, aI_vJ, aJ_uI, aJ_uJ, aJ_vI, aJ_vJ, fI_nodeS, aI_nodeS, aJ_nodeS, fI_modeS, aI_modeS, aJ_modeS, fI_pushS, aI_pushS, aJ_pushS, fI_giveS, aI_giveS, aJ_giveS, fI_gmodeS, aI_gmodeS, aJ_gmodeS, fI_childS, aI_childS, aJ_childS, B, mf_childD, hz, hg, ha, ho, b1, b2, b3, b4, b5, b6, b7, b8, b9, h60, g1, hbad, n1, n2, n3, n4, a1, a2, s1, s2, e1, e2, e3, e4, w32_id (x := (t : Int) + 1) (by omega) (by omega), w32_id (x := (o : Int) - 1) (by omega) (by omega), w32_id (x := (o : Int) + 1) (by omega) (by omega), f1, f2, f3, f4, b10, b11, q, r, no24]
theorem mu5_is (M : MJ s l t o PR) (cn : CN s t o PR) (ho24 : o ≤ 24) (hg : fI s 2066437804 = g + 1) (h60 : 0 ≤ g) (h61 : g < 590) (hz : aI s 35 g = 5) (q : kd l t = 1) (r : sI l t = 7) (qo : o < 24) (hl1 : t + 1 < l.length) (q1 : ¬ (kd l (t + 1) = 1 ∧ sI l (t + 1) = 6)) : MCall 48323250 g s ((vI' (pushS (vI' (uI (childS (vI' (vI' (nodeS (uI s 1781225132 ((o : Int) + 1)) 6 (t)) 39 (g) (fI s 1915442860)) 23 (fI s 1915442860) (1)) (fI s 1915442860) (aI s 36 g)) 1764447916 ((t : Int) + 1)) 35 (g) (6)) 3 0 (fI s 2192266924) (fI s 2217432748) (0)) 39 (g + 1) (fI s 2175489708))) := by
  have ha : fI s 1764447916 = t := M.1.2.1
  have T := M.1.1
  have hlt : t < l.length := M.1.a
  have hl2 := T.2.1
  have ho := M.2.1
  have hbad := M.2.2.1
  have b1 : (0 : Int) ≤ t := by omega
  have b2 : (t : Int) < 490 := by omega
  have b3 : (0 : Int) ≤ (t : Int) + 1 := by omega
  have b4 : (t : Int) + 1 < 490 := by omega
  have b5 : (0 : Int) ≤ o := by omega
  have b6 : (o : Int) < 25 := by omega
  have b7 : (0 : Int) ≤ g + 1 := by omega
  have b8 : g + 1 < 601 := by omega
  have b9 : g + 1 < 600 := by omega
  have g1 : g < 600 := by omega
  obtain ⟨⟨n1, a1, s1, p1⟩, c2, c3, c4⟩ := cn
  have n2 : fI s 1915442860 < 700 := by omega
  have n3 : 0 ≤ fI s 1915442860 + 1 := by omega
  have n4 : fI s 1915442860 + 1 < 700 := by omega
  have a2 : fI s 2217432748 < 490 := by omega
  have s2 : fI s 2192266924 < 490 := by omega
  obtain ⟨e1, e2, e3, e4⟩ := T.at' hlt
  obtain ⟨f1, f2, f3, f4⟩ := T.at' hl1
  rw [show ((t + 1 : Nat) : Int) = (t : Int) + 1 by omega] at f1 f2 f3 f4
  have b10 : (0 : Int) ≤ (t : Int) + 1 + 1 := by omega
  have b11 : (t : Int) + 1 + 1 < 490 := by omega
  have no24 : ¬ (o : Int) = 24 := by omega
  intro b m d B C
  simp (config := {implicitDefEqProofs := false}) only [e_X10_unit, k_X10_unit_0, k_X10_unit_104, k_X10_unit_109, k_X10_unit_112, k_X10_unit_135, k_X10_unit_138, k_X10_unit_141, k_X10_unit_147, k_X10_unit_150, k_X10_unit_177, k_X10_unit_188, k_X10_unit_196, k_X10_unit_199, k_X10_unit_225, k_X10_unit_229, k_X10_unit_242, k_X10_unit_245, k_X10_unit_265, k_X10_unit_270, k_X10_unit_273, k_X10_unit_287, k_X10_unit_307, k_X10_unit_310, k_X10_unit_317, k_X10_unit_330, k_X10_unit_350, k_X10_unit_355, k_X10_unit_358, k_X10_unit_382, k_X10_unit_385, k_X10_unit_399, k_X10_unit_419, e_X10_behindTertiary, k_X10_behindTertiary_0, k_X10_behindTertiary_7, k_X10_behindTertiary_12, k_X10_behindTertiary_18, k_X10_behindTertiary_21, k_X10_behindTertiary_27, k_X10_behindTertiary_30, k_X10_behindTertiary_40, k_X10_behindTertiary_41, k_X10_behindTertiary_45, k_X10_behindTertiary_48, k_X10_behindTertiary_49, k_X10_behindTertiary_59, k_X10_behindTertiary_63, k_X10_behindTertiary_65, k_X10_behindTertiary_72, k_X10_behindTertiary_89, k_X10_behindTertiary_92, k_X10_behindTertiary_96, k_X10_behindTertiary_97, k_X10_behindTertiary_114, k_X10_behindTertiary_136, k_X10_behindTertiary_145, k_X10_behindTertiary_149, k_X10_behindTertiary_155, k_X10_behindTertiary_158, k_X10_behindTertiary_181, k_X10_behindTertiary_187, k_X10_behindTertiary_193, e_X10_beginFormula, k_X10_beginFormula_0, k_X10_beginFormula_15, bnd_v, bnd_x, pu_s, pu_n, b01_T, b01_F, Int.reduceEq, Int.reduceLT, Int.reduceLE, Int.reduceNe, Nat.reduceEqDiff, Nat.reduceLeDiff, and_false, false_and, and_true, true_and, or_false, false_or, or_true, true_or, if_true, if_false, not_true_eq_false, not_false_eq_true, eq_self, ne_eq, reduceCtorEq, false_implies, true_implies, implies_true, fI_uI, fI_uJ, fI_vI, fI_vJ, fJ_uI, fJ_uJ, fJ_vI, fJ_vJ, aI_uI, aI_uJ, aI_vI, aI_vJ, aJ_uI, aJ_uJ, aJ_vI, aJ_vJ, inA, mr_isSign, mr_isKept, mr_fails, mr_takeSign, mr_takeKept, mr_opens, mr_opensSign, mr_closesSign, mf_newNode, mf_newMode, mf_child, mf_push, mf_give, mf_giveRoutine, mf_giveMode, tkd, tis, tpl, fI_uI, fI_uJ, fI_vI, fI_vJ, fJ_uI, fJ_uJ, fJ_vI, fJ_vJ, aI_uI, aI_uJ, aI_vI, aI_vJ, aJ_uI, aJ_uJ, aJ_vI, aJ_vJ, fI_nodeS, aI_nodeS, aJ_nodeS, fI_modeS, aI_modeS, aJ_modeS, fI_pushS, aI_pushS, aJ_pushS, fI_giveS, aI_giveS, aJ_giveS, fI_gmodeS, aI_gmodeS, aJ_gmodeS, fI_childS, aI_childS, aJ_childS, B, mf_childD, hz, hg, ha, ho, b1, b2, b3, b4, b5, b6, b7, b8, b9, h60, g1, hbad, n1, n2, n3, n4, a1, a2, s1, s2, e1, e2, e3, e4, w32_id (x := (t : Int) + 1) (by omega) (by omega), w32_id (x := (o : Int) - 1) (by omega) (by omega), w32_id (x := (o : Int) + 1) (by omega) (by omega), f1, f2, f3, f4, b10, b11, q, r, no24, q1]
theorem mu5_isN (M : MJ s l t o PR) (cn : CN s t o PR) (ho24 : o ≤ 24) (hg : fI s 2066437804 = g + 1) (h60 : 0 ≤ g) (h61 : g < 590) (hz : aI s 35 g = 5) (q : kd l t = 1) (r : sI l t = 7) (qo : o < 24) (hl1 : t + 1 < l.length) (q1 : kd l (t + 1) = 1) (r1 : sI l (t + 1) = 6) : MCall 48323250 g s ((uI (nodeS (uI (vI' (uI (childS (vI' (vI' (nodeS (uI s 1781225132 ((o : Int) + 1)) 6 (t)) 39 (g) (fI s 1915442860)) 23 (fI s 1915442860) (1)) (fI s 1915442860) (aI s 36 g)) 1764447916 ((t : Int) + 1)) 35 (g) (6)) 1764447916 ((t : Int) + 1 + 1)) 9 ((t : Int) + 1)) 2125158060 (fI s 1915442860 + 1))) := by
  have ha : fI s 1764447916 = t := M.1.2.1
  have T := M.1.1
  have hlt : t < l.length := M.1.a
  have hl2 := T.2.1
  have ho := M.2.1
  have hbad := M.2.2.1
  have b1 : (0 : Int) ≤ t := by omega
  have b2 : (t : Int) < 490 := by omega
  have b3 : (0 : Int) ≤ (t : Int) + 1 := by omega
  have b4 : (t : Int) + 1 < 490 := by omega
  have b5 : (0 : Int) ≤ o := by omega
  have b6 : (o : Int) < 25 := by omega
  have b7 : (0 : Int) ≤ g + 1 := by omega
  have b8 : g + 1 < 601 := by omega
  have b9 : g + 1 < 600 := by omega
  have g1 : g < 600 := by omega
  obtain ⟨⟨n1, a1, s1, p1⟩, c2, c3, c4⟩ := cn
  have n2 : fI s 1915442860 < 700 := by omega
  have n3 : 0 ≤ fI s 1915442860 + 1 := by omega
  have n4 : fI s 1915442860 + 1 < 700 := by omega
  have a2 : fI s 2217432748 < 490 := by omega
  have s2 : fI s 2192266924 < 490 := by omega
  obtain ⟨e1, e2, e3, e4⟩ := T.at' hlt
  obtain ⟨f1, f2, f3, f4⟩ := T.at' hl1
  rw [show ((t + 1 : Nat) : Int) = (t : Int) + 1 by omega] at f1 f2 f3 f4
  have b10 : (0 : Int) ≤ (t : Int) + 1 + 1 := by omega
  have b11 : (t : Int) + 1 + 1 < 490 := by omega
  have no24 : ¬ (o : Int) = 24 := by omega
  intro b m d B C
  simp (config := {implicitDefEqProofs := false}) only [e_X10_unit, k_X10_unit_0, k_X10_unit_104, k_X10_unit_109, k_X10_unit_112, k_X10_unit_135, k_X10_unit_138, k_X10_unit_141, k_X10_unit_147, k_X10_unit_150, k_X10_unit_177, k_X10_unit_188, k_X10_unit_196, k_X10_unit_199, k_X10_unit_225, k_X10_unit_229, k_X10_unit_242, k_X10_unit_245, k_X10_unit_265, k_X10_unit_270, k_X10_unit_273, k_X10_unit_287, k_X10_unit_307, k_X10_unit_310, k_X10_unit_317, k_X10_unit_330, k_X10_unit_350, k_X10_unit_355, k_X10_unit_358, k_X10_unit_382, k_X10_unit_385, k_X10_unit_399, k_X10_unit_419, e_X10_behindTertiary, k_X10_behindTertiary_0, k_X10_behindTertiary_7, k_X10_behindTertiary_12, k_X10_behindTertiary_18, k_X10_behindTertiary_21, k_X10_behindTertiary_27, k_X10_behindTertiary_30, k_X10_behindTertiary_40, k_X10_behindTertiary_41, k_X10_behindTertiary_45, k_X10_behindTertiary_48, k_X10_behindTertiary_49, k_X10_behindTertiary_59, k_X10_behindTertiary_63, k_X10_behindTertiary_65, k_X10_behindTertiary_72, k_X10_behindTertiary_89, k_X10_behindTertiary_92, k_X10_behindTertiary_96, k_X10_behindTertiary_97, k_X10_behindTertiary_114, k_X10_behindTertiary_136, k_X10_behindTertiary_145, k_X10_behindTertiary_149, k_X10_behindTertiary_155, k_X10_behindTertiary_158, k_X10_behindTertiary_181, k_X10_behindTertiary_187, k_X10_behindTertiary_193, bnd_v, bnd_x, pu_s, pu_n, b01_T, b01_F, Int.reduceEq, Int.reduceLT, Int.reduceLE, Int.reduceNe, Nat.reduceEqDiff, Nat.reduceLeDiff, and_false, false_and, and_true, true_and, or_false, false_or, or_true, true_or, if_true, if_false, not_true_eq_false, not_false_eq_true, eq_self, ne_eq, reduceCtorEq, false_implies, true_implies, implies_true, fI_uI, fI_uJ, fI_vI, fI_vJ, fJ_uI, fJ_uJ, fJ_vI, fJ_vJ, aI_uI, aI_uJ, aI_vI, aI_vJ, aJ_uI, aJ_uJ, aJ_vI, aJ_vJ, inA, mr_isSign, mr_isKept, mr_fails, mr_takeSign, mr_takeKept, mr_opens, mr_opensSign, mr_closesSign, mf_newNode, mf_newMode, mf_child, mf_push, mf_give, mf_giveRoutine, mf_giveMode, tkd, tis, tpl, fI_uI, fI_uJ, fI_vI, fI_vJ, fJ_uI, fJ_uJ, fJ_vI, fJ_vJ, aI_uI, aI_uJ, aI_vI, aI_vJ, aJ_uI, aJ_uJ, aJ_vI, aJ_vJ, fI_nodeS, aI_nodeS, aJ_nodeS, fI_modeS, aI_modeS, aJ_modeS, fI_pushS, aI_pushS, aJ_pushS, fI_giveS, aI_giveS, aJ_giveS, fI_gmodeS, aI_gmodeS, aJ_gmodeS, fI_childS, aI_childS, aJ_childS, B, mf_childD, hz, hg, ha, ho, b1, b2, b3, b4, b5, b6, b7, b8, b9, h60, g1, hbad, n1, n2, n3, n4, a1, a2, s1, s2, e1, e2, e3, e4, w32_id (x := (t : Int) + 1) (by omega) (by omega), w32_id (x := (o : Int) - 1) (by omega) (by omega), w32_id (x := (o : Int) + 1) (by omega) (by omega), f1, f2, f3, f4, b10, b11, q, r, no24, q1, r1, w32_id (x := (t : Int) + 1 + 1) (by omega) (by omega), w32_id (x := (t : Int) + 1 + 1 - 1) (by omega) (by omega), Int.add_sub_cancel]
theorem mu5_nt (M : MJ s l t o PR) (cn : CN s t o PR) (ho24 : o ≤ 24) (hg : fI s 2066437804 = g + 1) (h60 : 0 ≤ g) (h61 : g < 590) (hz : aI s 35 g = 5) (q : kd l t = 1) (r : sI l t = 8) (qo : o < 24) (hl1 : t + 1 < l.length) (q1 : ¬ (kd l (t + 1) = 1 ∧ sI l (t + 1) = 6)) : MCall 48323250 g s ((vI' (pushS (vI' (uI (childS (vI' (vI' (nodeS (uI s 1781225132 ((o : Int) + 1)) 6 (t)) 39 (g) (fI s 1915442860)) 23 (fI s 1915442860) (0)) (fI s 1915442860) (aI s 36 g)) 1764447916 ((t : Int) + 1)) 35 (g) (6)) 3 0 (fI s 2192266924) (fI s 2217432748) (0)) 39 (g + 1) (fI s 2175489708))) := by
  have ha : fI s 1764447916 = t := M.1.2.1
  have T := M.1.1
  have hlt : t < l.length := M.1.a
  have hl2 := T.2.1
  have ho := M.2.1
  have hbad := M.2.2.1
  have b1 : (0 : Int) ≤ t := by omega
  have b2 : (t : Int) < 490 := by omega
  have b3 : (0 : Int) ≤ (t : Int) + 1 := by omega
  have b4 : (t : Int) + 1 < 490 := by omega
  have b5 : (0 : Int) ≤ o := by omega
  have b6 : (o : Int) < 25 := by omega
  have b7 : (0 : Int) ≤ g + 1 := by omega
  have b8 : g + 1 < 601 := by omega
  have b9 : g + 1 < 600 := by omega
  have g1 : g < 600 := by omega
  obtain ⟨⟨n1, a1, s1, p1⟩, c2, c3, c4⟩ := cn
  have n2 : fI s 1915442860 < 700 := by omega
  have n3 : 0 ≤ fI s 1915442860 + 1 := by omega
  have n4 : fI s 1915442860 + 1 < 700 := by omega
  have a2 : fI s 2217432748 < 490 := by omega
  have s2 : fI s 2192266924 < 490 := by omega
  obtain ⟨e1, e2, e3, e4⟩ := T.at' hlt
  obtain ⟨f1, f2, f3, f4⟩ := T.at' hl1
  rw [show ((t + 1 : Nat) : Int) = (t : Int) + 1 by omega] at f1 f2 f3 f4
  have b10 : (0 : Int) ≤ (t : Int) + 1 + 1 := by omega
  have b11 : (t : Int) + 1 + 1 < 490 := by omega
  have no24 : ¬ (o : Int) = 24 := by omega
  intro b m d B C
  simp (config := {implicitDefEqProofs := false}) only [e_X10_unit, k_X10_unit_0, k_X10_unit_104, k_X10_unit_109, k_X10_unit_112, k_X10_unit_135, k_X10_unit_138, k_X10_unit_141, k_X10_unit_147, k_X10_unit_150, k_X10_unit_177, k_X10_unit_188, k_X10_unit_196, k_X10_unit_199, k_X10_unit_225, k_X10_unit_229, k_X10_unit_242, k_X10_unit_245, k_X10_unit_265, k_X10_unit_270, k_X10_unit_273, k_X10_unit_287, k_X10_unit_307, k_X10_unit_310, k_X10_unit_317, k_X10_unit_330, k_X10_unit_350, k_X10_unit_355, k_X10_unit_358, k_X10_unit_382, k_X10_unit_385, k_X10_unit_399, k_X10_unit_419, e_X10_behindTertiary, k_X10_behindTertiary_0, k_X10_behindTertiary_7, k_X10_behindTertiary_12, k_X10_behindTertiary_18, k_X10_behindTertiary_21, k_X10_behindTertiary_27, k_X10_behindTertiary_30, k_X10_behindTertiary_40, k_X10_behindTertiary_41, k_X10_behindTertiary_45, k_X10_behindTertiary_48, k_X10_behindTertiary_49, k_X10_behindTertiary_59, k_X10_behindTertiary_63, k_X10_behindTertiary_65, k_X10_behindTertiary_72, k_X10_behindTertiary_89, k_X10_behindTertiary_92, k_X10_behindTertiary_96, k_X10_behindTertiary_97, k_X10_behindTertiary_114, k_X10_behindTertiary_136, k_X10_behindTertiary_145, k_X10_behindTertiary_149, k_X10_behindTertiary_155, k_X10_behindTertiary_158, k_X10_behindTertiary_181, k_X10_behindTertiary_187, k_X10_behindTertiary_193, e_X10_beginFormula, k_X10_beginFormula_0, k_X10_beginFormula_15, bnd_v, bnd_x, pu_s, pu_n, b01_T, b01_F, Int.reduceEq, Int.reduceLT, Int.reduceLE, Int.reduceNe, Nat.reduceEqDiff, Nat.reduceLeDiff, and_false, false_and, and_true, true_and, or_false, false_or, or_true, true_or, if_true, if_false, not_true_eq_false, not_false_eq_true, eq_self, ne_eq, reduceCtorEq, false_implies, true_implies, implies_true, fI_uI, fI_uJ, fI_vI, fI_vJ, fJ_uI, fJ_uJ, fJ_vI, fJ_vJ, aI_uI, aI_uJ, aI_vI, aI_vJ, aJ_uI, aJ_uJ, aJ_vI, aJ_vJ, inA, mr_isSign, mr_isKept, mr_fails, mr_takeSign, mr_takeKept, mr_opens, mr_opensSign, mr_closesSign, mf_newNode, mf_newMode, mf_child, mf_push, mf_give, mf_giveRoutine, mf_giveMode, tkd, tis, tpl, fI_uI, fI_uJ, fI_vI, fI_vJ, fJ_uI, fJ_uJ, fJ_vI, fJ_vJ, aI_uI, aI_uJ, aI_vI, aI_vJ, aJ_uI, aJ_uJ, aJ_vI, aJ_vJ, fI_nodeS, aI_nodeS, aJ_nodeS, fI_modeS, aI_modeS, aJ_modeS, fI_pushS, aI_pushS, aJ_pushS, fI_giveS, aI_giveS, aJ_giveS, fI_gmodeS, aI_gmodeS, aJ_gmodeS, fI_childS, aI_childS, aJ_childS, B, mf_childD, hz, hg, ha, ho, b1, b2, b3, b4, b5, b6, b7, b8, b9, h60, g1, hbad, n1, n2, n3, n4, a1, a2, s1, s2, e1, e2, e3, e4, w32_id (x := (t : Int) + 1) (by omega) (by omega), w32_id (x := (o : Int) - 1) (by omega) (by omega), w32_id (x := (o : Int) + 1) (by omega) (by omega), f1, f2, f3, f4, b10, b11, q, r, no24, q1]
theorem mu5_ntN (M : MJ s l t o PR) (cn : CN s t o PR) (ho24 : o ≤ 24) (hg : fI s 2066437804 = g + 1) (h60 : 0 ≤ g) (h61 : g < 590) (hz : aI s 35 g = 5) (q : kd l t = 1) (r : sI l t = 8) (qo : o < 24) (hl1 : t + 1 < l.length) (q1 : kd l (t + 1) = 1) (r1 : sI l (t + 1) = 6) : MCall 48323250 g s ((uI (nodeS (uI (vI' (uI (childS (vI' (vI' (nodeS (uI s 1781225132 ((o : Int) + 1)) 6 (t)) 39 (g) (fI s 1915442860)) 23 (fI s 1915442860) (0)) (fI s 1915442860) (aI s 36 g)) 1764447916 ((t : Int) + 1)) 35 (g) (6)) 1764447916 ((t : Int) + 1 + 1)) 9 ((t : Int) + 1)) 2125158060 (fI s 1915442860 + 1))) := by
  have ha : fI s 1764447916 = t := M.1.2.1
  have T := M.1.1
  have hlt : t < l.length := M.1.a
  have hl2 := T.2.1
  have ho := M.2.1
  have hbad := M.2.2.1
  have b1 : (0 : Int) ≤ t := by omega
  have b2 : (t : Int) < 490 := by omega
  have b3 : (0 : Int) ≤ (t : Int) + 1 := by omega
  have b4 : (t : Int) + 1 < 490 := by omega
  have b5 : (0 : Int) ≤ o := by omega
  have b6 : (o : Int) < 25 := by omega
  have b7 : (0 : Int) ≤ g + 1 := by omega
  have b8 : g + 1 < 601 := by omega
  have b9 : g + 1 < 600 := by omega
  have g1 : g < 600 := by omega
  obtain ⟨⟨n1, a1, s1, p1⟩, c2, c3, c4⟩ := cn
  have n2 : fI s 1915442860 < 700 := by omega
  have n3 : 0 ≤ fI s 1915442860 + 1 := by omega
  have n4 : fI s 1915442860 + 1 < 700 := by omega
  have a2 : fI s 2217432748 < 490 := by omega
  have s2 : fI s 2192266924 < 490 := by omega
  obtain ⟨e1, e2, e3, e4⟩ := T.at' hlt
  obtain ⟨f1, f2, f3, f4⟩ := T.at' hl1
  rw [show ((t + 1 : Nat) : Int) = (t : Int) + 1 by omega] at f1 f2 f3 f4
  have b10 : (0 : Int) ≤ (t : Int) + 1 + 1 := by omega
  have b11 : (t : Int) + 1 + 1 < 490 := by omega
  have no24 : ¬ (o : Int) = 24 := by omega
  intro b m d B C
  simp (config := {implicitDefEqProofs := false}) only [e_X10_unit, k_X10_unit_0, k_X10_unit_104, k_X10_unit_109, k_X10_unit_112, k_X10_unit_135, k_X10_unit_138, k_X10_unit_141, k_X10_unit_147, k_X10_unit_150, k_X10_unit_177, k_X10_unit_188, k_X10_unit_196, k_X10_unit_199, k_X10_unit_225, k_X10_unit_229, k_X10_unit_242, k_X10_unit_245, k_X10_unit_265, k_X10_unit_270, k_X10_unit_273, k_X10_unit_287, k_X10_unit_307, k_X10_unit_310, k_X10_unit_317, k_X10_unit_330, k_X10_unit_350, k_X10_unit_355, k_X10_unit_358, k_X10_unit_382, k_X10_unit_385, k_X10_unit_399, k_X10_unit_419, e_X10_behindTertiary, k_X10_behindTertiary_0, k_X10_behindTertiary_7, k_X10_behindTertiary_12, k_X10_behindTertiary_18, k_X10_behindTertiary_21, k_X10_behindTertiary_27, k_X10_behindTertiary_30, k_X10_behindTertiary_40, k_X10_behindTertiary_41, k_X10_behindTertiary_45, k_X10_behindTertiary_48, k_X10_behindTertiary_49, k_X10_behindTertiary_59, k_X10_behindTertiary_63, k_X10_behindTertiary_65, k_X10_behindTertiary_72, k_X10_behindTertiary_89, k_X10_behindTertiary_92, k_X10_behindTertiary_96, k_X10_behindTertiary_97, k_X10_behindTertiary_114, k_X10_behindTertiary_136, k_X10_behindTertiary_145, k_X10_behindTertiary_149, k_X10_behindTertiary_155, k_X10_behindTertiary_158, k_X10_behindTertiary_181, k_X10_behindTertiary_187, k_X10_behindTertiary_193, bnd_v, bnd_x, pu_s, pu_n, b01_T, b01_F, Int.reduceEq, Int.reduceLT, Int.reduceLE, Int.reduceNe, Nat.reduceEqDiff, Nat.reduceLeDiff, and_false, false_and, and_true, true_and, or_false, false_or, or_true, true_or, if_true, if_false, not_true_eq_false, not_false_eq_true, eq_self, ne_eq, reduceCtorEq, false_implies, true_implies, implies_true, fI_uI, fI_uJ, fI_vI, fI_vJ, fJ_uI, fJ_uJ, fJ_vI, fJ_vJ, aI_uI, aI_uJ, aI_vI, aI_vJ, aJ_uI, aJ_uJ, aJ_vI, aJ_vJ, inA, mr_isSign, mr_isKept, mr_fails, mr_takeSign, mr_takeKept, mr_opens, mr_opensSign, mr_closesSign, mf_newNode, mf_newMode, mf_child, mf_push, mf_give, mf_giveRoutine, mf_giveMode, tkd, tis, tpl, fI_uI, fI_uJ, fI_vI, fI_vJ, fJ_uI, fJ_uJ, fJ_vI, fJ_vJ, aI_uI, aI_uJ, aI_vI, aI_vJ, aJ_uI, aJ_uJ, aJ_vI, aJ_vJ, fI_nodeS, aI_nodeS, aJ_nodeS, fI_modeS, aI_modeS, aJ_modeS, fI_pushS, aI_pushS, aJ_pushS, fI_giveS, aI_giveS, aJ_giveS, fI_gmodeS, aI_gmodeS, aJ_gmodeS, fI_childS, aI_childS, aJ_childS, B, mf_childD, hz, hg, ha, ho, b1, b2, b3, b4, b5, b6, b7, b8, b9, h60, g1, hbad, n1, n2, n3, n4, a1, a2, s1, s2, e1, e2, e3, e4, w32_id (x := (t : Int) + 1) (by omega) (by omega), w32_id (x := (o : Int) - 1) (by omega) (by omega), w32_id (x := (o : Int) + 1) (by omega) (by omega), f1, f2, f3, f4, b10, b11, q, r, no24, q1, r1, w32_id (x := (t : Int) + 1 + 1) (by omega) (by omega), w32_id (x := (t : Int) + 1 + 1 - 1) (by omega) (by omega), Int.add_sub_cancel]
theorem mu6 (M : MJ s l t o PR) (cn : CN s t o PR) (ho24 : o ≤ 24) (hg : fI s 2066437804 = g + 1) (h60 : 0 ≤ g) (h61 : g < 590) (hz : aI s 35 g = 6) (d1 : 0 ≤ aI s 39 g) (d2 : aI s 39 g < 700) (hl : aI s 20 (aI s 39 g) = -1 ∨ (0 ≤ aI s 21 (aI s 39 g) ∧ aI s 21 (aI s 39 g) < 700)) : MCall 48323250 g s ((giveS (uI (childS s (aI s 39 g) (fI s 2125158060)) 1781225132 ((o : Int) - 1)) (aI s 39 g) 0)) := by
  have ha : fI s 1764447916 = t := M.1.2.1
  have T := M.1.1
  have hlt : t < l.length := M.1.a
  have hl2 := T.2.1
  have ho := M.2.1
  have hbad := M.2.2.1
  have b1 : (0 : Int) ≤ t := by omega
  have b2 : (t : Int) < 490 := by omega
  have b3 : (0 : Int) ≤ (t : Int) + 1 := by omega
  have b4 : (t : Int) + 1 < 490 := by omega
  have b5 : (0 : Int) ≤ o := by omega
  have b6 : (o : Int) < 25 := by omega
  have b7 : (0 : Int) ≤ g + 1 := by omega
  have b8 : g + 1 < 601 := by omega
  have b9 : g + 1 < 600 := by omega
  have g1 : g < 600 := by omega
  obtain ⟨⟨n1, a1, s1, p1⟩, c2, c3, c4⟩ := cn
  have n2 : fI s 1915442860 < 700 := by omega
  have n3 : 0 ≤ fI s 1915442860 + 1 := by omega
  have n4 : fI s 1915442860 + 1 < 700 := by omega
  have a2 : fI s 2217432748 < 490 := by omega
  have s2 : fI s 2192266924 < 490 := by omega
  obtain ⟨e1, e2, e3, e4⟩ := T.at' hlt
  intro b m d B C
  simp (config := {implicitDefEqProofs := false}) only [e_X10_unit, k_X10_unit_0, k_X10_unit_104, k_X10_unit_109, k_X10_unit_112, k_X10_unit_135, k_X10_unit_138, k_X10_unit_141, k_X10_unit_147, k_X10_unit_150, k_X10_unit_177, k_X10_unit_188, k_X10_unit_196, k_X10_unit_199, k_X10_unit_225, k_X10_unit_229, k_X10_unit_242, k_X10_unit_245, k_X10_unit_265, k_X10_unit_270, k_X10_unit_273, k_X10_unit_287, k_X10_unit_307, k_X10_unit_310, k_X10_unit_317, k_X10_unit_330, k_X10_unit_350, k_X10_unit_355, k_X10_unit_358, k_X10_unit_382, k_X10_unit_385, k_X10_unit_399, k_X10_unit_419, bnd_v, bnd_x, pu_s, pu_n, b01_T, b01_F, Int.reduceEq, Int.reduceLT, Int.reduceLE, Int.reduceNe, Nat.reduceEqDiff, Nat.reduceLeDiff, and_false, false_and, and_true, true_and, or_false, false_or, or_true, true_or, if_true, if_false, not_true_eq_false, not_false_eq_true, eq_self, ne_eq, reduceCtorEq, false_implies, true_implies, implies_true, fI_uI, fI_uJ, fI_vI, fI_vJ, fJ_uI, fJ_uJ, fJ_vI, fJ_vJ, aI_uI, aI_uJ, aI_vI, aI_vJ, aJ_uI, aJ_uJ, aJ_vI, aJ_vJ, inA, mr_isSign, mr_isKept, mr_fails, mr_takeSign, mr_takeKept, mr_opens, mr_opensSign, mr_closesSign, mf_newNode, mf_newMode, mf_child, mf_push, mf_give, mf_giveRoutine, mf_giveMode, tkd, tis, tpl, fI_uI, fI_uJ, fI_vI, fI_vJ, fJ_uI, fJ_uJ, fJ_vI, fJ_vJ, aI_uI, aI_uJ, aI_vI, aI_vJ, aJ_uI, aJ_uJ, aJ_vI, aJ_vJ, fI_nodeS, aI_nodeS, aJ_nodeS, fI_modeS, aI_modeS, aJ_modeS, fI_pushS, aI_pushS, aJ_pushS, fI_giveS, aI_giveS, aJ_giveS, fI_gmodeS, aI_gmodeS, aJ_gmodeS, fI_childS, aI_childS, aJ_childS, B, mf_childD, hz, hg, ha, ho, b1, b2, b3, b4, b5, b6, b7, b8, b9, h60, g1, hbad, n1, n2, n3, n4, a1, a2, s1, s2, e1, e2, e3, e4, w32_id (x := (t : Int) + 1) (by omega) (by omega), w32_id (x := (o : Int) - 1) (by omega) (by omega), w32_id (x := (o : Int) + 1) (by omega) (by omega), d1, d2, hl]
end MU
