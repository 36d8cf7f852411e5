/-! READING NODES: selections -/
set_option maxRecDepth 100000
set_option maxHeartbeats 1000000
section MSE
variable {s : MS} {l : List TokE} {t o : Nat} {PR g i : Int}
theorem mse_F (M : MJ s l t o PR) (cn : CN s t o PR) (ho24 : o ≤ 24) (hg : fI s 2066437804 = g + 1) (h60 : 0 ≤ g) (h61 : g < 590) (hz : aI s 35 g = 1) (q : kd l t = 3) (hl1 : t + 1 < l.length) (q1 : kd l (t + 1) = 1) (r1 : sI l (t + 1) = 11) (qo : o = 24) : MCall 49896114 g s ((uI (uI (uI (vI' s 43 (fI s 2217432748) (t)) 2217432748 (fI s 2217432748 + 1)) 1764447916 ((t : Int) + 1)) 1772836524 (pl l (t + 1)))) := by
  have ha : fI s 1764447916 = t := M.1.2.1
  have T := M.1.1
  have hlt : t < l.length := M.1.a
  have hl2 := T.2.1
  have ho := M.2.1
  have hbad := M.2.2.1
  have b1 : (0 : Int) ≤ t := by omega
  have b2 : (t : Int) < 490 := by omega
  have b3 : (0 : Int) ≤ (t : Int) + 1 := by omega
  have b4 : (t : Int) + 1 < 490 := by omega
  have b5 : (0 : Int) ≤ o := by omega
  have b6 : (o : Int) < 25 := by omega
  have b7 : (0 : Int) ≤ g + 1 := by omega
  have b8 : g + 1 < 601 := by omega
  have b9 : g + 1 < 600 := by omega
  have g1 : g < 600 := by omega
  obtain ⟨⟨n1, a1, s1, p1⟩, c2, c3, c4⟩ := cn
  have n2 : fI s 1915442860 < 700 := by omega
  have n3 : 0 ≤ fI s 1915442860 + 1 := by omega
  have n4 : fI s 1915442860 + 1 < 700 := by omega
  have a2 : fI s 2217432748 < 490 := by omega
  have s2 : fI s 2192266924 < 490 := by omega
  obtain ⟨e1, e2, e3, e4⟩ := T.at' hlt
  obtain ⟨f1, f2, f3, f4⟩ := T.at' hl1
  rw [show ((t + 1 : Nat) : Int) = (t : Int) + 1 by omega] at f1 f2 f3 f4
  have b10 : (0 : Int) ≤ (t : Int) + 1 + 1 := by omega
  have b11 : (t : Int) + 1 + 1 < 490 := by omega
  have yo : (o : Int) = 24 := by omega
  intro b m d B C
  simp (config := {implicitDefEqProofs := false}) only [e_X10_formula, k_X10_formula_0, k_X10_formula_104, k_X10_formula_109, k_X10_formula_112, k_X10_formula_117, k_X10_formula_120, k_X10_formula_127, k_X10_formula_140, k_X10_formula_151, k_X10_formula_179, k_X10_formula_191, k_X10_formula_197, k_X10_formula_200, k_X10_formula_203, k_X10_formula_219, k_X10_formula_235, k_X10_formula_240, k_X10_formula_243, k_X10_formula_254, k_X10_formula_266, k_X10_formula_272, k_X10_formula_288, k_X10_formula_294, k_X10_formula_297, k_X10_formula_300, k_X10_formula_308, k_X10_formula_323, k_X10_formula_355, k_X10_formula_359, k_X10_formula_364, e_X10_secondary, k_X10_secondary_0, k_X10_secondary_13, k_X10_secondary_28, k_X10_secondary_44, k_X10_secondary_81, k_X10_secondary_84, k_X10_secondary_85, k_X10_secondary_105, k_X10_secondary_110, k_X10_secondary_113, k_X10_secondary_118, k_X10_secondary_121, k_X10_secondary_149, k_X10_secondary_153, k_X10_secondary_158, bnd_v, bnd_x, pu_s, pu_n, b01_T, b01_F, Int.reduceEq, Int.reduceLT, Int.reduceLE, Int.reduceNe, Nat.reduceEqDiff, Nat.reduceLeDiff, and_false, false_and, and_true, true_and, or_false, false_or, or_true, true_or, if_true, if_false, not_true_eq_false, not_false_eq_true, eq_self, ne_eq, reduceCtorEq, false_implies, true_implies, implies_true, fI_uI, fI_uJ, fI_vI, fI_vJ, fJ_uI, fJ_uJ, fJ_vI, fJ_vJ, aI_uI, aI_uJ, aI_vI, aI_vJ, aJ_uI, aJ_uJ, aJ_vI, aJ_vJ, inA, mr_isSign, mr_isKept, mr_fails, mr_takeSign, mr_takeKept, mr_opens, mr_opensSign, mr_closesSign, mf_newNode, mf_newMode, mf_child, mf_push, mf_give, mf_giveRoutine, mf_giveMode, tkd, tis, tpl, fI_uI, fI_uJ, fI_vI, fI_vJ, fJ_uI, fJ_uJ, fJ_vI, fJ_vJ, aI_uI, aI_uJ, aI_vI, aI_vJ, aJ_uI, aJ_uJ, aJ_vI, aJ_vJ, fI_nodeS, aI_nodeS, aJ_nodeS, fI_modeS, aI_modeS, aJ_modeS, fI_pushS, aI_pushS, aJ_pushS, fI_giveS, aI_giveS, aJ_giveS, fI_gmodeS, aI_gmodeS, aJ_gmodeS, fI_childS, aI_childS, aJ_childS, B, mf_childD, hz, hg, ha, ho, b1, b2, b3, b4, b5, b6, b7, b8, b9, h60, g1, hbad, n1, n2, n3, n4, a1, a2, s1, s2, e1, e2, e3, e4, w32_id (x := (t : Int) + 1) (by omega) (by omega), w32_id (x := (o : Int) - 1) (by omega) (by omega), w32_id (x := (o : Int) + 1) (by omega) (by omega), f1, f2, f3, f4, b10, b11, q, q1, r1, w32_id (x := fI s 2217432748 + 1) (by omega) (by omega), w32_id (x := (t : Int) + 1 + 1) (by omega) (by omega), yo]
theorem mse (M : MJ s l t o PR) (cn : CN s t o PR) (ho24 : o ≤ 24) (hg : fI s 2066437804 = g + 1) (h60 : 0 ≤ g) (h61 : g < 590) (hz : aI s 35 g = 1) (q : kd l t = 3) (hl1 : t + 1 < l.length) (q1 : kd l (t + 1) = 1) (r1 : sI l (t + 1) = 11) (qo : o < 24) : MCall 49896114 g s ((vI' (uI (uI (uI (uI (vI' s 43 (fI s 2217432748) (t)) 2217432748 (fI s 2217432748 + 1)) 1764447916 ((t : Int) + 1)) 1781225132 ((o : Int) + 1)) 1764447916 ((t : Int) + 1 + 1)) 38 (g) (0))) := by
  have ha : fI s 1764447916 = t := M.1.2.1
  have T := M.1.1
  have hlt : t < l.length := M.1.a
  have hl2 := T.2.1
  have ho := M.2.1
  have hbad := M.2.2.1
  have b1 : (0 : Int) ≤ t := by omega
  have b2 : (t : Int) < 490 := by omega
  have b3 : (0 : Int) ≤ (t : Int) + 1 := by omega
  have b4 : (t : Int) + 1 < 490 := by omega
  have b5 : (0 : Int) ≤ o := by omega
  have b6 : (o : Int) < 25 := by omega
  have b7 : (0 : Int) ≤ g + 1 := by omega
  have b8 : g + 1 < 601 := by omega
  have b9 : g + 1 < 600 := by omega
  have g1 : g < 600 := by omega
  obtain ⟨⟨n1, a1, s1, p1⟩, c2, c3, c4⟩ := cn
  have n2 : fI s 1915442860 < 700 := by omega
  have n3 : 0 ≤ fI s 1915442860 + 1 := by omega
  have n4 : fI s 1915442860 + 1 < 700 := by omega
  have a2 : fI s 2217432748 < 490 := by omega
  have s2 : fI s 2192266924 < 490 := by omega
  obtain ⟨e1, e2, e3, e4⟩ := T.at' hlt
  obtain ⟨f1, f2, f3, f4⟩ := T.at' hl1
  rw [show ((t + 1 : Nat) : Int) = (t : Int) + 1 by omega] at f1 f2 f3 f4
  have b10 : (0 : Int) ≤ (t : Int) + 1 + 1 := by omega
  have b11 : (t : Int) + 1 + 1 < 490 := by omega
  have no24 : ¬ (o : Int) = 24 := by omega
  intro b m d B C
  simp (config := {implicitDefEqProofs := false}) only [e_X10_formula, k_X10_formula_0, k_X10_formula_104, k_X10_formula_109, k_X10_formula_112, k_X10_formula_117, k_X10_formula_120, k_X10_formula_127, k_X10_formula_140, k_X10_formula_151, k_X10_formula_179, k_X10_formula_191, k_X10_formula_197, k_X10_formula_200, k_X10_formula_203, k_X10_formula_219, k_X10_formula_235, k_X10_formula_240, k_X10_formula_243, k_X10_formula_254, k_X10_formula_266, k_X10_formula_272, k_X10_formula_288, k_X10_formula_294, k_X10_formula_297, k_X10_formula_300, k_X10_formula_308, k_X10_formula_323, k_X10_formula_355, k_X10_formula_359, k_X10_formula_364, e_X10_secondary, k_X10_secondary_0, k_X10_secondary_13, k_X10_secondary_28, k_X10_secondary_44, k_X10_secondary_81, k_X10_secondary_84, k_X10_secondary_85, k_X10_secondary_105, k_X10_secondary_110, k_X10_secondary_113, k_X10_secondary_118, k_X10_secondary_121, k_X10_secondary_149, k_X10_secondary_153, k_X10_secondary_158, bnd_v, bnd_x, pu_s, pu_n, b01_T, b01_F, Int.reduceEq, Int.reduceLT, Int.reduceLE, Int.reduceNe, Nat.reduceEqDiff, Nat.reduceLeDiff, and_false, false_and, and_true, true_and, or_false, false_or, or_true, true_or, if_true, if_false, not_true_eq_false, not_false_eq_true, eq_self, ne_eq, reduceCtorEq, false_implies, true_implies, implies_true, fI_uI, fI_uJ, fI_vI, fI_vJ, fJ_uI, fJ_uJ, fJ_vI, fJ_vJ, aI_uI, aI_uJ, aI_vI, aI_vJ, aJ_uI, aJ_uJ, aJ_vI, aJ_vJ, inA, mr_isSign, mr_isKept, mr_fails, mr_takeSign, mr_takeKept, mr_opens, mr_opensSign, mr_closesSign, mf_newNode, mf_newMode, mf_child, mf_push, mf_give, mf_giveRoutine, mf_giveMode, tkd, tis, tpl, fI_uI, fI_uJ, fI_vI, fI_vJ, fJ_uI, fJ_uJ, fJ_vI, fJ_vJ, aI_uI, aI_uJ, aI_vI, aI_vJ, aJ_uI, aJ_uJ, aJ_vI, aJ_vJ, fI_nodeS, aI_nodeS, aJ_nodeS, fI_modeS, aI_modeS, aJ_modeS, fI_pushS, aI_pushS, aJ_pushS, fI_giveS, aI_giveS, aJ_giveS, fI_gmodeS, aI_gmodeS, aJ_gmodeS, fI_childS, aI_childS, aJ_childS, B, mf_childD, hz, hg, ha, ho, b1, b2, b3, b4, b5, b6, b7, b8, b9, h60, g1, hbad, n1, n2, n3, n4, a1, a2, s1, s2, e1, e2, e3, e4, w32_id (x := (t : Int) + 1) (by omega) (by omega), w32_id (x := (o : Int) - 1) (by omega) (by omega), w32_id (x := (o : Int) + 1) (by omega) (by omega), f1, f2, f3, f4, b10, b11, q, q1, r1, w32_id (x := fI s 2217432748 + 1) (by omega) (by omega), w32_id (x := (t : Int) + 1 + 1) (by omega) (by omega), no24]
theorem mss (M : MJ s l t o PR) (cn : CN s t o PR) (ho24 : o ≤ 24) (G : GP s g 3 1) (h61 : g < 590) (q : kd l t = 3) (hl1 : t + 1 < l.length) (q1 : kd l (t + 1) = 1) (r1 : sI l (t + 1) = 11) (qo : o < 24) : ∃ s1, Reach s s1 ∧ SW (-1) (-1) (g + 1) s s1 (t + 1 + 1) (o + 1) ∧ GP s1 g 3 1 ∧ aI s1 38 g = 0 ∧ aI s1 36 g = aI s 36 g ∧ aI s1 37 g = aI s 37 g ∧ aI s1 39 g = aI s 39 g ∧ fI s1 1915442860 = fI s 1915442860 ∧ fI s1 2217432748 = fI s 2217432748 + 1 ∧ fI s1 2192266924 = fI s 2192266924 ∧ fI s1 2175489708 = fI s 2175489708 ∧ aI s1 43 (fI s 2217432748) = t ∧ CN s1 (t + 1 + 1) (o + 1) PR := by
  obtain ⟨hg1, g0, hgo, hz⟩ := G
  obtain ⟨⟨k1, k2, k3, k4⟩, k5, k6, k7⟩ := id cn
  refine ⟨(vI' (uI (uI (uI (uI (vI' s 43 (fI s 2217432748) (t)) 2217432748 (fI s 2217432748 + 1)) 1764447916 ((t : Int) + 1)) 1781225132 ((o : Int) + 1)) 1764447916 ((t : Int) + 1 + 1)) 38 (g) (0)), Reach.one (by rw [hg1]; omega) (by have := M.2.2.1; omega) (step_of hg1 ⟨g0, by omega⟩ hgo (by decide) (mse M cn ho24 hg1 g0 h61 hz q hl1 q1 r1 qo)), ?_, ?_, ?_, ?_, ?_, ?_, ?_, ?_, ?_, ?_, ?_, ?_⟩
  · refine ⟨?_, ?_, ⟨?_, ?_, ?_⟩, ⟨?_, ?_, ?_, ?_, ?_⟩, ?_⟩
    · refine (FrN.vI (FrN.uI (FrN.uI (FrN.uI (FrN.uI (FrN.vI FrN.rf (by decide) ?_) (by decide)) (by decide)) (by decide)) (by decide)) (by decide) ?_)
      all_goals (first | exact Int.le_refl _ | exact Or.inl (show fI s 2217432748 ≤ _ from Int.le_refl _) | exact ⟨Int.le_refl _, Int.le_refl _⟩ | exact Or.inl (Int.le_refl _) | exact Or.inl (show fI s 2066437804 - 1 ≤ _ by omega) | (show fI s 2066437804 - 1 ≤ _; simp (config := {implicitDefEqProofs := false}) only [bnd_v, bnd_x, pu_s, pu_n, b01_T, b01_F, Int.reduceEq, Int.reduceLT, Int.reduceLE, Int.reduceNe, Nat.reduceEqDiff, Nat.reduceLeDiff, and_false, false_and, and_true, true_and, or_false, false_or, or_true, true_or, if_true, if_false, not_true_eq_false, not_false_eq_true, eq_self, ne_eq, reduceCtorEq, false_implies, true_implies, implies_true, fI_uI, fI_uJ, fI_vI, fI_vJ, fJ_uI, fJ_uJ, fJ_vI, fJ_vJ, aI_uI, aI_uJ, aI_vI, aI_vJ, aJ_uI, aJ_uJ, aJ_vI, aJ_vJ, fI_nodeS, aI_nodeS, aJ_nodeS, fI_modeS, aI_modeS, aJ_modeS, fI_pushS, aI_pushS, aJ_pushS, fI_giveS, aI_giveS, aJ_giveS, fI_gmodeS, aI_gmodeS, aJ_gmodeS, fI_childS, aI_childS, aJ_childS]; omega) | exact Or.inr (Or.inr ⟨by decide, rfl⟩) | exact Or.inr (Or.inr ⟨by decide, by assumption⟩) | exact Or.inr rfl | (refine Or.inl ?_; simp (config := {implicitDefEqProofs := false}) only [bnd_v, bnd_x, pu_s, pu_n, b01_T, b01_F, Int.reduceEq, Int.reduceLT, Int.reduceLE, Int.reduceNe, Nat.reduceEqDiff, Nat.reduceLeDiff, and_false, false_and, and_true, true_and, or_false, false_or, or_true, true_or, if_true, if_false, not_true_eq_false, not_false_eq_true, eq_self, ne_eq, reduceCtorEq, false_implies, true_implies, implies_true, fI_uI, fI_uJ, fI_vI, fI_vJ, fJ_uI, fJ_uJ, fJ_vI, fJ_vJ, aI_uI, aI_uJ, aI_vI, aI_vJ, aJ_uI, aJ_uJ, aJ_vI, aJ_vJ, fI_nodeS, aI_nodeS, aJ_nodeS, fI_modeS, aI_modeS, aJ_modeS, fI_pushS, aI_pushS, aJ_pushS, fI_giveS, aI_giveS, aJ_giveS, fI_gmodeS, aI_gmodeS, aJ_gmodeS, fI_childS, aI_childS, aJ_childS]; done) | (refine Or.inr (Or.inr ?_); simp (config := {implicitDefEqProofs := false}) only [bnd_v, bnd_x, pu_s, pu_n, b01_T, b01_F, Int.reduceEq, Int.reduceLT, Int.reduceLE, Int.reduceNe, Nat.reduceEqDiff, Nat.reduceLeDiff, and_false, false_and, and_true, true_and, or_false, false_or, or_true, true_or, if_true, if_false, not_true_eq_false, not_false_eq_true, eq_self, ne_eq, reduceCtorEq, false_implies, true_implies, implies_true, fI_uI, fI_uJ, fI_vI, fI_vJ, fJ_uI, fJ_uJ, fJ_vI, fJ_vJ, aI_uI, aI_uJ, aI_vI, aI_vJ, aJ_uI, aJ_uJ, aJ_vI, aJ_vJ, fI_nodeS, aI_nodeS, aJ_nodeS, fI_modeS, aI_modeS, aJ_modeS, fI_pushS, aI_pushS, aJ_pushS, fI_giveS, aI_giveS, aJ_giveS, fI_gmodeS, aI_gmodeS, aJ_gmodeS, fI_childS, aI_childS, aJ_childS]; done) | (refine Or.inr (Or.inl ?_); show fI s 1915442860 ≤ _; simp (config := {implicitDefEqProofs := false}) only [bnd_v, bnd_x, pu_s, pu_n, b01_T, b01_F, Int.reduceEq, Int.reduceLT, Int.reduceLE, Int.reduceNe, Nat.reduceEqDiff, Nat.reduceLeDiff, and_false, false_and, and_true, true_and, or_false, false_or, or_true, true_or, if_true, if_false, not_true_eq_false, not_false_eq_true, eq_self, ne_eq, reduceCtorEq, false_implies, true_implies, implies_true, fI_uI, fI_uJ, fI_vI, fI_vJ, fJ_uI, fJ_uJ, fJ_vI, fJ_vJ, aI_uI, aI_uJ, aI_vI, aI_vJ, aJ_uI, aJ_uJ, aJ_vI, aJ_vJ, fI_nodeS, aI_nodeS, aJ_nodeS, fI_modeS, aI_modeS, aJ_modeS, fI_pushS, aI_pushS, aJ_pushS, fI_giveS, aI_giveS, aJ_giveS, fI_gmodeS, aI_gmodeS, aJ_gmodeS, fI_childS, aI_childS, aJ_childS]; omega) | (constructor <;> (show fI s 1915442860 ≤ _; simp (config := {implicitDefEqProofs := false}) only [bnd_v, bnd_x, pu_s, pu_n, b01_T, b01_F, Int.reduceEq, Int.reduceLT, Int.reduceLE, Int.reduceNe, Nat.reduceEqDiff, Nat.reduceLeDiff, and_false, false_and, and_true, true_and, or_false, false_or, or_true, true_or, if_true, if_false, not_true_eq_false, not_false_eq_true, eq_self, ne_eq, reduceCtorEq, false_implies, true_implies, implies_true, fI_uI, fI_uJ, fI_vI, fI_vJ, fJ_uI, fJ_uJ, fJ_vI, fJ_vJ, aI_uI, aI_uJ, aI_vI, aI_vJ, aJ_uI, aJ_uJ, aJ_vI, aJ_vJ, fI_nodeS, aI_nodeS, aJ_nodeS, fI_modeS, aI_modeS, aJ_modeS, fI_pushS, aI_pushS, aJ_pushS, fI_giveS, aI_giveS, aJ_giveS, fI_gmodeS, aI_gmodeS, aJ_gmodeS, fI_childS, aI_childS, aJ_childS]; omega)) | (constructor <;> (show fI s 1915442860 ≤ _; simp (config := {implicitDefEqProofs := false}) only [bnd_v, bnd_x, pu_s, pu_n, b01_T, b01_F, Int.reduceEq, Int.reduceLT, Int.reduceLE, Int.reduceNe, Nat.reduceEqDiff, Nat.reduceLeDiff, and_false, false_and, and_true, true_and, or_false, false_or, or_true, true_or, if_true, if_false, not_true_eq_false, not_false_eq_true, eq_self, ne_eq, reduceCtorEq, false_implies, true_implies, implies_true, fI_uI, fI_uJ, fI_vI, fI_vJ, fJ_uI, fJ_uJ, fJ_vI, fJ_vJ, aI_uI, aI_uJ, aI_vI, aI_vJ, aJ_uI, aJ_uJ, aJ_vI, aJ_vJ, fI_nodeS, aI_nodeS, aJ_nodeS, fI_modeS, aI_modeS, aJ_modeS, fI_pushS, aI_pushS, aJ_pushS, fI_giveS, aI_giveS, aJ_giveS, fI_gmodeS, aI_gmodeS, aJ_gmodeS, fI_childS, aI_childS, aJ_childS]; exact Int.le_refl _)) | (refine Or.inl ?_; show fI s 1915442860 ≤ _; simp (config := {implicitDefEqProofs := false}) only [bnd_v, bnd_x, pu_s, pu_n, b01_T, b01_F, Int.reduceEq, Int.reduceLT, Int.reduceLE, Int.reduceNe, Nat.reduceEqDiff, Nat.reduceLeDiff, and_false, false_and, and_true, true_and, or_false, false_or, or_true, true_or, if_true, if_false, not_true_eq_false, not_false_eq_true, eq_self, ne_eq, reduceCtorEq, false_implies, true_implies, implies_true, fI_uI, fI_uJ, fI_vI, fI_vJ, fJ_uI, fJ_uJ, fJ_vI, fJ_vJ, aI_uI, aI_uJ, aI_vI, aI_vJ, aJ_uI, aJ_uJ, aJ_vI, aJ_vJ, fI_nodeS, aI_nodeS, aJ_nodeS, fI_modeS, aI_modeS, aJ_modeS, fI_pushS, aI_pushS, aJ_pushS, fI_giveS, aI_giveS, aJ_giveS, fI_gmodeS, aI_gmodeS, aJ_gmodeS, fI_childS, aI_childS, aJ_childS]; omega) | (refine Or.inl ?_; show fI s 1915442860 ≤ _; omega) | (show fI s 1915442860 ≤ _; omega))
    all_goals (simp (config := {implicitDefEqProofs := false}) only [bnd_v, bnd_x, pu_s, pu_n, b01_T, b01_F, Int.reduceEq, Int.reduceLT, Int.reduceLE, Int.reduceNe, Nat.reduceEqDiff, Nat.reduceLeDiff, and_false, false_and, and_true, true_and, or_false, false_or, or_true, true_or, if_true, if_false, not_true_eq_false, not_false_eq_true, eq_self, ne_eq, reduceCtorEq, false_implies, true_implies, implies_true, fI_uI, fI_uJ, fI_vI, fI_vJ, fJ_uI, fJ_uJ, fJ_vI, fJ_vJ, aI_uI, aI_uJ, aI_vI, aI_vJ, aJ_uI, aJ_uJ, aJ_vI, aJ_vJ, fI_nodeS, aI_nodeS, aJ_nodeS, fI_modeS, aI_modeS, aJ_modeS, fI_pushS, aI_pushS, aJ_pushS, fI_giveS, aI_giveS, aJ_giveS, fI_gmodeS, aI_gmodeS, aJ_gmodeS, fI_childS, aI_childS, aJ_childS, M.1.2.1, M.2.1, M.2.2.1, hg1]; try omega)
  · refine ⟨?_, g0, ?_, ?_⟩
    all_goals simp (config := {implicitDefEqProofs := false}) only [bnd_v, bnd_x, pu_s, pu_n, b01_T, b01_F, Int.reduceEq, Int.reduceLT, Int.reduceLE, Int.reduceNe, Nat.reduceEqDiff, Nat.reduceLeDiff, and_false, false_and, and_true, true_and, or_false, false_or, or_true, true_or, if_true, if_false, not_true_eq_false, not_false_eq_true, eq_self, ne_eq, reduceCtorEq, false_implies, true_implies, implies_true, fI_uI, fI_uJ, fI_vI, fI_vJ, fJ_uI, fJ_uJ, fJ_vI, fJ_vJ, aI_uI, aI_uJ, aI_vI, aI_vJ, aJ_uI, aJ_uJ, aJ_vI, aJ_vJ, fI_nodeS, aI_nodeS, aJ_nodeS, fI_modeS, aI_modeS, aJ_modeS, fI_pushS, aI_pushS, aJ_pushS, fI_giveS, aI_giveS, aJ_giveS, fI_gmodeS, aI_gmodeS, aJ_gmodeS, fI_childS, aI_childS, aJ_childS, hg1, hgo, hz]
  · simp (config := {implicitDefEqProofs := false}) only [bnd_v, bnd_x, pu_s, pu_n, b01_T, b01_F, Int.reduceEq, Int.reduceLT, Int.reduceLE, Int.reduceNe, Nat.reduceEqDiff, Nat.reduceLeDiff, and_false, false_and, and_true, true_and, or_false, false_or, or_true, true_or, if_true, if_false, not_true_eq_false, not_false_eq_true, eq_self, ne_eq, reduceCtorEq, false_implies, true_implies, implies_true, fI_uI, fI_uJ, fI_vI, fI_vJ, fJ_uI, fJ_uJ, fJ_vI, fJ_vJ, aI_uI, aI_uJ, aI_vI, aI_vJ, aJ_uI, aJ_uJ, aJ_vI, aJ_vJ, fI_nodeS, aI_nodeS, aJ_nodeS, fI_modeS, aI_modeS, aJ_modeS, fI_pushS, aI_pushS, aJ_pushS, fI_giveS, aI_giveS, aJ_giveS, fI_gmodeS, aI_gmodeS, aJ_gmodeS, fI_childS, aI_childS, aJ_childS, hg1, hgo, hz]
  · simp (config := {implicitDefEqProofs := false}) only [bnd_v, bnd_x, pu_s, pu_n, b01_T, b01_F, Int.reduceEq, Int.reduceLT, Int.reduceLE, Int.reduceNe, Nat.reduceEqDiff, Nat.reduceLeDiff, and_false, false_and, and_true, true_and, or_false, false_or, or_true, true_or, if_true, if_false, not_true_eq_false, not_false_eq_true, eq_self, ne_eq, reduceCtorEq, false_implies, true_implies, implies_true, fI_uI, fI_uJ, fI_vI, fI_vJ, fJ_uI, fJ_uJ, fJ_vI, fJ_vJ, aI_uI, aI_uJ, aI_vI, aI_vJ, aJ_uI, aJ_uJ, aJ_vI, aJ_vJ, fI_nodeS, aI_nodeS, aJ_nodeS, fI_modeS, aI_modeS, aJ_modeS, fI_pushS, aI_pushS, aJ_pushS, fI_giveS, aI_giveS, aJ_giveS, fI_gmodeS, aI_gmodeS, aJ_gmodeS, fI_childS, aI_childS, aJ_childS, hg1, hgo, hz]
  · simp (config := {implicitDefEqProofs := false}) only [bnd_v, bnd_x, pu_s, pu_n, b01_T, b01_F, Int.reduceEq, Int.reduceLT, Int.reduceLE, Int.reduceNe, Nat.reduceEqDiff, Nat.reduceLeDiff, and_false, false_and, and_true, true_and, or_false, false_or, or_true, true_or, if_true, if_false, not_true_eq_false, not_false_eq_true, eq_self, ne_eq, reduceCtorEq, false_implies, true_implies, implies_true, fI_uI, fI_uJ, fI_vI, fI_vJ, fJ_uI, fJ_uJ, fJ_vI, fJ_vJ, aI_uI, aI_uJ, aI_vI, aI_vJ, aJ_uI, aJ_uJ, aJ_vI, aJ_vJ, fI_nodeS, aI_nodeS, aJ_nodeS, fI_modeS, aI_modeS, aJ_modeS, fI_pushS, aI_pushS, aJ_pushS, fI_giveS, aI_giveS, aJ_giveS, fI_gmodeS, aI_gmodeS, aJ_gmodeS, fI_childS, aI_childS, aJ_childS, hg1, hgo, hz]
  · simp (config := {implicitDefEqProofs := false}) only [bnd_v, bnd_x, pu_s, pu_n, b01_T, b01_F, Int.reduceEq, Int.reduceLT, Int.reduceLE, Int.reduceNe, Nat.reduceEqDiff, Nat.reduceLeDiff, and_false, false_and, and_true, true_and, or_false, false_or, or_true, true_or, if_true, if_false, not_true_eq_false, not_false_eq_true, eq_self, ne_eq, reduceCtorEq, false_implies, true_implies, implies_true, fI_uI, fI_uJ, fI_vI, fI_vJ, fJ_uI, fJ_uJ, fJ_vI, fJ_vJ, aI_uI, aI_uJ, aI_vI, aI_vJ, aJ_uI, aJ_uJ, aJ_vI, aJ_vJ, fI_nodeS, aI_nodeS, aJ_nodeS, fI_modeS, aI_modeS, aJ_modeS, fI_pushS, aI_pushS, aJ_pushS, fI_giveS, aI_giveS, aJ_giveS, fI_gmodeS, aI_gmodeS, aJ_gmodeS, fI_childS, aI_childS, aJ_childS, hg1, hgo, hz]
  · simp (config := {implicitDefEqProofs := false}) only [bnd_v, bnd_x, pu_s, pu_n, b01_T, b01_F, Int.reduceEq, Int.reduceLT, Int.reduceLE, Int.reduceNe, Nat.reduceEqDiff, Nat.reduceLeDiff, and_false, false_and, and_true, true_and, or_false, false_or, or_true, true_or, if_true, if_false, not_true_eq_false, not_false_eq_true, eq_self, ne_eq, reduceCtorEq, false_implies, true_implies, implies_true, fI_uI, fI_uJ, fI_vI, fI_vJ, fJ_uI, fJ_uJ, fJ_vI, fJ_vJ, aI_uI, aI_uJ, aI_vI, aI_vJ, aJ_uI, aJ_uJ, aJ_vI, aJ_vJ, fI_nodeS, aI_nodeS, aJ_nodeS, fI_modeS, aI_modeS, aJ_modeS, fI_pushS, aI_pushS, aJ_pushS, fI_giveS, aI_giveS, aJ_giveS, fI_gmodeS, aI_gmodeS, aJ_gmodeS, fI_childS, aI_childS, aJ_childS, hg1, hgo, hz]
  · simp (config := {implicitDefEqProofs := false}) only [bnd_v, bnd_x, pu_s, pu_n, b01_T, b01_F, Int.reduceEq, Int.reduceLT, Int.reduceLE, Int.reduceNe, Nat.reduceEqDiff, Nat.reduceLeDiff, and_false, false_and, and_true, true_and, or_false, false_or, or_true, true_or, if_true, if_false, not_true_eq_false, not_false_eq_true, eq_self, ne_eq, reduceCtorEq, false_implies, true_implies, implies_true, fI_uI, fI_uJ, fI_vI, fI_vJ, fJ_uI, fJ_uJ, fJ_vI, fJ_vJ, aI_uI, aI_uJ, aI_vI, aI_vJ, aJ_uI, aJ_uJ, aJ_vI, aJ_vJ, fI_nodeS, aI_nodeS, aJ_nodeS, fI_modeS, aI_modeS, aJ_modeS, fI_pushS, aI_pushS, aJ_pushS, fI_giveS, aI_giveS, aJ_giveS, fI_gmodeS, aI_gmodeS, aJ_gmodeS, fI_childS, aI_childS, aJ_childS, hg1, hgo, hz]
  · simp (config := {implicitDefEqProofs := false}) only [bnd_v, bnd_x, pu_s, pu_n, b01_T, b01_F, Int.reduceEq, Int.reduceLT, Int.reduceLE, Int.reduceNe, Nat.reduceEqDiff, Nat.reduceLeDiff, and_false, false_and, and_true, true_and, or_false, false_or, or_true, true_or, if_true, if_false, not_true_eq_false, not_false_eq_true, eq_self, ne_eq, reduceCtorEq, false_implies, true_implies, implies_true, fI_uI, fI_uJ, fI_vI, fI_vJ, fJ_uI, fJ_uJ, fJ_vI, fJ_vJ, aI_uI, aI_uJ, aI_vI, aI_vJ, aJ_uI, aJ_uJ, aJ_vI, aJ_vJ, fI_nodeS, aI_nodeS, aJ_nodeS, fI_modeS, aI_modeS, aJ_modeS, fI_pushS, aI_pushS, aJ_pushS, fI_giveS, aI_giveS, aJ_giveS, fI_gmodeS, aI_gmodeS, aJ_gmodeS, fI_childS, aI_childS, aJ_childS, hg1, hgo, hz]
  · simp (config := {implicitDefEqProofs := false}) only [bnd_v, bnd_x, pu_s, pu_n, b01_T, b01_F, Int.reduceEq, Int.reduceLT, Int.reduceLE, Int.reduceNe, Nat.reduceEqDiff, Nat.reduceLeDiff, and_false, false_and, and_true, true_and, or_false, false_or, or_true, true_or, if_true, if_false, not_true_eq_false, not_false_eq_true, eq_self, ne_eq, reduceCtorEq, false_implies, true_implies, implies_true, fI_uI, fI_uJ, fI_vI, fI_vJ, fJ_uI, fJ_uJ, fJ_vI, fJ_vJ, aI_uI, aI_uJ, aI_vI, aI_vJ, aJ_uI, aJ_uJ, aJ_vI, aJ_vJ, fI_nodeS, aI_nodeS, aJ_nodeS, fI_modeS, aI_modeS, aJ_modeS, fI_pushS, aI_pushS, aJ_pushS, fI_giveS, aI_giveS, aJ_giveS, fI_gmodeS, aI_gmodeS, aJ_gmodeS, fI_childS, aI_childS, aJ_childS, hg1, hgo, hz]
  · simp (config := {implicitDefEqProofs := false}) only [bnd_v, bnd_x, pu_s, pu_n, b01_T, b01_F, Int.reduceEq, Int.reduceLT, Int.reduceLE, Int.reduceNe, Nat.reduceEqDiff, Nat.reduceLeDiff, and_false, false_and, and_true, true_and, or_false, false_or, or_true, true_or, if_true, if_false, not_true_eq_false, not_false_eq_true, eq_self, ne_eq, reduceCtorEq, false_implies, true_implies, implies_true, fI_uI, fI_uJ, fI_vI, fI_vJ, fJ_uI, fJ_uJ, fJ_vI, fJ_vJ, aI_uI, aI_uJ, aI_vI, aI_vJ, aJ_uI, aJ_uJ, aJ_vI, aJ_vJ, fI_nodeS, aI_nodeS, aJ_nodeS, fI_modeS, aI_modeS, aJ_modeS, fI_pushS, aI_pushS, aJ_pushS, fI_giveS, aI_giveS, aJ_giveS, fI_gmodeS, aI_gmodeS, aJ_gmodeS, fI_childS, aI_childS, aJ_childS, hg1, hgo, hz]
  · refine ⟨⟨?_, ?_, ?_, ?_⟩, ?_, ?_, ?_⟩
    all_goals (simp (config := {implicitDefEqProofs := false}) only [bnd_v, bnd_x, pu_s, pu_n, b01_T, b01_F, Int.reduceEq, Int.reduceLT, Int.reduceLE, Int.reduceNe, Nat.reduceEqDiff, Nat.reduceLeDiff, and_false, false_and, and_true, true_and, or_false, false_or, or_true, true_or, if_true, if_false, not_true_eq_false, not_false_eq_true, eq_self, ne_eq, reduceCtorEq, false_implies, true_implies, implies_true, fI_uI, fI_uJ, fI_vI, fI_vJ, fJ_uI, fJ_uJ, fJ_vI, fJ_vJ, aI_uI, aI_uJ, aI_vI, aI_vJ, aJ_uI, aJ_uJ, aJ_vI, aJ_vJ, fI_nodeS, aI_nodeS, aJ_nodeS, fI_modeS, aI_modeS, aJ_modeS, fI_pushS, aI_pushS, aJ_pushS, fI_giveS, aI_giveS, aJ_giveS, fI_gmodeS, aI_gmodeS, aJ_gmodeS, fI_childS, aI_childS, aJ_childS]; omega)
end MSE
section SEL
variable {hG h h0 h1 : PH} {sG s s1 : MS} {p lx t o t1 o1 : Nat} {l : List TokE} {PR g : Int} {P P1 : List (Nat × Int)} {O O1 W W1 X : Nat → Prop} {Z0 ZM Z u u' y y1 : Nat} {v w : Int} {dl dl1 : List Nat} {R R1 : Int × Nat → Prop}
theorem sc_selF {k d : Nat} (J : JN hG sG p lx l PR Z0 ZM h s t o P O dl y) (G : FG s g 1) (hg : g ≤ 20 * o + 8) (c1 : kd l t = 3) (c2 : kd l (t + 1) = 1) (c3 : sI l (t + 1) = 11) (qo : o = 24) : BN hG sG p l Z0 ZM (F (d + 275) 112271937 [vR p] h) s := by
  have M := JNX.m J
  have Y := JNX.x J
  have F0 := JNX.f J
  have hp := JNX.hp J
  have p0 := JNX.p0 J
  have ho24 : o ≤ 24 := Y.2.2.2.2.2.1
  have hxt : t < xc l := M.1.2.2
  have xl : xc l ≤ l.length := M.1.1.x
  have hl2 := M.1.1.2.1
  have rm := JNX.room J
  have lt6 : t < 1000000 := by omega
  obtain ⟨⟨k1, k2, k3, k4⟩, k5, k6, k7⟩ := JNX.c J
  have cn := JNX.c J
  have x1 : hk h < cLim := by unfold Room at rm; omega
  have x2 : hs h + 20 ≤ sLim := by unfold Room at rm; omega
  have x8 : hs h + 8 ≤ sLim := by omega
  have x9 : hs h + 9 ≤ sLim := by omega
  have pn : ¬ (p = hn h) := by omega
  have hl1 : t + 1 < xc l := Y.next hxt (by rw [c1]; decide) (by rw [c1]; decide)
  have iw : ∀ d, F (d + 6) 102834755 [vR p, vI ((t + 1 : Nat) : Int), vR (gR h 3808428034 0)] h = some (.inl (some (vI (b01 (kd l (t + 1) = 1 ∧ sI l (t + 1) = 11)))), h) := fun d => f_isWord2 d Y hl1 (by decide)
  have X1 := (XU.rf (W := (· = p)) Y F0).st rfl (t1 := t + 1) hl1
  obtain ⟨hg1, g0, hgo, hz⟩ := G.1
  have lt7 : t + 1 < 1000000 := by omega
  have RC : Reach s (uI (uI (uI (vI' s 43 (fI s 2217432748) (t)) 2217432748 (fI s 2217432748 + 1)) 1764447916 ((t : Int) + 1)) 1772836524 (pl l (t + 1))) := Reach.one (by rw [hg1]; omega) (by have := M.2.2.1; omega) (step_of hg1 ⟨g0, by omega⟩ hgo (by decide) (mse_F M cn ho24 hg1 g0 (by omega) hz c1 (by omega) c2 c3 qo))
  obtain ⟨e, h1, w1, w2, w3⟩ := f_openN (d + 268) X1.2.1 (X1.rm rm (by omega)) qo
  have fw : FrW s (uI (uI (uI (vI' s 43 (fI s 2217432748) (t)) 2217432748 (fI s 2217432748 + 1)) 1764447916 ((t : Int) + 1)) 1772836524 (pl l (t + 1))) := (Fr.uI (Fr.uI (Fr.uI (Fr.vI (Fr.rf (L := Lm s) (v := -1)) (by decide) (Or.inl (Int.le_refl _))) (by decide)) (by decide)) (by decide)).w (by have := M.2.2.2; show _ ≤ fI s 1789613740; omega) (by have := M.2.2.2; show _ ≤ fI s 1848333996; omega) (by have := M.2.2.2; show _ ≤ fI s 2024494764; omega)
  refine JNX.now J X1.1 (fun _ z => Or.inr z) (by omega) ⟨e, h1, ?_, w2, w3⟩ hl1 RC (by simp (config := {implicitDefEqProofs := false}) only [bnd_v, bnd_x, pu_s, pu_n, b01_T, b01_F, Int.reduceEq, Int.reduceLT, Int.reduceLE, Int.reduceNe, Nat.reduceEqDiff, Nat.reduceLeDiff, and_false, false_and, and_true, true_and, or_false, false_or, or_true, true_or, if_true, if_false, not_true_eq_false, not_false_eq_true, eq_self, ne_eq, reduceCtorEq, false_implies, true_implies, implies_true, fI_uI, fI_uJ, fI_vI, fI_vJ, fJ_uI, fJ_uJ, fJ_vI, fJ_vJ, aI_uI, aI_uJ, aI_vI, aI_vJ, aJ_uI, aJ_uJ, aJ_vI, aJ_vJ, fI_nodeS, aI_nodeS, aJ_nodeS, fI_modeS, aI_modeS, aJ_modeS, fI_pushS, aI_pushS, aJ_pushS, fI_giveS, aI_giveS, aJ_giveS, fI_gmodeS, aI_gmodeS, aJ_gmodeS, fI_childS, aI_childS, aJ_childS]) fw
  simp (config := {implicitDefEqProofs := false}) only [e_X11_secondary, c_X11_secondary_0, c_X11_secondary_4, c_X11_secondary_13, c_X11_secondary_19, c_X11_secondary_32, c_X11_secondary_35, c_X11_secondary_39, c_X11_secondary_44, c_X11_secondary_63, c_X11_secondary_67, c_X11_secondary_70, c_X11_secondary_76, c_X11_secondary_79, c_X11_secondary_86, c_X11_secondary_89, c_X11_secondary_96, c_X11_secondary_99, c_X11_secondary_106, c_X11_secondary_117, c_X11_secondary_120, c_X11_secondary_128, c_X11_secondary_132, c_X11_secondary_140, c_X11_secondary_147, c_X11_secondary_148, c_X11_secondary_153, c_X11_secondary_156, bnd_v, bnd_x, pu_s, pu_n, b01_T, b01_F, Int.reduceEq, Int.reduceLT, Int.reduceLE, Int.reduceNe, Nat.reduceEqDiff, Nat.reduceLeDiff, and_false, false_and, and_true, true_and, or_false, false_or, or_true, true_or, if_true, if_false, not_true_eq_false, not_false_eq_true, eq_self, ne_eq, reduceCtorEq, false_implies, true_implies, implies_true, inT, inA, rmO, rmA, rI_pI, rI_pJ, rI_pR, rI_qI, rI_qJ, rI_qR, rJ_pI, rJ_pJ, rJ_pR, rJ_qI, rJ_qJ, rJ_qR, rR_pI, rR_pJ, rR_pR, rR_qI, rR_qJ, rR_qR, sI_pI, sI_pJ, sI_pR, sI_qI, sI_qJ, sI_qR, sJ_pI, sJ_pJ, sJ_pR, sJ_qI, sJ_qJ, sJ_qR, sR_pI, sR_pJ, sR_pR, sR_qI, sR_qJ, sR_qR, hc_pI, hc_pJ, hc_pR, hc_qI, hc_qJ, hc_qR, hl_pI, hl_pJ, hl_pR, hl_qI, hl_qJ, hl_qR, hk_pI, hk_pJ, hk_pR, hk_qI, hk_qJ, hk_qR, hs_pI, hs_pJ, hs_pR, hs_qI, hs_qJ, hs_qR, hn_pI, hn_pJ, hn_pR, hn_qI, hn_qJ, hn_qR, hc_nO', hc_nA', hl_nO, hl_nA', hn_nO, hn_nA, hk_nO, hk_nA, hs_nO, hs_nA, rI_nO, rI_nA, rJ_nO, rJ_nA, rR_nO, rR_nA, Nat.le_refl, Y.1, fpl _ Y, fgt Y, fk0 _ Y, xk2 Y, xk3 Y, xk4 Y, im_op _ Y, tm_op _ Y, im_cp _ Y, tm_cp _ Y, im_ob _ Y, tm_ob _ Y, im_cb _ Y, tm_cb _ Y, im_co _ Y, tm_co _ Y, im_se _ Y, tm_se _ Y, im_cl _ Y, tm_cl _ Y, im_be _ Y, tm_be _ Y, iw_LOC _ Y, tw_LOC _ Y, iw_HEAP _ Y, tw_HEAP _ Y, c1, c2, c3, w32_1 lt6, w32_1 lt7, iw, f_tagY _ Y c1, w1]
theorem sc_sel {k d : Nat} (I : OpdC 112271937 275 1 k) (J : JN hG sG p lx l PR Z0 ZM h s t o P O dl y) (G : FG s g 1) (hg : g ≤ 20 * o + 8) (hK : 24 ≤ o + (k + 1)) (hD : 60 * (24 - o) ≤ d) (c1 : kd l t = 3) (c2 : kd l (t + 1) = 1) (c3 : sI l (t + 1) = 11) (qo : o < 24) : BN hG sG p l Z0 ZM (F (d + 275) 112271937 [vR p] h) s ∨ VOK R0 7 hG sG p lx l PR Z0 ZM (F (d + 275) 112271937 [vR p] h) h s t o P O y g (-1) := by
  have M := JNX.m J
  have Y := JNX.x J
  have F0 := JNX.f J
  have hp := JNX.hp J
  have p0 := JNX.p0 J
  have ho24 : o ≤ 24 := Y.2.2.2.2.2.1
  have hxt : t < xc l := M.1.2.2
  have xl : xc l ≤ l.length := M.1.1.x
  have hl2 := M.1.1.2.1
  have rm := JNX.room J
  have lt6 : t < 1000000 := by omega
  obtain ⟨⟨k1, k2, k3, k4⟩, k5, k6, k7⟩ := JNX.c J
  have cn := JNX.c J
  have x1 : hk h < cLim := by unfold Room at rm; omega
  have x2 : hs h + 20 ≤ sLim := by unfold Room at rm; omega
  have x8 : hs h + 8 ≤ sLim := by omega
  have x9 : hs h + 9 ≤ sLim := by omega
  have pn : ¬ (p = hn h) := by omega
  have hl1 : t + 1 < xc l := Y.next hxt (by rw [c1]; decide) (by rw [c1]; decide)
  have iw : ∀ d, F (d + 6) 102834755 [vR p, vI ((t + 1 : Nat) : Int), vR (gR h 3808428034 0)] h = some (.inl (some (vI (b01 (kd l (t + 1) = 1 ∧ sI l (t + 1) = 11)))), h) := fun d => f_isWord2 d Y hl1 (by decide)
  have X1 := (XU.rf (W := (· = p)) Y F0).st rfl (t1 := t + 1) hl1
  have hl3 : t + 1 + 1 < xc l := Y.next hl1 (by rw [c2]; decide) (by rw [c2]; decide)
  have lt7 : t + 1 < 1000000 := by omega
  have g0 := G.1.2.1
  have hg1 := G.1.1
  have gb0 := G.2.2.1
  obtain ⟨s1, RC, G1, GP1, f0, f1, f2, f3, md, ah, sg, op, at1, cn1⟩ := mss M cn ho24 G.1 (by omega) c1 (by omega) c2 c3 qo
  have x11 : hs h + 11 ≤ sLim := by omega
  have X1b := (X1.so rfl (o1 := o + 1) (by omega)).st rfl (t1 := t + 1 + 1) hl3
  have X2 := X1b.mO (tg := 31) (n := 11) (by decide) (by decide)
  obtain ⟨h1, i1, i2, i3, i4, i5⟩ := x_newSelection (d + 266) X2.i (X2.rm rm (by omega)) (fz_nO) (pl l t) (wd l t)
  have i1 : F (d + 274) 139786739 [vR (hn h), vI (pl l t), vJ (wd l t)] (nO (pI (pI (pI h 1285834896 p ((t + 1 : Nat) : Int)) 1294223504 p ((o + 1 : Nat) : Int)) 1285834896 p ((t + 1 + 1 : Nat) : Int)) 31 11) = some (.inl none, h1) := i1
  have i3 : NF h1 (hn h) 31 (hn h + 1) (pl l t) z0 (pt 1176452733 (wd l t) z0) zr := i3
  have i4 : AL h1 (hn h + 1) [] := i4
  have i5 : hn h1 = hn h + 1 + 2 := i5
  have X3 := X2.tr i2 (fun x z => ⟨by have z : x = hn h := z; omega, Or.inr (by have z : x = hn h := z; omega)⟩)
  have J1 := JNX.stepW J X3.1 (fun _ z => Or.inr z) X3.2.1 X3.2.2 G1 (by omega) ((nmp_k c1 (by decide)).tr (nmp_w c3 (by decide) (by decide))) (y1 := y + 3) (by omega) cn1
  have G2 : FG s1 g 1 := ⟨GP1, by rw [f1, sg]; exact G.2.1, by rw [f2, ah]; constructor <;> omega, by rw [f3, f1]; exact G.2.2.2⟩
  rcases I hG sG p lx l PR Z0 ZM h1 s1 (t + 1 + 1) (o + 1) P O dl (y + 3) g (d + 274) (by omega) J1 G2 (Or.inl f0) (by omega) (by omega) with B | B
  · left
    refine BN.up B RC (fun e h' hb => ?_)
    simp (config := {implicitDefEqProofs := false}) only [e_X11_secondary, c_X11_secondary_0, c_X11_secondary_4, c_X11_secondary_13, c_X11_secondary_19, c_X11_secondary_32, c_X11_secondary_35, c_X11_secondary_39, c_X11_secondary_44, c_X11_secondary_63, c_X11_secondary_67, c_X11_secondary_70, c_X11_secondary_76, c_X11_secondary_79, c_X11_secondary_86, c_X11_secondary_89, c_X11_secondary_96, c_X11_secondary_99, c_X11_secondary_106, c_X11_secondary_117, c_X11_secondary_120, c_X11_secondary_128, c_X11_secondary_132, c_X11_secondary_140, c_X11_secondary_147, c_X11_secondary_148, c_X11_secondary_153, c_X11_secondary_156, bnd_v, bnd_x, pu_s, pu_n, b01_T, b01_F, Int.reduceEq, Int.reduceLT, Int.reduceLE, Int.reduceNe, Nat.reduceEqDiff, Nat.reduceLeDiff, and_false, false_and, and_true, true_and, or_false, false_or, or_true, true_or, if_true, if_false, not_true_eq_false, not_false_eq_true, eq_self, ne_eq, reduceCtorEq, false_implies, true_implies, implies_true, inT, inA, rmO, rmA, rI_pI, rI_pJ, rI_pR, rI_qI, rI_qJ, rI_qR, rJ_pI, rJ_pJ, rJ_pR, rJ_qI, rJ_qJ, rJ_qR, rR_pI, rR_pJ, rR_pR, rR_qI, rR_qJ, rR_qR, sI_pI, sI_pJ, sI_pR, sI_qI, sI_qJ, sI_qR, sJ_pI, sJ_pJ, sJ_pR, sJ_qI, sJ_qJ, sJ_qR, sR_pI, sR_pJ, sR_pR, sR_qI, sR_qJ, sR_qR, hc_pI, hc_pJ, hc_pR, hc_qI, hc_qJ, hc_qR, hl_pI, hl_pJ, hl_pR, hl_qI, hl_qJ, hl_qR, hk_pI, hk_pJ, hk_pR, hk_qI, hk_qJ, hk_qR, hs_pI, hs_pJ, hs_pR, hs_qI, hs_qJ, hs_qR, hn_pI, hn_pJ, hn_pR, hn_qI, hn_qJ, hn_qR, hc_nO', hc_nA', hl_nO, hl_nA', hn_nO, hn_nA, hk_nO, hk_nA, hs_nO, hs_nA, rI_nO, rI_nA, rJ_nO, rJ_nA, rR_nO, rR_nA, Nat.le_refl, Y.1, fpl _ Y, fgt Y, fk0 _ Y, xk2 Y, xk3 Y, xk4 Y, im_op _ Y, tm_op _ Y, im_cp _ Y, tm_cp _ Y, im_ob _ Y, tm_ob _ Y, im_cb _ Y, tm_cb _ Y, im_co _ Y, tm_co _ Y, im_se _ Y, tm_se _ Y, im_cl _ Y, tm_cl _ Y, im_be _ Y, tm_be _ Y, iw_LOC _ Y, tw_LOC _ Y, iw_HEAP _ Y, tw_HEAP _ Y, c1, c2, c3, w32_1 lt6, w32_1 lt7, iw, f_tagY _ Y c1, f_openY _ X1.2.1 qo, x1, x11, pn, i1, i3.1, X3.2.1.1, hb]
  · right
    obtain ⟨q2, i2', h3, s4, s2, t2, P2, O2, dl2, b1, ⟨b2, b2a, b2b, b2c⟩, b3, ⟨b4, b5⟩, b6, ⟨u3, b7⟩, b8, ⟨b9, b10⟩, ⟨b11, b12, b13, b14, b15⟩⟩ := B
    have M2 := JNX.m b3
    have cn2 := JNX.c b3
    have Y3 := JNX.x b3
    have hn3 : hn h1 ≤ hn h3 := b7.1.1
    have wq : ¬ Wp p (hn h) := fun z => by have := z.2; omega
    have wr : ¬ Wp p (hn h + 1) := fun z => by have := z.2; omega
    have al3 := b7.al X3.2.1.c wr (fun z => p0 (by have := z.1; omega)) i4
    have n3 := XU.nf i3 b7 X3.2.1.i wq (by decide)
    have nr : ¬ O2 (hn h + 1) := fun z => (b8.2.1 _ z).elim (fun w => by have := JNX.hi J w; omega) (fun w => by omega)
    have e6 := b6.2.2.1
    have ah2 : fI s2 2217432748 = fI s 2217432748 + 1 := by omega
    have at2 : aI s2 43 (fI s2 2217432748 - 1) = t := by
      rw [show fI s2 2217432748 - 1 = fI s 2217432748 by omega, ← at1]
      exact (b6.1.rk (c := 9) (by decide) k2 (by show _ < fI s1 2217432748; omega) (by decide) (by decide)).1
    have md2 := b6.2.2.2.1
    have posR : ∀ e, (R0 e ∨ Rg (fI s1 1915442860) (fI s2 1915442860) (hn h1) (hn h3) e) → fI s 1915442860 ≤ e.1 ∧ hn h + 3 ≤ e.2 ∧ e.1 < fI s2 1915442860 ∧ e.2 < hn h3 := fun e z => by
      rcases z with z | ⟨z1, z2, z3, z4⟩
      · exact z.elim
      · exact ⟨by omega, by omega, z2, z4⟩
    obtain ⟨h4, l1, l2, J5, K5, G5, E5, ⟨m1, m2, m3, m4, m5⟩, q5⟩ := pop_ok (d := d + 267) (k := 13) (a := 2) (tg := wd l t) (t0 := t) b3 b5 b4 (fun e z => by have := posR e z; refine ⟨?_, ?_, ?_⟩ <;> omega) (by omega) (by have := cn.2.2.1; omega) b6.2.1 n3 al3 (by omega) (by omega) (by omega) nr (by decide) (by decide) hxt rfl (fun h' s' a' n' => by obtain ⟨a1, a2, a3, a4, a5, a6, a7, a8⟩ := a'; obtain ⟨n1, n2, n3, n4, n5, n6⟩ := n'; have n8 := n5 1176452733; unfold APu; simp (config := {implicitDefEqProofs := false}) only [bnd_v, bnd_x, pu_s, pu_n, b01_T, b01_F, Int.reduceEq, Int.reduceLT, Int.reduceLE, Int.reduceNe, Nat.reduceEqDiff, Nat.reduceLeDiff, and_false, false_and, and_true, true_and, or_false, false_or, or_true, true_or, if_true, if_false, not_true_eq_false, not_false_eq_true, eq_self, ne_eq, reduceCtorEq, false_implies, true_implies, implies_true, a1, n1, pt, n8, a7]) (by unfold Ari; simp (config := {implicitDefEqProofs := false}) only [bnd_v, bnd_x, pu_s, pu_n, b01_T, b01_F, Int.reduceEq, Int.reduceLT, Int.reduceLE, Int.reduceNe, Nat.reduceEqDiff, Nat.reduceLeDiff, and_false, false_and, and_true, true_and, or_false, false_or, or_true, true_or, if_true, if_false, not_true_eq_false, not_false_eq_true, eq_self, ne_eq, reduceCtorEq, false_implies, true_implies, implies_true]) (by decide) (by decide) (fun f _ => rfl)
    have hg2 : fI s2 2066437804 = g + 1 := b6.2.1
    have o2 : fI s2 1781225132 = ((o + 1 : Nat) : Int) := M2.2.1
    have mm2 : fI s2 1915442860 < 700 := by have := cn2.2.2.1; have := cn2.1; have := M2.1.a; have := M2.1.1.2.1; omega
    have EQ : Eqv g s2 (uI (uI (childS (vI' (vJ' (nodeS (uI s2 2217432748 (fI s2 2217432748 - 1)) 13 (t : Int)) 25 (fI s2 1915442860) (wd l t)) 23 (fI s2 1915442860) 2) (fI s2 1915442860) (fI s2 2125158060)) 1781225132 (fI s2 1781225132 - 1)) 2125158060 (fI s2 1915442860)) := fun s5 H5 => oe_sel M2.1.1 g0 (by omega) (by omega) at2 (by omega) (by have := cn2.2.1; have := cn2.1; have := M2.1.a; have := M2.1.1.2.1; omega) (by rw [b14, f2]; omega) cn2.1.1 mm2 (by omega) (by omega) c1 H5
    have FR := (((NPr.rf (s := s) (v := -1) (w := -1)).fr (G1.1.mono Ln_Lk) (Or.inl rfl) (Or.inl rfl) : FrN (Ln s) (-1) (-1) s s1))
    have NR1 : NPr (-1) (-1) s s1 := ⟨FR, by have := G1.2.2.2.1; have := G1.2.1; omega, by have := G1.2.2.2.1; omega⟩
    have FR2 := NR1.fr b6.1 (Or.inl rfl) (Or.inl rfl)
    have gm := G1.2.2.2.1
    have gg := G1.2.1
    have NR2 : NPr (-1) (-1) s s2 := ⟨FR2, by omega, by have := b6.2.2.2; omega⟩
    have FR3 := NR2.fr (G5.1.mono Ln_Lk) (Or.inl rfl) (Or.inl rfl)
    have g5 := G5.2.2.2
    have g51 := G5.2.1
    have cl := f_close (d + 273) l2 (o' := o) rfl
    have p4 := l2.1
    have hn5 := E5.1.1
    have EE := (X3.1.mono (W' := Wp p) (fun x _ z => by rw [z]; exact ⟨Nat.le_refl _, by omega⟩) (Nat.le_refl _)).tr b7 (fun _ _ z => z)
    have EF := EE.tr E5 (fun x hx z => by
      rcases z with z | z
      · rw [z]; exact ⟨Nat.le_refl _, by omega⟩
      · omega)
    refine ⟨hn h, fI s2 1915442860, _, s4, (uI (uI (childS (vI' (vJ' (nodeS (uI s2 2217432748 (fI s2 2217432748 - 1)) 13 (t : Int)) 25 (fI s2 1915442860) (wd l t)) 23 (fI s2 1915442860) 2) (fI s2 1915442860) (fI s2 2125158060)) 1781225132 (fI s2 1781225132 - 1)) 2125158060 (fI s2 1915442860)), t2, P2, _, dl2, ?_, ⟨RC.tr b2, b2a, b2b, b2c.tr EQ⟩, J5, ⟨K5.up (fun e z => ?_), m5⟩, ⟨FR3, g51, ?_, ?_⟩, ⟨_, EF⟩, b8.own (by omega) (Nat.le_refl _) (by omega), ⟨by omega, ?_⟩, ⟨?_, ?_, ?_, ?_, ?_⟩⟩
    · have n31 := n3.1
      simp (config := {implicitDefEqProofs := false}) only [e_X11_secondary, c_X11_secondary_0, c_X11_secondary_4, c_X11_secondary_13, c_X11_secondary_19, c_X11_secondary_32, c_X11_secondary_35, c_X11_secondary_39, c_X11_secondary_44, c_X11_secondary_63, c_X11_secondary_67, c_X11_secondary_70, c_X11_secondary_76, c_X11_secondary_79, c_X11_secondary_86, c_X11_secondary_89, c_X11_secondary_96, c_X11_secondary_99, c_X11_secondary_106, c_X11_secondary_117, c_X11_secondary_120, c_X11_secondary_128, c_X11_secondary_132, c_X11_secondary_140, c_X11_secondary_147, c_X11_secondary_148, c_X11_secondary_153, c_X11_secondary_156, bnd_v, bnd_x, pu_s, pu_n, b01_T, b01_F, Int.reduceEq, Int.reduceLT, Int.reduceLE, Int.reduceNe, Nat.reduceEqDiff, Nat.reduceLeDiff, and_false, false_and, and_true, true_and, or_false, false_or, or_true, true_or, if_true, if_false, not_true_eq_false, not_false_eq_true, eq_self, ne_eq, reduceCtorEq, false_implies, true_implies, implies_true, inT, inA, rmO, rmA, rI_pI, rI_pJ, rI_pR, rI_qI, rI_qJ, rI_qR, rJ_pI, rJ_pJ, rJ_pR, rJ_qI, rJ_qJ, rJ_qR, rR_pI, rR_pJ, rR_pR, rR_qI, rR_qJ, rR_qR, sI_pI, sI_pJ, sI_pR, sI_qI, sI_qJ, sI_qR, sJ_pI, sJ_pJ, sJ_pR, sJ_qI, sJ_qJ, sJ_qR, sR_pI, sR_pJ, sR_pR, sR_qI, sR_qJ, sR_qR, hc_pI, hc_pJ, hc_pR, hc_qI, hc_qJ, hc_qR, hl_pI, hl_pJ, hl_pR, hl_qI, hl_qJ, hl_qR, hk_pI, hk_pJ, hk_pR, hk_qI, hk_qJ, hk_qR, hs_pI, hs_pJ, hs_pR, hs_qI, hs_qJ, hs_qR, hn_pI, hn_pJ, hn_pR, hn_qI, hn_qJ, hn_qR, hc_nO', hc_nA', hl_nO, hl_nA', hn_nO, hn_nA, hk_nO, hk_nA, hs_nO, hs_nA, rI_nO, rI_nA, rJ_nO, rJ_nA, rR_nO, rR_nA, Nat.le_refl, Y.1, fpl _ Y, fgt Y, fk0 _ Y, xk2 Y, xk3 Y, xk4 Y, im_op _ Y, tm_op _ Y, im_cp _ Y, tm_cp _ Y, im_ob _ Y, tm_ob _ Y, im_cb _ Y, tm_cb _ Y, im_co _ Y, tm_co _ Y, im_se _ Y, tm_se _ Y, im_cl _ Y, tm_cl _ Y, im_be _ Y, tm_be _ Y, iw_LOC _ Y, tw_LOC _ Y, iw_HEAP _ Y, tw_HEAP _ Y, c1, c2, c3, w32_1 lt6, w32_1 lt7, iw, f_tagY _ Y c1, f_openY _ X1.2.1 qo, x1, x11, pn, i1, i3.1, X3.2.1.1, b1, n31, dq_17, l1, cl, p4, Y3.1]
    · rcases z with z | z
      · right
        have := posR e z
        exact ⟨by omega, by rw [m1]; omega, by omega, by omega⟩
      · right
        rw [z]
        exact ⟨by show fI s 1915442860 ≤ fI s2 1915442860; omega, by rw [m1]; show fI s2 1915442860 < fI s2 1915442860 + 1; omega, Nat.le_refl _, by show hn h < _; omega⟩
    · rw [m2, m3, m4]; omega
    · rw [m1]; have := b6.2.2.2; omega
    · rw [m1]; omega
    · simp (config := {implicitDefEqProofs := false}) only [bnd_v, bnd_x, pu_s, pu_n, b01_T, b01_F, Int.reduceEq, Int.reduceLT, Int.reduceLE, Int.reduceNe, Nat.reduceEqDiff, Nat.reduceLeDiff, and_false, false_and, and_true, true_and, or_false, false_or, or_true, true_or, if_true, if_false, not_true_eq_false, not_false_eq_true, eq_self, ne_eq, reduceCtorEq, false_implies, true_implies, implies_true, fI_uI, fI_uJ, fI_vI, fI_vJ, fJ_uI, fJ_uJ, fJ_vI, fJ_vJ, aI_uI, aI_uJ, aI_vI, aI_vJ, aJ_uI, aJ_uJ, aJ_vI, aJ_vJ, fI_nodeS, aI_nodeS, aJ_nodeS, fI_modeS, aI_modeS, aJ_modeS, fI_pushS, aI_pushS, aJ_pushS, fI_giveS, aI_giveS, aJ_giveS, fI_gmodeS, aI_gmodeS, aJ_gmodeS, fI_childS, aI_childS, aJ_childS, b11]
    · simp (config := {implicitDefEqProofs := false}) only [bnd_v, bnd_x, pu_s, pu_n, b01_T, b01_F, Int.reduceEq, Int.reduceLT, Int.reduceLE, Int.reduceNe, Nat.reduceEqDiff, Nat.reduceLeDiff, and_false, false_and, and_true, true_and, or_false, false_or, or_true, true_or, if_true, if_false, not_true_eq_false, not_false_eq_true, eq_self, ne_eq, reduceCtorEq, false_implies, true_implies, implies_true, fI_uI, fI_uJ, fI_vI, fI_vJ, fJ_uI, fJ_uJ, fJ_vI, fJ_vJ, aI_uI, aI_uJ, aI_vI, aI_vJ, aJ_uI, aJ_uJ, aJ_vI, aJ_vJ, fI_nodeS, aI_nodeS, aJ_nodeS, fI_modeS, aI_modeS, aJ_modeS, fI_pushS, aI_pushS, aJ_pushS, fI_giveS, aI_giveS, aJ_giveS, fI_gmodeS, aI_gmodeS, aJ_gmodeS, fI_childS, aI_childS, aJ_childS, b12]
    · simp (config := {implicitDefEqProofs := false}) only [bnd_v, bnd_x, pu_s, pu_n, b01_T, b01_F, Int.reduceEq, Int.reduceLT, Int.reduceLE, Int.reduceNe, Nat.reduceEqDiff, Nat.reduceLeDiff, and_false, false_and, and_true, true_and, or_false, false_or, or_true, true_or, if_true, if_false, not_true_eq_false, not_false_eq_true, eq_self, ne_eq, reduceCtorEq, false_implies, true_implies, implies_true, fI_uI, fI_uJ, fI_vI, fI_vJ, fJ_uI, fJ_uJ, fJ_vI, fJ_vJ, aI_uI, aI_uJ, aI_vI, aI_vJ, aJ_uI, aJ_uJ, aJ_vI, aJ_vJ, fI_nodeS, aI_nodeS, aJ_nodeS, fI_modeS, aI_modeS, aJ_modeS, fI_pushS, aI_pushS, aJ_pushS, fI_giveS, aI_giveS, aJ_giveS, fI_gmodeS, aI_gmodeS, aJ_gmodeS, fI_childS, aI_childS, aJ_childS, b13, f1]
    · simp (config := {implicitDefEqProofs := false}) only [bnd_v, bnd_x, pu_s, pu_n, b01_T, b01_F, Int.reduceEq, Int.reduceLT, Int.reduceLE, Int.reduceNe, Nat.reduceEqDiff, Nat.reduceLeDiff, and_false, false_and, and_true, true_and, or_false, false_or, or_true, true_or, if_true, if_false, not_true_eq_false, not_false_eq_true, eq_self, ne_eq, reduceCtorEq, false_implies, true_implies, implies_true, fI_uI, fI_uJ, fI_vI, fI_vJ, fJ_uI, fJ_uJ, fJ_vI, fJ_vJ, aI_uI, aI_uJ, aI_vI, aI_vJ, aJ_uI, aJ_uJ, aJ_vI, aJ_vJ, fI_nodeS, aI_nodeS, aJ_nodeS, fI_modeS, aI_modeS, aJ_modeS, fI_pushS, aI_pushS, aJ_pushS, fI_giveS, aI_giveS, aJ_giveS, fI_gmodeS, aI_gmodeS, aJ_gmodeS, fI_childS, aI_childS, aJ_childS, b14, f2]
    · simp (config := {implicitDefEqProofs := false}) only [bnd_v, bnd_x, pu_s, pu_n, b01_T, b01_F, Int.reduceEq, Int.reduceLT, Int.reduceLE, Int.reduceNe, Nat.reduceEqDiff, Nat.reduceLeDiff, and_false, false_and, and_true, true_and, or_false, false_or, or_true, true_or, if_true, if_false, not_true_eq_false, not_false_eq_true, eq_self, ne_eq, reduceCtorEq, false_implies, true_implies, implies_true, fI_uI, fI_uJ, fI_vI, fI_vJ, fJ_uI, fJ_uJ, fJ_vI, fJ_vJ, aI_uI, aI_uJ, aI_vI, aI_vJ, aJ_uI, aJ_uJ, aJ_vI, aJ_vJ, fI_nodeS, aI_nodeS, aJ_nodeS, fI_modeS, aI_modeS, aJ_modeS, fI_pushS, aI_pushS, aJ_pushS, fI_giveS, aI_giveS, aJ_giveS, fI_gmodeS, aI_gmodeS, aJ_gmodeS, fI_childS, aI_childS, aJ_childS, b15, f3]
end SEL
