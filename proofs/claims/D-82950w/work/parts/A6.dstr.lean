/-! READING DECLARERS: structures -/
set_option maxRecDepth 100000
set_option maxHeartbeats 1000000
section DSt
variable {h : PH} {s : MS} {p lx t o : Nat} {X O : Nat → Prop} {l : List TokE} {PR g mv : Int} {P : List (Nat × Int)} {Z0 Z : Nat}
theorem JD.unmark {X' : Nat → Prop} {k : Nat} (J : JD h s p lx l t o PR P X' O Z0 Z) (h1 : ∀ j, X j → X' j) (h2 : ∀ j, X' j → X j ∨ j = k) (hk : aI s 32 k = 0 ∨ aI s 32 k = 4) : JD h s p lx l t o PR P X O Z0 Z := by
  obtain ⟨j1, j2, j3, j4, j5, j6, ⟨cs, c1, c2, c3, c4, c5⟩, j8⟩ := J
  refine ⟨j1, j2, j3, j4, j5, j6, ⟨cs, c1, fun c z => ?_, fun j z y => ?_, c4, c5⟩, j8⟩
  · obtain ⟨d1, d2, j, d3, d4, d5⟩ := c2 c z
    exact ⟨d1, d2, j, d3, fun w => d4 (h1 j w), d5⟩
  · by_cases w : j = k
    · rw [w]
      rcases hk with v | v
      · exact Or.inl v
      · exact Or.inr (Or.inl v)
    · exact c3 j z (fun v => (h2 j v).elim y w)
theorem sJ_aC {a b : Nat} {i j n x : Int} (hx : j ≤ x ∧ x < j + n) : eJ (aC h a i b j n) b x = eJ h a (i + (x - j)) := if_pos ⟨rfl, hx.1, hx.2⟩
theorem dc_struct {k : Nat} (IH : DeclC k) (hK : 24 ≤ o + (k + 1)) (d : Nat) (J : JD h s p lx l t o PR P X O Z0 Z) (hX : ∀ j, X j → j < t) (z1 : Z + 24 * (482 - t) ≤ 80000) (z2 : Z - Z0 + 24 * (482 - t) ≤ 11800) (Pre : DPre s o g mv) (hD : 40 * (24 - o) ≤ d) (q : kd l t = 1) (r : sI l t = 39) (q' : kd l (t + 1) = 5) (r' : sI l (t + 1) = 40) (qo : o < 24) (hl1 : t + 1 < xc l) (hl3 : t + 1 + 1 < xc l) : BF (F (d + 100) 104145474 [vR p, vI (xmv mv)] h) h s p l Z0 (Z + 24 * (482 - t) + 10) ∨ DOK (F (d + 100) 104145474 [vR p, vI (xmv mv)] h) h s p lx l t o PR P X O Z0 Z g mv := by
  obtain ⟨hg, g0, g1, hgo, hz, hga, hmv⟩ := Pre
  have M := J.m
  have Y := J.x
  have hlt : t < l.length := M.1.a
  have hl2 := M.1.1.2.1
  have hxt : t < xc l := M.1.2.2
  have ho24 : o ≤ 24 := Y.2.2.2.2.2.1
  have rm := J.room (by omega) (by omega)
  have z0 := J.2.2.2.2.2.2.2.2.2.1
  have xll : xc l ≤ l.length := M.1.1.x
  have mm := M.2.2.2.2
  have hp := J.hp
  have nOO := J.nO
  have hp0 : p ≠ 0 := fun z => by have := Y.1; rw [z, Y.c.1.1] at this; cases this
  have lt6 : t < 1000000 := by omega
  have lt7 : t + 1 < 1000000 := by omega
  have rm1 := rm.le (u' := 10) (by omega)
  have x1 : hk h < cLim := by unfold Room at rm1; omega
  have x2 : hs h + 8 ≤ sLim := by unfold Room at rm1; omega
  have pn : ¬ (p = hn h) := by omega
  have mlen : (l.length : Int) ≤ 1000000 := by omega
  have pg0 : 0 ≤ g + 1 := by omega
  have ne : ¬ (g = g + 1) := by omega
  have dd : 100 + 40 * (24 - (o + 1)) ≤ (d + 87) + 10 := by omega
  have kk : 24 ≤ o + 1 + k := by omega
  have pg1 : g + 1 ≤ 20 * ((o + 1 : Nat) : Int) + 14 := by omega
  have tw : aI s 32 t = 0 := by
    obtain ⟨cs, -, -, -, c4, -⟩ := J.2.2.2.2.2.2.1
    exact c4 t (Nat.le_refl _) hlt
  have RC : Reach s (pushS (vI' (uI (uI (uI (vI' (vI' s 38 g t) 37 g (fI s 2234209964)) 1764447916 ((t : Int) + 1)) 1781225132 ((o : Int) + 1)) 1764447916 ((t : Int) + 1 + 1)) 35 g 6) 4 0 0 0 0) := Reach.one (by rw [hg]; omega) (by have := M.2.2.1; omega) (step_of hg ⟨g0, by omega⟩ hgo (by decide) (md_struct M ho24 hg g0 (by omega) hz q r qo (by omega) q' r' (J.pl0 hl1)))
  have a1 : Fr (Lq s (g)) (-1) s (pushS (vI' (uI (uI (uI (vI' (vI' s 38 g t) 37 g (fI s 2234209964)) 1764447916 ((t : Int) + 1)) 1781225132 ((o : Int) + 1)) 1764447916 ((t : Int) + 1 + 1)) 35 g 6) 4 0 0 0 0) := by
    refine (Fr.push (Fr.vI (Fr.uI (Fr.uI (Fr.uI (Fr.vI (Fr.vI Fr.rf (by decide) (Or.inl ?_)) (by decide) (Or.inl ?_)) (by decide)) (by decide)) (by decide)) (by decide) (Or.inl ?_)) ?_)
    all_goals (first | exact Int.le_refl _ | (show g ≤ fI s 2066437804; omega) | (show fI s 2066437804 - 1 ≤ _; omega) | (show fI s 2066437804 - 1 ≤ fI s 2066437804; omega))
  have a2 : Fr (Lm s) (-1) s (pushS (vI' (uI (uI (uI (vI' (vI' s 38 g t) 37 g (fI s 2234209964)) 1764447916 ((t : Int) + 1)) 1781225132 ((o : Int) + 1)) 1764447916 ((t : Int) + 1 + 1)) 35 g 6) 4 0 0 0 0) := by
    refine (Fr.push (Fr.vI (Fr.uI (Fr.uI (Fr.uI (Fr.vI (Fr.vI Fr.rf (by decide) (Or.inl ?_)) (by decide) (Or.inl ?_)) (by decide)) (by decide)) (by decide)) (by decide) (Or.inl ?_)) ?_)
    all_goals (first | exact Int.le_refl _ | (show g ≤ fI s 2066437804; omega) | (show fI s 2066437804 - 1 ≤ _; omega) | (show fI s 2066437804 - 1 ≤ fI s 2066437804; omega))
  have M1 : MJ (pushS (vI' (uI (uI (uI (vI' (vI' s 38 g t) 37 g (fI s 2234209964)) 1764447916 ((t : Int) + 1)) 1781225132 ((o : Int) + 1)) 1764447916 ((t : Int) + 1 + 1)) 35 g 6) 4 0 0 0 0) l (t + 1 + 1) (o + 1) PR := by
    refine M.fr a1 ?_ (by omega) (by omega) ?_ ?_ ?_ ?_ ?_ ?_
    all_goals (simp (config := {implicitDefEqProofs := false}) only [fI_uI, fI_uJ, fI_vI, fI_vJ, fJ_uI, fJ_uJ, fJ_vI, fJ_vJ, aI_uI, aI_uJ, aI_vI, aI_vJ, aJ_uI, aJ_uJ, aJ_vI, aJ_vJ, bnd_v, bnd_x, pu_s, pu_n, b01_T, b01_F, Int.reduceEq, Int.reduceLT, Int.reduceLE, Int.reduceNe, Nat.reduceEqDiff, Nat.reduceLeDiff, and_false, false_and, and_true, true_and, or_false, false_or, or_true, true_or, if_true, if_false, not_true_eq_false, not_false_eq_true, eq_self, ne_eq, reduceCtorEq, false_implies, true_implies, implies_true, fI_pushS, aI_pushS, aJ_pushS, fI_gmodeS, aI_gmodeS, aJ_gmodeS, fI_modeS, aI_modeS, aJ_modeS, fI_giveS, aI_giveS, M.1.2.1, M.2.1, M.2.2.1]; try omega)
  have D1 : DQ 2 2 s (pushS (vI' (uI (uI (uI (vI' (vI' s 38 g t) 37 g (fI s 2234209964)) 1764447916 ((t : Int) + 1)) 1781225132 ((o : Int) + 1)) 1764447916 ((t : Int) + 1 + 1)) 35 g 6) 4 0 0 0 0) t (t + 1 + 1) (g + 1 + 1) := by
    refine (DQ.rf (s := s) (t := t)).ctl (t2 := t + 1 + 1) (Int.le_refl _) a2 ?_ ?_ ?_ ?_ ?_ ?_
    · simp (config := {implicitDefEqProofs := false}) only [fI_uI, fI_uJ, fI_vI, fI_vJ, fJ_uI, fJ_uJ, fJ_vI, fJ_vJ, aI_uI, aI_uJ, aI_vI, aI_vJ, aJ_uI, aJ_uJ, aJ_vI, aJ_vJ, bnd_v, bnd_x, pu_s, pu_n, b01_T, b01_F, Int.reduceEq, Int.reduceLT, Int.reduceLE, Int.reduceNe, Nat.reduceEqDiff, Nat.reduceLeDiff, and_false, false_and, and_true, true_and, or_false, false_or, or_true, true_or, if_true, if_false, not_true_eq_false, not_false_eq_true, eq_self, ne_eq, reduceCtorEq, false_implies, true_implies, implies_true, fI_pushS, aI_pushS, aJ_pushS, fI_gmodeS, aI_gmodeS, aJ_gmodeS, fI_modeS, aI_modeS, aJ_modeS, fI_giveS, aI_giveS, hg]
    · simp (config := {implicitDefEqProofs := false}) only [fI_uI, fI_uJ, fI_vI, fI_vJ, fJ_uI, fJ_uJ, fJ_vI, fJ_vJ, aI_uI, aI_uJ, aI_vI, aI_vJ, aJ_uI, aJ_uJ, aJ_vI, aJ_vJ, bnd_v, bnd_x, pu_s, pu_n, b01_T, b01_F, Int.reduceEq, Int.reduceLT, Int.reduceLE, Int.reduceNe, Nat.reduceEqDiff, Nat.reduceLeDiff, and_false, false_and, and_true, true_and, or_false, false_or, or_true, true_or, if_true, if_false, not_true_eq_false, not_false_eq_true, eq_self, ne_eq, reduceCtorEq, false_implies, true_implies, implies_true, fI_pushS, aI_pushS, aJ_pushS, fI_gmodeS, aI_gmodeS, aJ_gmodeS, fI_modeS, aI_modeS, aJ_modeS, fI_giveS, aI_giveS]
    · simp (config := {implicitDefEqProofs := false}) only [fI_uI, fI_uJ, fI_vI, fI_vJ, fJ_uI, fJ_uJ, fJ_vI, fJ_vJ, aI_uI, aI_uJ, aI_vI, aI_vJ, aJ_uI, aJ_uJ, aJ_vI, aJ_vJ, bnd_v, bnd_x, pu_s, pu_n, b01_T, b01_F, Int.reduceEq, Int.reduceLT, Int.reduceLE, Int.reduceNe, Nat.reduceEqDiff, Nat.reduceLeDiff, and_false, false_and, and_true, true_and, or_false, false_or, or_true, true_or, if_true, if_false, not_true_eq_false, not_false_eq_true, eq_self, ne_eq, reduceCtorEq, false_implies, true_implies, implies_true, fI_pushS, aI_pushS, aJ_pushS, fI_gmodeS, aI_gmodeS, aJ_gmodeS, fI_modeS, aI_modeS, aJ_modeS, fI_giveS, aI_giveS, M.1.2.1]; omega
    · simp (config := {implicitDefEqProofs := false}) only [fI_uI, fI_uJ, fI_vI, fI_vJ, fJ_uI, fJ_uJ, fJ_vI, fJ_vJ, aI_uI, aI_uJ, aI_vI, aI_vJ, aJ_uI, aJ_uJ, aJ_vI, aJ_vJ, bnd_v, bnd_x, pu_s, pu_n, b01_T, b01_F, Int.reduceEq, Int.reduceLT, Int.reduceLE, Int.reduceNe, Nat.reduceEqDiff, Nat.reduceLeDiff, and_false, false_and, and_true, true_and, or_false, false_or, or_true, true_or, if_true, if_false, not_true_eq_false, not_false_eq_true, eq_self, ne_eq, reduceCtorEq, false_implies, true_implies, implies_true, fI_pushS, aI_pushS, aJ_pushS, fI_gmodeS, aI_gmodeS, aJ_gmodeS, fI_modeS, aI_modeS, aJ_modeS, fI_giveS, aI_giveS]; omega
    · simp (config := {implicitDefEqProofs := false}) only [fI_uI, fI_uJ, fI_vI, fI_vJ, fJ_uI, fJ_uJ, fJ_vI, fJ_vJ, aI_uI, aI_uJ, aI_vI, aI_vJ, aJ_uI, aJ_uJ, aJ_vI, aJ_vJ, bnd_v, bnd_x, pu_s, pu_n, b01_T, b01_F, Int.reduceEq, Int.reduceLT, Int.reduceLE, Int.reduceNe, Nat.reduceEqDiff, Nat.reduceLeDiff, and_false, false_and, and_true, true_and, or_false, false_or, or_true, true_or, if_true, if_false, not_true_eq_false, not_false_eq_true, eq_self, ne_eq, reduceCtorEq, false_implies, true_implies, implies_true, fI_pushS, aI_pushS, aJ_pushS, fI_gmodeS, aI_gmodeS, aJ_gmodeS, fI_modeS, aI_modeS, aJ_modeS, fI_giveS, aI_giveS]; omega
    · simp (config := {implicitDefEqProofs := false}) only [fI_uI, fI_uJ, fI_vI, fI_vJ, fJ_uI, fJ_uJ, fJ_vI, fJ_vJ, aI_uI, aI_uJ, aI_vI, aI_vJ, aJ_uI, aJ_uJ, aJ_vI, aJ_vJ, bnd_v, bnd_x, pu_s, pu_n, b01_T, b01_F, Int.reduceEq, Int.reduceLT, Int.reduceLE, Int.reduceNe, Nat.reduceEqDiff, Nat.reduceLeDiff, and_false, false_and, and_true, true_and, or_false, false_or, or_true, true_or, if_true, if_false, not_true_eq_false, not_false_eq_true, eq_self, ne_eq, reduceCtorEq, false_implies, true_implies, implies_true, fI_pushS, aI_pushS, aJ_pushS, fI_gmodeS, aI_gmodeS, aJ_gmodeS, fI_modeS, aI_modeS, aJ_modeS, fI_giveS, aI_giveS]; omega
  have Pre1 : DPre (pushS (vI' (uI (uI (uI (vI' (vI' s 38 g t) 37 g (fI s 2234209964)) 1764447916 ((t : Int) + 1)) 1781225132 ((o : Int) + 1)) 1764447916 ((t : Int) + 1 + 1)) 35 g 6) 4 0 0 0 0) (o + 1) (g + 1) 0 := by
    refine ⟨?_, pg0, pg1, ?_, ?_, ?_, by decide⟩
    all_goals simp (config := {implicitDefEqProofs := false}) only [fI_uI, fI_uJ, fI_vI, fI_vJ, fJ_uI, fJ_uJ, fJ_vI, fJ_vJ, aI_uI, aI_uJ, aI_vI, aI_vJ, aJ_uI, aJ_uJ, aJ_vI, aJ_vJ, bnd_v, bnd_x, pu_s, pu_n, b01_T, b01_F, Int.reduceEq, Int.reduceLT, Int.reduceLE, Int.reduceNe, Nat.reduceEqDiff, Nat.reduceLeDiff, and_false, false_and, and_true, true_and, or_false, false_or, or_true, true_or, if_true, if_false, not_true_eq_false, not_false_eq_true, eq_self, ne_eq, reduceCtorEq, false_implies, true_implies, implies_true, fI_pushS, aI_pushS, aJ_pushS, fI_gmodeS, aI_gmodeS, aJ_gmodeS, fI_modeS, aI_modeS, aJ_modeS, fI_giveS, aI_giveS, hg]
  have MQ1 : MeQ (pushS (vI' (uI (uI (uI (vI' (vI' s 38 g t) 37 g (fI s 2234209964)) 1764447916 ((t : Int) + 1)) 1781225132 ((o : Int) + 1)) 1764447916 ((t : Int) + 1 + 1)) 35 g 6) 4 0 0 0 0) g 6 (fI s 2234209964) t [] := by
    refine ⟨⟨?_, ?_, ?_, ?_⟩, by omega, ?_, fun j hj => absurd hj (Nat.not_lt_zero _)⟩
    · simp (config := {implicitDefEqProofs := false}) only [fI_uI, fI_uJ, fI_vI, fI_vJ, fJ_uI, fJ_uJ, fJ_vI, fJ_vJ, aI_uI, aI_uJ, aI_vI, aI_vJ, aJ_uI, aJ_uJ, aJ_vI, aJ_vJ, bnd_v, bnd_x, pu_s, pu_n, b01_T, b01_F, Int.reduceEq, Int.reduceLT, Int.reduceLE, Int.reduceNe, Nat.reduceEqDiff, Nat.reduceLeDiff, and_false, false_and, and_true, true_and, or_false, false_or, or_true, true_or, if_true, if_false, not_true_eq_false, not_false_eq_true, eq_self, ne_eq, reduceCtorEq, false_implies, true_implies, implies_true, fI_pushS, aI_pushS, aJ_pushS, fI_gmodeS, aI_gmodeS, aJ_gmodeS, fI_modeS, aI_modeS, aJ_modeS, fI_giveS, aI_giveS, hg, ne]; exact hgo
    · simp (config := {implicitDefEqProofs := false}) only [fI_uI, fI_uJ, fI_vI, fI_vJ, fJ_uI, fJ_uJ, fJ_vI, fJ_vJ, aI_uI, aI_uJ, aI_vI, aI_vJ, aJ_uI, aJ_uJ, aJ_vI, aJ_vJ, bnd_v, bnd_x, pu_s, pu_n, b01_T, b01_F, Int.reduceEq, Int.reduceLT, Int.reduceLE, Int.reduceNe, Nat.reduceEqDiff, Nat.reduceLeDiff, and_false, false_and, and_true, true_and, or_false, false_or, or_true, true_or, if_true, if_false, not_true_eq_false, not_false_eq_true, eq_self, ne_eq, reduceCtorEq, false_implies, true_implies, implies_true, fI_pushS, aI_pushS, aJ_pushS, fI_gmodeS, aI_gmodeS, aJ_gmodeS, fI_modeS, aI_modeS, aJ_modeS, fI_giveS, aI_giveS, hg, ne]
    · simp (config := {implicitDefEqProofs := false}) only [fI_uI, fI_uJ, fI_vI, fI_vJ, fJ_uI, fJ_uJ, fJ_vI, fJ_vJ, aI_uI, aI_uJ, aI_vI, aI_vJ, aJ_uI, aJ_uJ, aJ_vI, aJ_vJ, bnd_v, bnd_x, pu_s, pu_n, b01_T, b01_F, Int.reduceEq, Int.reduceLT, Int.reduceLE, Int.reduceNe, Nat.reduceEqDiff, Nat.reduceLeDiff, and_false, false_and, and_true, true_and, or_false, false_or, or_true, true_or, if_true, if_false, not_true_eq_false, not_false_eq_true, eq_self, ne_eq, reduceCtorEq, false_implies, true_implies, implies_true, fI_pushS, aI_pushS, aJ_pushS, fI_gmodeS, aI_gmodeS, aJ_gmodeS, fI_modeS, aI_modeS, aJ_modeS, fI_giveS, aI_giveS, hg, ne]
    · simp (config := {implicitDefEqProofs := false}) only [fI_uI, fI_uJ, fI_vI, fI_vJ, fJ_uI, fJ_uJ, fJ_vI, fJ_vJ, aI_uI, aI_uJ, aI_vI, aI_vJ, aJ_uI, aJ_uJ, aJ_vI, aJ_vJ, bnd_v, bnd_x, pu_s, pu_n, b01_T, b01_F, Int.reduceEq, Int.reduceLT, Int.reduceLE, Int.reduceNe, Nat.reduceEqDiff, Nat.reduceLeDiff, and_false, false_and, and_true, true_and, or_false, false_or, or_true, true_or, if_true, if_false, not_true_eq_false, not_false_eq_true, eq_self, ne_eq, reduceCtorEq, false_implies, true_implies, implies_true, fI_pushS, aI_pushS, aJ_pushS, fI_gmodeS, aI_gmodeS, aJ_gmodeS, fI_modeS, aI_modeS, aJ_modeS, fI_giveS, aI_giveS, hg, ne]
    · simp (config := {implicitDefEqProofs := false}) only [fI_uI, fI_uJ, fI_vI, fI_vJ, fJ_uI, fJ_uJ, fJ_vI, fJ_vJ, aI_uI, aI_uJ, aI_vI, aI_vJ, aJ_uI, aJ_uJ, aJ_vI, aJ_vJ, bnd_v, bnd_x, pu_s, pu_n, b01_T, b01_F, Int.reduceEq, Int.reduceLT, Int.reduceLE, Int.reduceNe, Nat.reduceEqDiff, Nat.reduceLeDiff, and_false, false_and, and_true, true_and, or_false, false_or, or_true, true_or, if_true, if_false, not_true_eq_false, not_false_eq_true, eq_self, ne_eq, reduceCtorEq, false_implies, true_implies, implies_true, fI_pushS, aI_pushS, aJ_pushS, fI_gmodeS, aI_gmodeS, aJ_gmodeS, fI_modeS, aI_modeS, aJ_modeS, fI_giveS, aI_giveS]; exact (Int.add_zero _).symm
  have nx1 : fI s 1789613740 ≤ fI (pushS (vI' (uI (uI (uI (vI' (vI' s 38 g t) 37 g (fI s 2234209964)) 1764447916 ((t : Int) + 1)) 1781225132 ((o : Int) + 1)) 1764447916 ((t : Int) + 1 + 1)) 35 g 6) 4 0 0 0 0) 1789613740 := by simp (config := {implicitDefEqProofs := false}) only [fI_uI, fI_uJ, fI_vI, fI_vJ, fJ_uI, fJ_uJ, fJ_vI, fJ_vJ, aI_uI, aI_uJ, aI_vI, aI_vJ, aJ_uI, aJ_uJ, aJ_vI, aJ_vJ, bnd_v, bnd_x, pu_s, pu_n, b01_T, b01_F, Int.reduceEq, Int.reduceLT, Int.reduceLE, Int.reduceNe, Nat.reduceEqDiff, Nat.reduceLeDiff, and_false, false_and, and_true, true_and, or_false, false_or, or_true, true_or, if_true, if_false, not_true_eq_false, not_false_eq_true, eq_self, ne_eq, reduceCtorEq, false_implies, true_implies, implies_true, fI_pushS, aI_pushS, aJ_pushS, fI_gmodeS, aI_gmodeS, aJ_gmodeS, fI_modeS, aI_modeS, aJ_modeS, fI_giveS, aI_giveS]; exact Int.le_refl _
  have nx2 : fI s 1848333996 ≤ fI (pushS (vI' (uI (uI (uI (vI' (vI' s 38 g t) 37 g (fI s 2234209964)) 1764447916 ((t : Int) + 1)) 1781225132 ((o : Int) + 1)) 1764447916 ((t : Int) + 1 + 1)) 35 g 6) 4 0 0 0 0) 1848333996 := by simp (config := {implicitDefEqProofs := false}) only [fI_uI, fI_uJ, fI_vI, fI_vJ, fJ_uI, fJ_uJ, fJ_vI, fJ_vJ, aI_uI, aI_uJ, aI_vI, aI_vJ, aJ_uI, aJ_uJ, aJ_vI, aJ_vJ, bnd_v, bnd_x, pu_s, pu_n, b01_T, b01_F, Int.reduceEq, Int.reduceLT, Int.reduceLE, Int.reduceNe, Nat.reduceEqDiff, Nat.reduceLeDiff, and_false, false_and, and_true, true_and, or_false, false_or, or_true, true_or, if_true, if_false, not_true_eq_false, not_false_eq_true, eq_self, ne_eq, reduceCtorEq, false_implies, true_implies, implies_true, fI_pushS, aI_pushS, aJ_pushS, fI_gmodeS, aI_gmodeS, aJ_gmodeS, fI_modeS, aI_modeS, aJ_modeS, fI_giveS, aI_giveS]; exact Int.le_refl _
  have twA : aI (pushS (vI' (uI (uI (uI (vI' (vI' s 38 g t) 37 g (fI s 2234209964)) 1764447916 ((t : Int) + 1)) 1781225132 ((o : Int) + 1)) 1764447916 ((t : Int) + 1 + 1)) 35 g 6) 4 0 0 0 0) 32 t = 0 := by simp (config := {implicitDefEqProofs := false}) only [fI_uI, fI_uJ, fI_vI, fI_vJ, fJ_uI, fJ_uJ, fJ_vI, fJ_vJ, aI_uI, aI_uJ, aI_vI, aI_vJ, aJ_uI, aJ_uJ, aJ_vI, aJ_vJ, bnd_v, bnd_x, pu_s, pu_n, b01_T, b01_F, Int.reduceEq, Int.reduceLT, Int.reduceLE, Int.reduceNe, Nat.reduceEqDiff, Nat.reduceLeDiff, and_false, false_and, and_true, true_and, or_false, false_or, or_true, true_or, if_true, if_false, not_true_eq_false, not_false_eq_true, eq_self, ne_eq, reduceCtorEq, false_implies, true_implies, implies_true, fI_pushS, aI_pushS, aJ_pushS, fI_gmodeS, aI_gmodeS, aJ_gmodeS, fI_modeS, aI_modeS, aJ_modeS, fI_giveS, aI_giveS]; exact tw
  have fw := frm M a2
  clear ne
  generalize hs1 : (pushS (vI' (uI (uI (uI (vI' (vI' s 38 g t) 37 g (fI s 2234209964)) 1764447916 ((t : Int) + 1)) 1781225132 ((o : Int) + 1)) 1764447916 ((t : Int) + 1 + 1)) 35 g 6) 4 0 0 0 0) = sA at RC a1 a2 M1 D1 Pre1 MQ1 nx1 nx2 fw twA
  clear hs1
  have A1 := (XM.rf Y J.2.1).st (t1 := t + 1) hl1
  have e0 : Ev W0 1 (pI h 1285834896 p ((t + 1 : Nat) : Int)) (nO (pI h 1285834896 p ((t + 1 : Nat) : Int)) 9 8) := (Ev.rf A1.2.1.i).mO (by decide) (by decide)
  obtain ⟨hB, i1, i2, i3, i4, i5, i6, i7, i8, i9⟩ := f_modeInit (d + 93) e0.2.2.1 (Room.ev (u := 1) (u' := 1) (show Room (1 + 1) (pI h 1285834896 p ((t + 1 : Nat) : Int)) from rm.le (by omega)) e0) (if_pos rfl : hc (nO (pI h 1285834896 p ((t + 1 : Nat) : Int)) 9 8) (hn h) = 9) 7
  have i3 : gR hB 646517286 (hn h) = hn h + 1 := i3
  have i4 : AL hB (hn h + 1) [] := i4
  have i6 : hn hB = hn h + 2 := i6
  have E1 : Ev (· = hn h) 2 (pI h 1285834896 p ((t + 1 : Nat) : Int)) hB := (e0.mono (W' := (· = hn h)) (fun _ _ z => z.elim) (Nat.le_refl _)).tr i2 (fun _ _ z => z)
  have XB : PXs hB p lx l (t + 1) o := A1.2.1.ev E1 (fun x z => by omega)
  have FB : XFd hB p := A1.2.2.ev A1.2.1 E1 (by omega)
  have c9 : hc hB (hn h) = 9 := by
    rw [i2.1.2.2.2.1 (hn h) (by show hn h < hn h + 1; omega)]
    exact if_pos rfl
  have EB : Ev (· = p) 2 h hB := A1.1.tr E1 (fun x hx z => by omega)
  have AB : XM hB (pI (pI hB 1294223504 p ((o + 1 : Nat) : Int)) 1285834896 p ((t + 1 + 1 : Nat) : Int)) p lx l (t + 1 + 1) (o + 1) := ((XM.rf XB FB).so (o1 := o + 1) (by omega)).st (t1 := t + 1 + 1) hl3
  have EC0 : Ev (· = p) 2 h (pI (pI hB 1294223504 p ((o + 1 : Nat) : Int)) 1285834896 p ((t + 1 + 1 : Nat) : Int)) := EB.tr AB.1 (fun _ _ z => z)
  have eD : Ev W0 1 (pI (pI hB 1294223504 p ((o + 1 : Nat) : Int)) 1285834896 p ((t + 1 + 1 : Nat) : Int)) (nA (pI (pI hB 1294223504 p ((o + 1 : Nat) : Int)) 1285834896 p ((t + 1 + 1 : Nat) : Int)) 66 8) := by
    have := (Ev.rf (W := W0) AB.2.1.i).mA (t := 66) (n := 8) (c := 1) (by decide) (by decide) (by decide)
    exact this
  have EC : Ev (· = p) 3 h (nA (pI (pI hB 1294223504 p ((o + 1 : Nat) : Int)) 1285834896 p ((t + 1 + 1 : Nat) : Int)) 66 8) := EC0.tr (eD.mono (W' := (· = p)) (fun _ _ z => z.elim) (Nat.le_refl _)) (fun _ _ z => z)
  have XD : PXs (nA (pI (pI hB 1294223504 p ((o + 1 : Nat) : Int)) 1285834896 p ((t + 1 + 1 : Nat) : Int)) 66 8) p lx l (t + 1 + 1) (o + 1) := AB.2.1.ev eD (fun _ z => z.elim)
  have FD : XFd (nA (pI (pI hB 1294223504 p ((o + 1 : Nat) : Int)) 1285834896 p ((t + 1 + 1 : Nat) : Int)) 66 8) p := AB.2.2.ev AB.2.1 eD (fun z => z)
  have J1 := J.step EC (fun x z => Or.inr z) XD FD a1 M1 (by omega) (Int.le_refl _) (Int.le_refl _) mlen nx1 nx2
  have alC : AL (pI (pI hB 1294223504 p ((o + 1 : Nat) : Int)) 1285834896 p ((t + 1 + 1 : Nat) : Int)) (hn h + 1) [] := AB.1.al XB.c (by omega) (fun z => hp0 z.symm) i4
  have hnD : hn (nA (pI (pI hB 1294223504 p ((o + 1 : Nat) : Int)) 1285834896 p ((t + 1 + 1 : Nat) : Int)) 66 8) = hn h + 3 := by show hn hB + 1 = _; omega
  have c9D : hc (nA (pI (pI hB 1294223504 p ((o + 1 : Nat) : Int)) 1285834896 p ((t + 1 + 1 : Nat) : Int)) 66 8) (hn h) = 9 := by
    show (if hn h = hn hB then 66 else hc hB (hn h)) = 9
    rw [if_neg (by omega)]; exact c9
  have BQ1 : BQ (nA (pI (pI hB 1294223504 p ((o + 1 : Nat) : Int)) 1285834896 p ((t + 1 + 1 : Nat) : Int)) 66 8) p (hn h) (hn h + 1) O [] := ⟨c9D, i3, eD.al AB.2.1.c (fun z => z) (fun z => z) alC, by omega, by omega, nOO, fun z => by have := J.hi z; omega⟩
  have TA1 : TA (nA (pI (pI hB 1294223504 p ((o + 1 : Nat) : Int)) 1285834896 p ((t + 1 + 1 : Nat) : Int)) 66 8) p (hn h + 2) O [] := by
    refine ⟨?_, ?_, fun j hj => absurd hj (Nat.not_lt_zero _), by omega, fun z => by have := J.hi z; omega⟩
    · show (if hn h + 2 = hn hB then 66 else hc hB (hn h + 2)) = 66
      rw [if_pos (by omega)]
    · show (if hn h + 2 = hn hB then 8 else hl hB (hn h + 2)) = 8
      rw [if_pos (by omega)]
  have zB : Z + 3 + 24 * (482 - (t + 1 + 1)) + 20 ≤ Z + 24 * (482 - t) := by omega
  have z0B : Z0 ≤ Z + 24 * (482 - t) := by omega
  have rmB : Room 8 hB := (rm.le (u' := 2 + 8) (by omega)).ev EB
  unfold Room at rmB
  have y1 : hk hB < cLim := by omega
  have y2 : hs hB + Int.toNat 8 ≤ sLim := by have : Int.toNat 8 = 8 := rfl; omega
  have nhB : hn hB = hn h + 2 := i6
  have pre0 : F (d + 100) 104145474 [vR p, vI (xmv mv)] h = bnd (bnd (FA (F (d + 97)) 116204097 54 [vR p, vR (hn h), vR (hn h + 2), vX, vX, vX] [] (nA (pI (pI hB 1294223504 p ((o + 1 : Nat) : Int)) 1285834896 p ((t + 1 + 1 : Nat) : Int)) 66 8)) (fun v h' => FA (F (d + 98)) 104407619 265 [vR p, vI (xmv mv), vI 0, vI (pl l t), vX] (pu v []) h')) (fun v h' => FA (F (d + 99)) 104145474 6 [vR p, vI (xmv mv)] (pu v []) h') := by
    simp (config := {implicitDefEqProofs := false}) only [e_X11_declarer, c_X11_declarer_0, c_X11_declarer_6, e_X11_declarer_2, c_X11_declarer_2_0, c_X11_declarer_2_4, c_X11_declarer_2_13, c_X11_declarer_2_19, c_X11_declarer_2_27, c_X11_declarer_2_30, c_X11_declarer_2_34, c_X11_declarer_2_35, c_X11_declarer_2_44, c_X11_declarer_2_79, c_X11_declarer_2_83, c_X11_declarer_2_90, c_X11_declarer_2_93, c_X11_declarer_2_98, c_X11_declarer_2_99, c_X11_declarer_2_105, c_X11_declarer_2_108, c_X11_declarer_2_116, c_X11_declarer_2_117, c_X11_declarer_2_123, c_X11_declarer_2_126, c_X11_declarer_2_134, c_X11_declarer_2_135, c_X11_declarer_2_141, c_X11_declarer_2_144, c_X11_declarer_2_152, c_X11_declarer_2_153, c_X11_declarer_2_159, c_X11_declarer_2_162, c_X11_declarer_2_166, c_X11_declarer_2_180, c_X11_declarer_2_183, c_X11_declarer_2_184, c_X11_declarer_2_192, c_X11_declarer_2_193, c_X11_declarer_2_199, c_X11_declarer_2_202, c_X11_declarer_2_206, c_X11_declarer_2_226, c_X11_declarer_2_229, c_X11_declarer_2_235, c_X11_declarer_2_238, c_X11_declarer_2_244, c_X11_declarer_2_247, c_X11_declarer_2_251, c_X11_declarer_2_252, c_X11_declarer_2_258, c_X11_declarer_2_261, c_X11_declarer_2_265, c_X11_declarer_2_266, c_X11_declarer_2_272, c_X11_declarer_2_275, c_X11_declarer_2_279, c_X11_declarer_2_280, c_X11_declarer_2_299, c_X11_declarer_2_307, c_X11_declarer_2_322, c_X11_declarer_2_325, e_X11_structure, c_X11_structure_0, c_X11_structure_19, c_X11_structure_27, c_X11_structure_30, c_X11_structure_34, c_X11_structure_35, c_X11_structure_39, bnd_v, bnd_x, pu_s, pu_n, b01_T, b01_F, Int.reduceEq, Int.reduceLT, Int.reduceLE, Int.reduceNe, Nat.reduceEqDiff, Nat.reduceLeDiff, and_false, false_and, and_true, true_and, or_false, false_or, or_true, true_or, if_true, if_false, not_true_eq_false, not_false_eq_true, eq_self, ne_eq, reduceCtorEq, false_implies, true_implies, implies_true, inT, inA, rmO, rmA, rI_pI, rI_pJ, rI_pR, rI_qI, rI_qJ, rI_qR, rJ_pI, rJ_pJ, rJ_pR, rJ_qI, rJ_qJ, rJ_qR, rR_pI, rR_pJ, rR_pR, rR_qI, rR_qJ, rR_qR, sI_pI, sI_pJ, sI_pR, sI_qI, sI_qJ, sI_qR, sJ_pI, sJ_pJ, sJ_pR, sJ_qI, sJ_qJ, sJ_qR, sR_pI, sR_pJ, sR_pR, sR_qI, sR_qJ, sR_qR, hc_pI, hc_pJ, hc_pR, hc_qI, hc_qJ, hc_qR, hl_pI, hl_pJ, hl_pR, hl_qI, hl_qJ, hl_qR, hk_pI, hk_pJ, hk_pR, hk_qI, hk_qJ, hk_qR, hs_pI, hs_pJ, hs_pR, hs_qI, hs_qJ, hs_qR, hn_pI, hn_pJ, hn_pR, hn_qI, hn_qJ, hn_qR, hc_nO', hc_nA', hl_nO, hl_nA', hn_nO, hn_nA, hk_nO, hk_nA, hs_nO, hs_nA, rI_nO, rI_nA, rJ_nO, rJ_nA, rR_nO, rR_nA, Nat.le_refl, Y.1, fpl _ Y, fgt Y, fk0 _ Y, xk2 Y, xk3 Y, xk4 Y, im_op _ Y, tm_op _ Y, im_cp _ Y, tm_cp _ Y, im_ob _ Y, tm_ob _ Y, im_cb _ Y, tm_cb _ Y, im_co _ Y, tm_co _ Y, im_se _ Y, tm_se _ Y, im_cl _ Y, tm_cl _ Y, im_be _ Y, tm_be _ Y, iw_INT _ Y, tw_INT _ Y, iw_LONG _ Y, tw_LONG _ Y, iw_BOOL _ Y, tw_BOOL _ Y, iw_VOID _ Y, tw_VOID _ Y, iw_REF _ Y, tw_REF _ Y, iw_PROC _ Y, tw_PROC _ Y, iw_STRUCT _ Y, tw_STRUCT _ Y, iw_UNION _ Y, tw_UNION _ Y, q, r, q', r', i1, x1, x2, y1, y2, XB.1, fgt XB, im_op _ XB, f_openY _ XB qo, w32_1 lt6, w32_1 lt7, nhB]
  rcases str_loop IH kk (d := d + 87) (B := Z + 24 * (482 - t)) (q0 := hn h) (r0 := hn h + 1) (ta := hn h + 2) (g := g) (G := fI s 2234209964) (T := t) (s0 := s) (t0 := t) (by omega) (by omega) z0B dd g0 (by omega) hg (Int.le_refl _) ⟨by omega, by omega⟩ (by omega) (by omega) 8 _ _ _ _ _ _ [] [] [] vX vX vX (by decide) (by decide) J1 (fun j z => by have := hX j z; omega) zB BQ1 MQ1 ⟨rfl, fun j hj => absurd hj (Nat.not_lt_zero _)⟩ TA1 rfl (fun j hj => absurd hj (Nat.not_lt_zero _)) Pre1 D1 with A | A
  · left
    exact bfw_up A (fun e h2 hb => by rw [pre0, hb]; rfl) (EC.mono (W' := W7 p) (fun x _ z => ⟨by omega, by omega⟩) (Nat.le_refl _)) (fun x hx z => z.elim id (fun y => by omega)) RC fw (by omega)
  · right
    obtain ⟨h1, s1, t1, P1, O1, Z1, qs1, ids1, tg1, u, j1, p1, f1, f2, f3, f4, f5, f6, f7, f8, f9, ⟨fa, fb, fc⟩, ⟨f11, f11'⟩, f12, f13, ⟨f14, f15, f16⟩, f17, f18⟩ := A
    have tx1 : t1 < xc l := f5.x.2.2.2.2.1
    have ht1 : t1 + 1 < xc l := f5.x.next tx1 (by rw [f2.1]; decide) (by rw [f2.1]; decide)
    have Me := f5.m
    have mme := Me.2.2.2.2
    have ge : fI s1 2066437804 = g + 1 := f12.2.1
    have il : ids1.length = qs1.length := f9.1
    have e5 : fI s1 2234209964 = fI s 2234209964 + ids1.length := f8.2.2.1
    have e6 : aI s1 37 g = fI s 2234209964 := f8.1.2.2.1
    have gbm : aI s1 37 g ≤ fI s1 2234209964 := by omega
    have zf : Z1 + 1 ≤ Z + 24 * (t1 + 1 - t) := by omega
    have rme := (f5.room (by omega) (by omega)).le (u' := 10) (by omega)
    have x3 : hk h1 < cLim := by unfold Room at rme; omega
    have x4 : hs h1 + (qs1.length : Int).toNat ≤ sLim := by unfold Room at rme; omega
    have tt : t < t1 + 1 := by omega
    have hbm : aI (uI (uI s1 1764447916 (((t1 : Nat) : Int) + 1)) 1781225132 (((o + 1 : Nat) : Int) - 1)) 37 g ≤ fI (uI (uI s1 1764447916 (((t1 : Nat) : Int) + 1)) 1781225132 (((o + 1 : Nat) : Int) - 1)) 2234209964 := by simp (config := {implicitDefEqProofs := false}) only [fI_uI, fI_uJ, fI_vI, fI_vJ, fJ_uI, fJ_uJ, fJ_vI, fJ_vJ, aI_uI, aI_uJ, aI_vI, aI_vJ, aJ_uI, aJ_uJ, aJ_vI, aJ_vJ, bnd_v, bnd_x, pu_s, pu_n, b01_T, b01_F, Int.reduceEq, Int.reduceLT, Int.reduceLE, Int.reduceNe, Nat.reduceEqDiff, Nat.reduceLeDiff, and_false, false_and, and_true, true_and, or_false, false_or, or_true, true_or, if_true, if_false, not_true_eq_false, not_false_eq_true, eq_self, ne_eq, reduceCtorEq, false_implies, true_implies, implies_true, fI_pushS, aI_pushS, aJ_pushS, fI_gmodeS, aI_gmodeS, aJ_gmodeS, fI_modeS, aI_modeS, aJ_modeS, fI_giveS, aI_giveS]; exact gbm
    have aF : Fr (Lm s) (-1) s (gmodeS (vI' (memS (uI (uI s1 1764447916 (((t1 : Nat) : Int) + 1)) 1781225132 (((o + 1 : Nat) : Int) - 1)) g 7 (-1)) 33 t (fI s1 1789613740)) (fI s1 1789613740)) := by
      refine (Fr.gmode (Fr.vI (Fr.mem (Fr.uI (Fr.uI f12.1 (by decide)) (by decide)) ?_ ?_ ?_) (by decide) (Or.inl ?_)))
      · show fI s 1789613740 ≤ fI s1 1789613740
        exact f12.2.2.2.2.2.1.1
      · show fI s 1848333996 ≤ fI s1 1848333996
        exact f12.2.2.2.2.2.2.1
      · exact hbm
      · show fI s 1764447916 ≤ _
        rw [M.1.2.1]
        exact Int.le_refl _
    have ax : Fr (Lq s1 g) (-1) s1 (memS (uI (uI s1 1764447916 (((t1 : Nat) : Int) + 1)) 1781225132 (((o + 1 : Nat) : Int) - 1)) g 7 (-1)) := by
      refine (Fr.mem (Fr.uI (Fr.uI Fr.rf (by decide)) (by decide)) ?_ ?_ ?_)
      all_goals first | exact Int.le_refl _ | exact hbm
    have m1 : fI (memS (uI (uI s1 1764447916 (((t1 : Nat) : Int) + 1)) 1781225132 (((o + 1 : Nat) : Int) - 1)) g 7 (-1)) 1789613740 = fI s1 1789613740 + 1 := by simp (config := {implicitDefEqProofs := false}) only [fI_uI, fI_uJ, fI_vI, fI_vJ, fJ_uI, fJ_uJ, fJ_vI, fJ_vJ, aI_uI, aI_uJ, aI_vI, aI_vJ, aJ_uI, aJ_uJ, aJ_vI, aJ_vJ, bnd_v, bnd_x, pu_s, pu_n, b01_T, b01_F, Int.reduceEq, Int.reduceLT, Int.reduceLE, Int.reduceNe, Nat.reduceEqDiff, Nat.reduceLeDiff, and_false, false_and, and_true, true_and, or_false, false_or, or_true, true_or, if_true, if_false, not_true_eq_false, not_false_eq_true, eq_self, ne_eq, reduceCtorEq, false_implies, true_implies, implies_true, fI_pushS, aI_pushS, aJ_pushS, fI_gmodeS, aI_gmodeS, aJ_gmodeS, fI_modeS, aI_modeS, aJ_modeS, fI_giveS, aI_giveS, memS_f hbm, memS_F]
    have m2 : fI (memS (uI (uI s1 1764447916 (((t1 : Nat) : Int) + 1)) 1781225132 (((o + 1 : Nat) : Int) - 1)) g 7 (-1)) 1848333996 = fI s1 1848333996 + (fI s1 2234209964 - aI s1 37 g) := by simp (config := {implicitDefEqProofs := false}) only [fI_uI, fI_uJ, fI_vI, fI_vJ, fJ_uI, fJ_uJ, fJ_vI, fJ_vJ, aI_uI, aI_uJ, aI_vI, aI_vJ, aJ_uI, aJ_uJ, aJ_vI, aJ_vJ, bnd_v, bnd_x, pu_s, pu_n, b01_T, b01_F, Int.reduceEq, Int.reduceLT, Int.reduceLE, Int.reduceNe, Nat.reduceEqDiff, Nat.reduceLeDiff, and_false, false_and, and_true, true_and, or_false, false_or, or_true, true_or, if_true, if_false, not_true_eq_false, not_false_eq_true, eq_self, ne_eq, reduceCtorEq, false_implies, true_implies, implies_true, fI_pushS, aI_pushS, aJ_pushS, fI_gmodeS, aI_gmodeS, aJ_gmodeS, fI_modeS, aI_modeS, aJ_modeS, fI_giveS, aI_giveS, memS_f hbm, memS_F]
    have m3 : fI (memS (uI (uI s1 1764447916 (((t1 : Nat) : Int) + 1)) 1781225132 (((o + 1 : Nat) : Int) - 1)) g 7 (-1)) 2234209964 = aI s1 37 g := by simp (config := {implicitDefEqProofs := false}) only [fI_uI, fI_uJ, fI_vI, fI_vJ, fJ_uI, fJ_uJ, fJ_vI, fJ_vJ, aI_uI, aI_uJ, aI_vI, aI_vJ, aJ_uI, aJ_uJ, aJ_vI, aJ_vJ, bnd_v, bnd_x, pu_s, pu_n, b01_T, b01_F, Int.reduceEq, Int.reduceLT, Int.reduceLE, Int.reduceNe, Nat.reduceEqDiff, Nat.reduceLeDiff, and_false, false_and, and_true, true_and, or_false, false_or, or_true, true_or, if_true, if_false, not_true_eq_false, not_false_eq_true, eq_self, ne_eq, reduceCtorEq, false_implies, true_implies, implies_true, fI_pushS, aI_pushS, aJ_pushS, fI_gmodeS, aI_gmodeS, aJ_gmodeS, fI_modeS, aI_modeS, aJ_modeS, fI_giveS, aI_giveS, memS_f hbm, memS_F]
    have m4 : fI (memS (uI (uI s1 1764447916 (((t1 : Nat) : Int) + 1)) 1781225132 (((o + 1 : Nat) : Int) - 1)) g 7 (-1)) 1764447916 = ((t1 + 1 : Nat) : Int) := by simp (config := {implicitDefEqProofs := false}) only [fI_uI, fI_uJ, fI_vI, fI_vJ, fJ_uI, fJ_uJ, fJ_vI, fJ_vJ, aI_uI, aI_uJ, aI_vI, aI_vJ, aJ_uI, aJ_uJ, aJ_vI, aJ_vJ, bnd_v, bnd_x, pu_s, pu_n, b01_T, b01_F, Int.reduceEq, Int.reduceLT, Int.reduceLE, Int.reduceNe, Nat.reduceEqDiff, Nat.reduceLeDiff, and_false, false_and, and_true, true_and, or_false, false_or, or_true, true_or, if_true, if_false, not_true_eq_false, not_false_eq_true, eq_self, ne_eq, reduceCtorEq, false_implies, true_implies, implies_true, fI_pushS, aI_pushS, aJ_pushS, fI_gmodeS, aI_gmodeS, aJ_gmodeS, fI_modeS, aI_modeS, aJ_modeS, fI_giveS, aI_giveS, memS_f hbm, memS_F]; omega
    have m5 : fI (memS (uI (uI s1 1764447916 (((t1 : Nat) : Int) + 1)) 1781225132 (((o + 1 : Nat) : Int) - 1)) g 7 (-1)) 1781225132 = o := by simp (config := {implicitDefEqProofs := false}) only [fI_uI, fI_uJ, fI_vI, fI_vJ, fJ_uI, fJ_uJ, fJ_vI, fJ_vJ, aI_uI, aI_uJ, aI_vI, aI_vJ, aJ_uI, aJ_uJ, aJ_vI, aJ_vJ, bnd_v, bnd_x, pu_s, pu_n, b01_T, b01_F, Int.reduceEq, Int.reduceLT, Int.reduceLE, Int.reduceNe, Nat.reduceEqDiff, Nat.reduceLeDiff, and_false, false_and, and_true, true_and, or_false, false_or, or_true, true_or, if_true, if_false, not_true_eq_false, not_false_eq_true, eq_self, ne_eq, reduceCtorEq, false_implies, true_implies, implies_true, fI_pushS, aI_pushS, aJ_pushS, fI_gmodeS, aI_gmodeS, aJ_gmodeS, fI_modeS, aI_modeS, aJ_modeS, fI_giveS, aI_giveS, memS_f hbm, memS_F]; omega
    have m6 : fI (memS (uI (uI s1 1764447916 (((t1 : Nat) : Int) + 1)) 1781225132 (((o + 1 : Nat) : Int) - 1)) g 7 (-1)) 1772836524 = -1 := by simp (config := {implicitDefEqProofs := false}) only [fI_uI, fI_uJ, fI_vI, fI_vJ, fJ_uI, fJ_uJ, fJ_vI, fJ_vJ, aI_uI, aI_uJ, aI_vI, aI_vJ, aJ_uI, aJ_uJ, aJ_vI, aJ_vJ, bnd_v, bnd_x, pu_s, pu_n, b01_T, b01_F, Int.reduceEq, Int.reduceLT, Int.reduceLE, Int.reduceNe, Nat.reduceEqDiff, Nat.reduceLeDiff, and_false, false_and, and_true, true_and, or_false, false_or, or_true, true_or, if_true, if_false, not_true_eq_false, not_false_eq_true, eq_self, ne_eq, reduceCtorEq, false_implies, true_implies, implies_true, fI_pushS, aI_pushS, aJ_pushS, fI_gmodeS, aI_gmodeS, aJ_gmodeS, fI_modeS, aI_modeS, aJ_modeS, fI_giveS, aI_giveS, memS_f hbm, memS_F, Me.2.2.1]
    have m7 : fI (memS (uI (uI s1 1764447916 (((t1 : Nat) : Int) + 1)) 1781225132 (((o + 1 : Nat) : Int) - 1)) g 7 (-1)) 2024494764 = fI s1 2024494764 := by simp (config := {implicitDefEqProofs := false}) only [fI_uI, fI_uJ, fI_vI, fI_vJ, fJ_uI, fJ_uJ, fJ_vI, fJ_vJ, aI_uI, aI_uJ, aI_vI, aI_vJ, aJ_uI, aJ_uJ, aJ_vI, aJ_vJ, bnd_v, bnd_x, pu_s, pu_n, b01_T, b01_F, Int.reduceEq, Int.reduceLT, Int.reduceLE, Int.reduceNe, Nat.reduceEqDiff, Nat.reduceLeDiff, and_false, false_and, and_true, true_and, or_false, false_or, or_true, true_or, if_true, if_false, not_true_eq_false, not_false_eq_true, eq_self, ne_eq, reduceCtorEq, false_implies, true_implies, implies_true, fI_pushS, aI_pushS, aJ_pushS, fI_gmodeS, aI_gmodeS, aJ_gmodeS, fI_modeS, aI_modeS, aJ_modeS, fI_giveS, aI_giveS, memS_f hbm, memS_F]
    have m8 : fI (memS (uI (uI s1 1764447916 (((t1 : Nat) : Int) + 1)) 1781225132 (((o + 1 : Nat) : Int) - 1)) g 7 (-1)) 2066437804 = g + 1 := by simp (config := {implicitDefEqProofs := false}) only [fI_uI, fI_uJ, fI_vI, fI_vJ, fJ_uI, fJ_uJ, fJ_vI, fJ_vJ, aI_uI, aI_uJ, aI_vI, aI_vJ, aJ_uI, aJ_uJ, aJ_vI, aJ_vJ, bnd_v, bnd_x, pu_s, pu_n, b01_T, b01_F, Int.reduceEq, Int.reduceLT, Int.reduceLE, Int.reduceNe, Nat.reduceEqDiff, Nat.reduceLeDiff, and_false, false_and, and_true, true_and, or_false, false_or, or_true, true_or, if_true, if_false, not_true_eq_false, not_false_eq_true, eq_self, ne_eq, reduceCtorEq, false_implies, true_implies, implies_true, fI_pushS, aI_pushS, aJ_pushS, fI_gmodeS, aI_gmodeS, aJ_gmodeS, fI_modeS, aI_modeS, aJ_modeS, fI_giveS, aI_giveS, memS_f hbm, memS_F, ge]
    have m9 : fI (memS (uI (uI s1 1764447916 (((t1 : Nat) : Int) + 1)) 1781225132 (((o + 1 : Nat) : Int) - 1)) g 7 (-1)) 2175489708 = fI s1 2175489708 ∧ fI (memS (uI (uI s1 1764447916 (((t1 : Nat) : Int) + 1)) 1781225132 (((o + 1 : Nat) : Int) - 1)) g 7 (-1)) 2192266924 = fI s1 2192266924 ∧ fI (memS (uI (uI s1 1764447916 (((t1 : Nat) : Int) + 1)) 1781225132 (((o + 1 : Nat) : Int) - 1)) g 7 (-1)) 2217432748 = fI s1 2217432748 ∧ fI (memS (uI (uI s1 1764447916 (((t1 : Nat) : Int) + 1)) 1781225132 (((o + 1 : Nat) : Int) - 1)) g 7 (-1)) 1915442860 = fI s1 1915442860 ∧ fI (memS (uI (uI s1 1764447916 (((t1 : Nat) : Int) + 1)) 1781225132 (((o + 1 : Nat) : Int) - 1)) g 7 (-1)) 1873499820 = fI s1 1873499820 := by simp (config := {implicitDefEqProofs := false}) only [fI_uI, fI_uJ, fI_vI, fI_vJ, fJ_uI, fJ_uJ, fJ_vI, fJ_vJ, aI_uI, aI_uJ, aI_vI, aI_vJ, aJ_uI, aJ_uJ, aJ_vI, aJ_vJ, bnd_v, bnd_x, pu_s, pu_n, b01_T, b01_F, Int.reduceEq, Int.reduceLT, Int.reduceLE, Int.reduceNe, Nat.reduceEqDiff, Nat.reduceLeDiff, and_false, false_and, and_true, true_and, or_false, false_or, or_true, true_or, if_true, if_false, not_true_eq_false, not_false_eq_true, eq_self, ne_eq, reduceCtorEq, false_implies, true_implies, implies_true, fI_pushS, aI_pushS, aJ_pushS, fI_gmodeS, aI_gmodeS, aJ_gmodeS, fI_modeS, aI_modeS, aJ_modeS, fI_giveS, aI_giveS, memS_f hbm, memS_F]
    have mf := mem_facts (s := (uI (uI s1 1764447916 (((t1 : Nat) : Int) + 1)) 1781225132 (((o + 1 : Nat) : Int) - 1))) (g := g) (k := 7) (e := -1) (G := fI s 2234209964) (ids := ids1) (by simp (config := {implicitDefEqProofs := false}) only [fI_uI, fI_uJ, fI_vI, fI_vJ, fJ_uI, fJ_uJ, fJ_vI, fJ_vJ, aI_uI, aI_uJ, aI_vI, aI_vJ, aJ_uI, aJ_uJ, aJ_vI, aJ_vJ, bnd_v, bnd_x, pu_s, pu_n, b01_T, b01_F, Int.reduceEq, Int.reduceLT, Int.reduceLE, Int.reduceNe, Nat.reduceEqDiff, Nat.reduceLeDiff, and_false, false_and, and_true, true_and, or_false, false_or, or_true, true_or, if_true, if_false, not_true_eq_false, not_false_eq_true, eq_self, ne_eq, reduceCtorEq, false_implies, true_implies, implies_true, fI_pushS, aI_pushS, aJ_pushS, fI_gmodeS, aI_gmodeS, aJ_gmodeS, fI_modeS, aI_modeS, aJ_modeS, fI_giveS, aI_giveS]; exact e6) (by simp (config := {implicitDefEqProofs := false}) only [fI_uI, fI_uJ, fI_vI, fI_vJ, fJ_uI, fJ_uJ, fJ_vI, fJ_vJ, aI_uI, aI_uJ, aI_vI, aI_vJ, aJ_uI, aJ_uJ, aJ_vI, aJ_vJ, bnd_v, bnd_x, pu_s, pu_n, b01_T, b01_F, Int.reduceEq, Int.reduceLT, Int.reduceLE, Int.reduceNe, Nat.reduceEqDiff, Nat.reduceLeDiff, and_false, false_and, and_true, true_and, or_false, false_or, or_true, true_or, if_true, if_false, not_true_eq_false, not_false_eq_true, eq_self, ne_eq, reduceCtorEq, false_implies, true_implies, implies_true, fI_pushS, aI_pushS, aJ_pushS, fI_gmodeS, aI_gmodeS, aJ_gmodeS, fI_modeS, aI_modeS, aJ_modeS, fI_giveS, aI_giveS]; exact e5) (fun j hj => by simp (config := {implicitDefEqProofs := false}) only [fI_uI, fI_uJ, fI_vI, fI_vJ, fJ_uI, fJ_uJ, fJ_vI, fJ_vJ, aI_uI, aI_uJ, aI_vI, aI_vJ, aJ_uI, aJ_uJ, aJ_vI, aJ_vJ, bnd_v, bnd_x, pu_s, pu_n, b01_T, b01_F, Int.reduceEq, Int.reduceLT, Int.reduceLE, Int.reduceNe, Nat.reduceEqDiff, Nat.reduceLeDiff, and_false, false_and, and_true, true_and, or_false, false_or, or_true, true_or, if_true, if_false, not_true_eq_false, not_false_eq_true, eq_self, ne_eq, reduceCtorEq, false_implies, true_implies, implies_true, fI_pushS, aI_pushS, aJ_pushS, fI_gmodeS, aI_gmodeS, aJ_gmodeS, fI_modeS, aI_modeS, aJ_modeS, fI_giveS, aI_giveS]; exact f8.2.2.2 j hj)
    have mt : ∀ j : Nat, j < qs1.length → aJ (memS (uI (uI s1 1764447916 (((t1 : Nat) : Int) + 1)) 1781225132 (((o + 1 : Nat) : Int) - 1)) g 7 (-1)) 13 (fI (uI (uI s1 1764447916 (((t1 : Nat) : Int) + 1)) 1781225132 (((o + 1 : Nat) : Int) - 1)) 1848333996 + j) = tg1.getD j 0 := fun j hj => by
      rw [(memS_l (s := (uI (uI s1 1764447916 (((t1 : Nat) : Int) + 1)) 1781225132 (((o + 1 : Nat) : Int) - 1))) (g := g) (k := 7) (e := -1) (j := j) (by simp (config := {implicitDefEqProofs := false}) only [fI_uI, fI_uJ, fI_vI, fI_vJ, fJ_uI, fJ_uJ, fJ_vI, fJ_vJ, aI_uI, aI_uJ, aI_vI, aI_vJ, aJ_uI, aJ_uJ, aJ_vI, aJ_vJ, bnd_v, bnd_x, pu_s, pu_n, b01_T, b01_F, Int.reduceEq, Int.reduceLT, Int.reduceLE, Int.reduceNe, Nat.reduceEqDiff, Nat.reduceLeDiff, and_false, false_and, and_true, true_and, or_false, false_or, or_true, true_or, if_true, if_false, not_true_eq_false, not_false_eq_true, eq_self, ne_eq, reduceCtorEq, false_implies, true_implies, implies_true, fI_pushS, aI_pushS, aJ_pushS, fI_gmodeS, aI_gmodeS, aJ_gmodeS, fI_modeS, aI_modeS, aJ_modeS, fI_giveS, aI_giveS]; omega)).2]
      simp (config := {implicitDefEqProofs := false}) only [fI_uI, fI_uJ, fI_vI, fI_vJ, fJ_uI, fJ_uJ, fJ_vI, fJ_vJ, aI_uI, aI_uJ, aI_vI, aI_vJ, aJ_uI, aJ_uJ, aJ_vI, aJ_vJ, bnd_v, bnd_x, pu_s, pu_n, b01_T, b01_F, Int.reduceEq, Int.reduceLT, Int.reduceLE, Int.reduceNe, Nat.reduceEqDiff, Nat.reduceLeDiff, and_false, false_and, and_true, true_and, or_false, false_or, or_true, true_or, if_true, if_false, not_true_eq_false, not_false_eq_true, eq_self, ne_eq, reduceCtorEq, false_implies, true_implies, implies_true, fI_pushS, aI_pushS, aJ_pushS, fI_gmodeS, aI_gmodeS, aJ_gmodeS, fI_modeS, aI_modeS, aJ_modeS, fI_giveS, aI_giveS, e6]
      exact fc j (by omega)
    have mfm : fI (uI (uI s1 1764447916 (((t1 : Nat) : Int) + 1)) 1781225132 (((o + 1 : Nat) : Int) - 1)) 1789613740 = fI s1 1789613740 := by simp (config := {implicitDefEqProofs := false}) only [fI_uI, fI_uJ, fI_vI, fI_vJ, fJ_uI, fJ_uJ, fJ_vI, fJ_vJ, aI_uI, aI_uJ, aI_vI, aI_vJ, aJ_uI, aJ_uJ, aJ_vI, aJ_vJ, bnd_v, bnd_x, pu_s, pu_n, b01_T, b01_F, Int.reduceEq, Int.reduceLT, Int.reduceLE, Int.reduceNe, Nat.reduceEqDiff, Nat.reduceLeDiff, and_false, false_and, and_true, true_and, or_false, false_or, or_true, true_or, if_true, if_false, not_true_eq_false, not_false_eq_true, eq_self, ne_eq, reduceCtorEq, false_implies, true_implies, implies_true, fI_pushS, aI_pushS, aJ_pushS, fI_gmodeS, aI_gmodeS, aJ_gmodeS, fI_modeS, aI_modeS, aJ_modeS, fI_giveS, aI_giveS]
    have mfl : fI (uI (uI s1 1764447916 (((t1 : Nat) : Int) + 1)) 1781225132 (((o + 1 : Nat) : Int) - 1)) 1848333996 = fI s1 1848333996 := by simp (config := {implicitDefEqProofs := false}) only [fI_uI, fI_uJ, fI_vI, fI_vJ, fJ_uI, fJ_uJ, fJ_vI, fJ_vJ, aI_uI, aI_uJ, aI_vI, aI_vJ, aJ_uI, aJ_uJ, aJ_vI, aJ_vJ, bnd_v, bnd_x, pu_s, pu_n, b01_T, b01_F, Int.reduceEq, Int.reduceLT, Int.reduceLE, Int.reduceNe, Nat.reduceEqDiff, Nat.reduceLeDiff, and_false, false_and, and_true, true_and, or_false, false_or, or_true, true_or, if_true, if_false, not_true_eq_false, not_false_eq_true, eq_self, ne_eq, reduceCtorEq, false_implies, true_implies, implies_true, fI_pushS, aI_pushS, aJ_pushS, fI_gmodeS, aI_gmodeS, aJ_gmodeS, fI_modeS, aI_modeS, aJ_modeS, fI_giveS, aI_giveS]
    rw [mfm, mfl] at mf
    rw [mfl] at mt
    have Mx : MJ (memS (uI (uI s1 1764447916 (((t1 : Nat) : Int) + 1)) 1781225132 (((o + 1 : Nat) : Int) - 1)) g 7 (-1)) l (t1 + 1) o PR := ⟨⟨Me.1.1.fr ax, m4, ht1⟩, m5, m6, (ax.2.1 _ (by decide)).trans Me.2.2.2.1, mme.1, by omega, by omega, by omega, by omega⟩
    clear hbm mfm mfl
    have RC5 := f4
    generalize hsx : (memS (uI (uI s1 1764447916 (((t1 : Nat) : Int) + 1)) 1781225132 (((o + 1 : Nat) : Int) - 1)) g 7 (-1)) = sx at RC5 aF ax m1 m2 m3 m4 m5 m6 m7 m8 m9 mf mt Mx
    clear hsx f4
    have A3 := ((XM.rf f5.x f5.2.1).st (t1 := t1 + 1) ht1).so (o1 := o) (by omega)
    have cl := f_close (d + 96) ((XM.rf f5.x f5.2.1).st (t1 := t1 + 1) ht1).2.1 (o' := o) rfl
    have kC : gI (nA (pI (pI hB 1294223504 p ((o + 1 : Nat) : Int)) 1285834896 p ((t + 1 + 1 : Nat) : Int)) 66 8) 638128676 (hn h) = 7 ∧ gR (nA (pI (pI hB 1294223504 p ((o + 1 : Nat) : Int)) 1285834896 p ((t + 1 + 1 : Nat) : Int)) 66 8) 671683110 (hn h) = 0 := by
      refine ⟨?_, ?_⟩
      · simp (config := {implicitDefEqProofs := false}) only [bnd_v, bnd_x, pu_s, pu_n, b01_T, b01_F, Int.reduceEq, Int.reduceLT, Int.reduceLE, Int.reduceNe, Nat.reduceEqDiff, Nat.reduceLeDiff, and_false, false_and, and_true, true_and, or_false, false_or, or_true, true_or, if_true, if_false, not_true_eq_false, not_false_eq_true, eq_self, ne_eq, reduceCtorEq, false_implies, true_implies, implies_true, inT, inA, rmO, rmA, rI_pI, rI_pJ, rI_pR, rI_qI, rI_qJ, rI_qR, rJ_pI, rJ_pJ, rJ_pR, rJ_qI, rJ_qJ, rJ_qR, rR_pI, rR_pJ, rR_pR, rR_qI, rR_qJ, rR_qR, sI_pI, sI_pJ, sI_pR, sI_qI, sI_qJ, sI_qR, sJ_pI, sJ_pJ, sJ_pR, sJ_qI, sJ_qJ, sJ_qR, sR_pI, sR_pJ, sR_pR, sR_qI, sR_qJ, sR_qR, hc_pI, hc_pJ, hc_pR, hc_qI, hc_qJ, hc_qR, hl_pI, hl_pJ, hl_pR, hl_qI, hl_qJ, hl_qR, hk_pI, hk_pJ, hk_pR, hk_qI, hk_qJ, hk_qR, hs_pI, hs_pJ, hs_pR, hs_qI, hs_qJ, hs_qR, hn_pI, hn_pJ, hn_pR, hn_qI, hn_qJ, hn_qR, hc_nO', hc_nA', hl_nO, hl_nA', hn_nO, hn_nA, hk_nO, hk_nA, hs_nO, hs_nA, rI_nO, rI_nA, rJ_nO, rJ_nA, rR_nO, rR_nA, Nat.le_refl]; exact i5
      · simp (config := {implicitDefEqProofs := false}) only [bnd_v, bnd_x, pu_s, pu_n, b01_T, b01_F, Int.reduceEq, Int.reduceLT, Int.reduceLE, Int.reduceNe, Nat.reduceEqDiff, Nat.reduceLeDiff, and_false, false_and, and_true, true_and, or_false, false_or, or_true, true_or, if_true, if_false, not_true_eq_false, not_false_eq_true, eq_self, ne_eq, reduceCtorEq, false_implies, true_implies, implies_true, inT, inA, rmO, rmA, rI_pI, rI_pJ, rI_pR, rI_qI, rI_qJ, rI_qR, rJ_pI, rJ_pJ, rJ_pR, rJ_qI, rJ_qJ, rJ_qR, rR_pI, rR_pJ, rR_pR, rR_qI, rR_qJ, rR_qR, sI_pI, sI_pJ, sI_pR, sI_qI, sI_qJ, sI_qR, sJ_pI, sJ_pJ, sJ_pR, sJ_qI, sJ_qJ, sJ_qR, sR_pI, sR_pJ, sR_pR, sR_qI, sR_qJ, sR_qR, hc_pI, hc_pJ, hc_pR, hc_qI, hc_qJ, hc_qR, hl_pI, hl_pJ, hl_pR, hl_qI, hl_qJ, hl_qR, hk_pI, hk_pJ, hk_pR, hk_qI, hk_qJ, hk_qR, hs_pI, hs_pJ, hs_pR, hs_qI, hs_qJ, hs_qR, hn_pI, hn_pJ, hn_pR, hn_qI, hn_qJ, hn_qR, hc_nO', hc_nA', hl_nO, hl_nA', hn_nO, hn_nA, hk_nO, hk_nA, hs_nO, hs_nA, rI_nO, rI_nA, rJ_nO, rJ_nA, rR_nO, rR_nA, Nat.le_refl]; rw [i9 _ (by decide)]; exact if_pos rfl
    have SE := (f13.tr (A3.1.mono (W' := (fun x => W7 p x ∨ x = hn h + 1 ∨ x = hn h + 2)) (fun x _ w => Or.inl ⟨by omega, by omega⟩) (Nat.le_refl _)) (fun _ _ w => w)).ob (q := hn h) (by omega) (fun w => w.elim (fun y => by have := y.2; omega) (fun y => by omega)) (by rw [c9D]; decide)
    have x3' : hk (pI (pI h1 1285834896 p ((t1 + 1 : Nat) : Int)) 1294223504 p ((o : Nat) : Int)) < cLim := x3
    have x4' : hs (pI (pI h1 1285834896 p ((t1 + 1 : Nat) : Int)) 1294223504 p ((o : Nat) : Int)) + (qs1.length : Int).toNat ≤ sLim := x4
    have n3' : hn (pI (pI h1 1285834896 p ((t1 + 1 : Nat) : Int)) 1294223504 p ((o : Nat) : Int)) = hn h1 := rfl
    have BQ3 := f7.ev f5.x.c A3.1 (O1 := O1) (by have := f7.2.2.2.1.1; omega) (by have := f7.2.2.2.2.1.1; omega) (fun w => hp0 w.symm) (fun x w => Or.inl w)
    have TA3 := fa.ev A3.1 (O1 := O1) (by have := fa.2.2.2.1.1; omega) (fun x w => Or.inl w)
    generalize hh2 : (pI (pI h1 1285834896 p ((t1 + 1 : Nat) : Int)) 1294223504 p ((o : Nat) : Int)) = h2 at A3 cl SE x3' x4' n3' BQ3 TA3
    have hnl : hn h + 3 ≤ hn h1 := by have := f13.1.1; omega
    have J6 := f5.step A3.1 (fun x w => Or.inr w) A3.2.1 A3.2.2 ax Mx (by omega) (Int.le_refl _) (Int.le_refl _) (by show _ ≤ (1000000 : Int); omega) (by omega) (by omega)
    have twx : aI sx 32 t = 0 := by
      rw [← twA, ← f17 t (by omega)]
      exact (ax.1 32 t (Or.inr ⟨⟨by omega, by show (t : Int) < 1000000; omega⟩, fun w => absurd w (by decide)⟩)).1
    have J7 := J6.mark (A := 33) (k := t) (w := fI s1 1789613740) (by decide) (by omega) (Or.inr twx)
    have tw7 : aI (vI' sx 33 t (fI s1 1789613740)) 32 t = 0 := by simp (config := {implicitDefEqProofs := false}) only [fI_uI, fI_uJ, fI_vI, fI_vJ, fJ_uI, fJ_uJ, fJ_vI, fJ_vJ, aI_uI, aI_uJ, aI_vI, aI_vJ, aJ_uI, aJ_uJ, aJ_vI, aJ_vJ, bnd_v, bnd_x, pu_s, pu_n, b01_T, b01_F, Int.reduceEq, Int.reduceLT, Int.reduceLE, Int.reduceNe, Nat.reduceEqDiff, Nat.reduceLeDiff, and_false, false_and, and_true, true_and, or_false, false_or, or_true, true_or, if_true, if_false, not_true_eq_false, not_false_eq_true, eq_self, ne_eq, reduceCtorEq, false_implies, true_implies, implies_true, fI_pushS, aI_pushS, aJ_pushS, fI_gmodeS, aI_gmodeS, aJ_gmodeS, fI_modeS, aI_modeS, aJ_modeS, fI_giveS, aI_giveS]; exact twx
    have J7' := J7.unmark (X := X) (k := t) (fun j w => Or.inl w) (fun j w => w) (Or.inl tw7)
    clear tw7
    have M7 := J7'.m
    have ag : Fr (Lc g) (-1) (vI' sx 33 t (fI s1 1789613740)) (gmodeS (vI' sx 33 t (fI s1 1789613740)) (fI s1 1789613740)) := Fr.gmode Fr.rf
    have M8 : MJ (gmodeS (vI' sx 33 t (fI s1 1789613740)) (fI s1 1789613740)) l (t1 + 1) o PR := ⟨⟨M7.1.1.fr ag, M7.1.2.1, M7.1.2.2⟩, M7.2.1, M7.2.2.1, M7.2.2.2.1, M7.2.2.2.2⟩
    -- x: the tags' array
    have q9 : hc h2 (hn h) = 9 := BQ3.1
    have ea : Ev (· = hn h) 1 h2 (nA h2 66 (qs1.length : Int)) := by
      have := (Ev.rf (W := (· = hn h)) A3.2.1.i).mA (t := 66) (n := (qs1.length : Int)) (c := 1) (by omega) (by decide) (by decide)
      exact this
    have q9' : hc (nA h2 66 (qs1.length : Int)) (hn h) = 9 := by
      show (if hn h = hn h2 then 66 else hc h2 (hn h)) = 9
      rw [if_neg (by omega)]; exact q9
    have c66 : hc (nA h2 66 (qs1.length : Int)) (hn h2) = 66 := if_pos rfl
    have l66 : hl (nA h2 66 (qs1.length : Int)) (hn h2) = qs1.length := if_pos rfl
    have t66 : hc (nA h2 66 (qs1.length : Int)) (hn h + 2) = 66 := by
      show (if hn h + 2 = hn h2 then 66 else hc h2 (hn h + 2)) = 66
      rw [if_neg (by omega)]; exact TA3.1
    have tl66 : hl (nA h2 66 (qs1.length : Int)) (hn h + 2) = 8 := by
      show (if hn h + 2 = hn h2 then (qs1.length : Int) else hl h2 (hn h + 2)) = 8
      rw [if_neg (by omega)]; exact TA3.2.1
    have eb := ea.cR (f := 654905894) (r := hn h) (w := hn h2) (Or.inl rfl) (by rw [q9']; rfl) (by decide)
    have E6 : Ev (· = hn h) 1 h2 (aC (pR (nA h2 66 (qs1.length : Int)) 654905894 (hn h) (hn h2)) (hn h + 2) 0 (hn h2) 0 (qs1.length : Int)) := eb.mC A3.2.1.i (Nat.le_refl _) (by show mdA (hc (nA h2 66 (qs1.length : Int)) (hn h2)) = true; rw [c66]; rfl)
    have ac := f_acopy (d + 96) (h := pR (nA h2 66 (qs1.length : Int)) 654905894 (hn h) (hn h2)) (a := hn h + 2) (b := hn h2) (n := (qs1.length : Int)) t66 c66 (by omega) (by show _ ≤ hl (nA h2 66 (qs1.length : Int)) (hn h + 2); rw [tl66]; omega) (by show _ ≤ hl (nA h2 66 (qs1.length : Int)) (hn h2); rw [l66]; exact Int.le_refl _)
    have sz := f_size (d + 96) BQ3.2.2.1
    have h48 : hc h2 (hn h + 1) = 48 := BQ3.2.2.1.1
    have v1 : gI (aC (pR (nA h2 66 (qs1.length : Int)) 654905894 (hn h) (hn h2)) (hn h + 2) 0 (hn h2) 0 (qs1.length : Int)) 638128676 (hn h) = 7 := by
      show gI h2 638128676 (hn h) = 7
      exact (SE.2.2.1 _).trans kC.1
    have v2 : gR (aC (pR (nA h2 66 (qs1.length : Int)) 654905894 (hn h) (hn h2)) (hn h + 2) 0 (hn h2) 0 (qs1.length : Int)) 671683110 (hn h) = 0 := by
      show (if 671683110 = 654905894 ∧ hn h = hn h then hn h2 else gR h2 671683110 (hn h)) = 0
      rw [if_neg (fun w => absurd w.1 (by decide))]
      exact (SE.2.2.2.2.1 _).trans kC.2
    have v3 : gR (aC (pR (nA h2 66 (qs1.length : Int)) 654905894 (hn h) (hn h2)) (hn h + 2) 0 (hn h2) 0 (qs1.length : Int)) 646517286 (hn h) = hn h + 1 := by
      show (if 646517286 = 654905894 ∧ hn h = hn h then hn h2 else gR h2 646517286 (hn h)) = _
      rw [if_neg (fun w => absurd w.1 (by decide))]
      exact BQ3.2.1
    have v4 : gR (aC (pR (nA h2 66 (qs1.length : Int)) 654905894 (hn h) (hn h2)) (hn h + 2) 0 (hn h2) 0 (qs1.length : Int)) 654905894 (hn h) = hn h2 := if_pos ⟨rfl, rfl⟩
    have v5 : hc (aC (pR (nA h2 66 (qs1.length : Int)) 654905894 (hn h) (hn h2)) (hn h + 2) 0 (hn h2) 0 (qs1.length : Int)) (hn h) = 9 := q9'
    have v6 : hc (aC (pR (nA h2 66 (qs1.length : Int)) 654905894 (hn h) (hn h2)) (hn h + 2) 0 (hn h2) 0 (qs1.length : Int)) (hn h2) = 66 ∧ hl (aC (pR (nA h2 66 (qs1.length : Int)) 654905894 (hn h) (hn h2)) (hn h + 2) 0 (hn h2) 0 (qs1.length : Int)) (hn h2) = qs1.length := ⟨c66, l66⟩
    have v7 : AL (aC (pR (nA h2 66 (qs1.length : Int)) 654905894 (hn h) (hn h2)) (hn h + 2) 0 (hn h2) 0 (qs1.length : Int)) (hn h + 1) qs1 := E6.al A3.2.1.c (by omega) (by omega) BQ3.2.2.1
    have v8 : ∀ j : Nat, j < qs1.length → eJ (aC (pR (nA h2 66 (qs1.length : Int)) 654905894 (hn h) (hn h2)) (hn h + 2) 0 (hn h2) 0 (qs1.length : Int)) (hn h2) j = tg1.getD j 0 := fun j hj => by
      rw [sJ_aC ⟨by omega, by omega⟩, show (0 : Int) + ((j : Int) - 0) = j by omega]
      show (if hn h + 2 = hn h2 then 0 else eJ h2 (hn h + 2) j) = _
      rw [if_neg (by omega)]
      exact TA3.2.2.1 j (by omega)
    have v9 : hn (aC (pR (nA h2 66 (qs1.length : Int)) 654905894 (hn h) (hn h2)) (hn h + 2) 0 (hn h2) 0 (qs1.length : Int)) = hn h2 + 1 := rfl
    have pf : F (d + 100) 104145474 [vR p, vI (xmv mv)] h = some (.inl (some (vR (hn h))), (aC (pR (nA h2 66 (qs1.length : Int)) 654905894 (hn h) (hn h2)) (hn h + 2) 0 (hn h2) 0 (qs1.length : Int))) := by
      have nq : ¬ (hn h = hn h2) := by omega
      have q3 : gR h2 646517286 (hn h) = hn h + 1 := BQ3.2.1
      have n0 : (0 : Int) ≤ (qs1.length : Int) := by omega
      rw [pre0, f1]
      simp (config := {implicitDefEqProofs := false}) only [c_X11_structure_161, c_X11_structure_165, c_X11_structure_173, c_X11_structure_193, e_X11_declarer, c_X11_declarer_0, c_X11_declarer_6, e_X11_declarer_2, c_X11_declarer_2_0, c_X11_declarer_2_4, c_X11_declarer_2_13, c_X11_declarer_2_19, c_X11_declarer_2_27, c_X11_declarer_2_30, c_X11_declarer_2_34, c_X11_declarer_2_35, c_X11_declarer_2_44, c_X11_declarer_2_79, c_X11_declarer_2_83, c_X11_declarer_2_90, c_X11_declarer_2_93, c_X11_declarer_2_98, c_X11_declarer_2_99, c_X11_declarer_2_105, c_X11_declarer_2_108, c_X11_declarer_2_116, c_X11_declarer_2_117, c_X11_declarer_2_123, c_X11_declarer_2_126, c_X11_declarer_2_134, c_X11_declarer_2_135, c_X11_declarer_2_141, c_X11_declarer_2_144, c_X11_declarer_2_152, c_X11_declarer_2_153, c_X11_declarer_2_159, c_X11_declarer_2_162, c_X11_declarer_2_166, c_X11_declarer_2_180, c_X11_declarer_2_183, c_X11_declarer_2_184, c_X11_declarer_2_192, c_X11_declarer_2_193, c_X11_declarer_2_199, c_X11_declarer_2_202, c_X11_declarer_2_206, c_X11_declarer_2_226, c_X11_declarer_2_229, c_X11_declarer_2_235, c_X11_declarer_2_238, c_X11_declarer_2_244, c_X11_declarer_2_247, c_X11_declarer_2_251, c_X11_declarer_2_252, c_X11_declarer_2_258, c_X11_declarer_2_261, c_X11_declarer_2_265, c_X11_declarer_2_266, c_X11_declarer_2_272, c_X11_declarer_2_275, c_X11_declarer_2_279, c_X11_declarer_2_280, c_X11_declarer_2_299, c_X11_declarer_2_307, c_X11_declarer_2_322, c_X11_declarer_2_325, bnd_v, bnd_x, pu_s, pu_n, b01_T, b01_F, Int.reduceEq, Int.reduceLT, Int.reduceLE, Int.reduceNe, Nat.reduceEqDiff, Nat.reduceLeDiff, and_false, false_and, and_true, true_and, or_false, false_or, or_true, true_or, if_true, if_false, not_true_eq_false, not_false_eq_true, eq_self, ne_eq, reduceCtorEq, false_implies, true_implies, implies_true, inT, inA, rmO, rmA, rI_pI, rI_pJ, rI_pR, rI_qI, rI_qJ, rI_qR, rJ_pI, rJ_pJ, rJ_pR, rJ_qI, rJ_qJ, rJ_qR, rR_pI, rR_pJ, rR_pR, rR_qI, rR_qJ, rR_qR, sI_pI, sI_pJ, sI_pR, sI_qI, sI_qJ, sI_qR, sJ_pI, sJ_pJ, sJ_pR, sJ_qI, sJ_qJ, sJ_qR, sR_pI, sR_pJ, sR_pR, sR_qI, sR_qJ, sR_qR, hc_pI, hc_pJ, hc_pR, hc_qI, hc_qJ, hc_qR, hl_pI, hl_pJ, hl_pR, hl_qI, hl_qJ, hl_qR, hk_pI, hk_pJ, hk_pR, hk_qI, hk_qJ, hk_qR, hs_pI, hs_pJ, hs_pR, hs_qI, hs_qJ, hs_qR, hn_pI, hn_pJ, hn_pR, hn_qI, hn_qJ, hn_qR, hc_nO', hc_nA', hl_nO, hl_nA', hn_nO, hn_nA, hk_nO, hk_nA, hs_nO, hs_nA, rI_nO, rI_nA, rJ_nO, rJ_nA, rR_nO, rR_nA, Nat.le_refl, f5.x.1, cl, q9, q3, h48, sz, x3', x4', nq, ac, n0]
    have X6 : PXs (aC (pR (nA h2 66 (qs1.length : Int)) 654905894 (hn h) (hn h2)) (hn h + 2) 0 (hn h2) 0 (qs1.length : Int)) p lx l (t1 + 1) o := A3.2.1.ev E6 (fun x w => by omega)
    have F6 : XFd (aC (pR (nA h2 66 (qs1.length : Int)) 654905894 (hn h) (hn h2)) (hn h + 2) 0 (hn h2) 0 (qs1.length : Int)) p := A3.2.2.ev A3.2.1 E6 (fun w => by omega)
    generalize hh6 : (aC (pR (nA h2 66 (qs1.length : Int)) 654905894 (hn h) (hn h2)) (hn h + 2) 0 (hn h2) 0 (qs1.length : Int)) = h9 at E6 v1 v2 v3 v4 v5 v6 v7 v8 v9 pf X6 F6
    clear hh6
    have J8 := J7'.step E6 (fun x w => Or.inl (by rw [w]; exact BQ3.2.2.2.2.2.1)) X6 F6 ag M8 (Nat.le_refl _) (by show fI sx 1789613740 ≤ (1000000 : Int); omega) (by show fI sx 1848333996 ≤ (1000000 : Int); omega) (by show _ ≤ (1000000 : Int); omega) (Int.le_refl _) (Int.le_refl _)
    have J9 := J8.mode (O1 := fun x => O1 x ∨ x = hn h ∨ x = hn h + 1 ∨ x = hn h2) (q := hn h) (i := fI s1 1789613740) (fun x w => Or.inl w) (fun x w => by
      rcases w with w | w | w | w
      · exact J8.hi w
      · omega
      · omega
      · omega) (by
      unfold MLoc
      rw [v3, v1, v2, v4]
      refine ⟨⟨v5, ⟨Or.inr (Or.inl rfl), by omega⟩, ⟨Or.inr (Or.inr (Or.inl rfl)), by omega⟩⟩, ⟨by omega, by show fI s1 1789613740 < fI sx 1789613740; omega, mf.1⟩, ⟨by decide, by decide⟩, fun w => by omega, fun w => by omega, fun _ => rfl, fun w => by omega, qs1, v7, by rw [← il]; exact mf.2.2.1, fun _ => ?_, fun j hj => ?_, fun w => absurd (Or.inr (Or.inl rfl)) w, fun _ => f11', f11, fun _ => ⟨⟨Or.inr (Or.inr (Or.inr rfl)), by omega⟩, v6.1, v6.2, fun j hj => ?_⟩⟩
      · show 1300 * PR ≤ aI sx 8 (fI s1 1789613740) ∧ aI sx 8 (fI s1 1789613740) + (qs1.length : Int) ≤ fI sx 1848333996
        rw [mf.2.2.2.1]
        omega
      · show (qs1.getD j 0, aI sx 12 (aI sx 8 (fI s1 1789613740) + j)) ∈ _
        rw [mf.2.2.2.1, mf.2.2.2.2 j (by omega)]
        exact List.mem_cons_of_mem _ (f9.2 j hj)
      · show _ = aJ sx 13 (aI sx 8 (fI s1 1789613740) + j)
        rw [mf.2.2.2.1, mt j hj]
        exact v8 j hj) (by rw [v1]; decide)
    have nv : ¬ isVd l t := fun w => by have := w.2; rw [r] at this; exact absurd this (by decide)
    have nb : ¬ isBr l t := fun w => by have := w.1; rw [q] at this; exact absurd this (by decide)
    have E7 : Ev (W7 p) _ h h9 := ((EC.mono (W' := W7 p) (fun x _ w => ⟨by omega, by omega⟩) (Nat.le_refl _)).tr f13 (fun x hx w => w.elim id (fun y => by omega))).tr A3.1 (fun x _ w => ⟨by omega, by omega⟩) |>.tr E6 (fun x hx w => by omega)
    have dp : DPost s (gmodeS (vI' sx 33 t (fI s1 1789613740)) (fI s1 1789613740)) t (t1 + 1) g := by
      refine ⟨aF, ?_⟩
      simp (config := {implicitDefEqProofs := false}) only [fI_uI, fI_uJ, fI_vI, fI_vJ, fJ_uI, fJ_uJ, fJ_vI, fJ_vJ, aI_uI, aI_uJ, aI_vI, aI_vJ, aJ_uI, aJ_uJ, aJ_vI, aJ_vJ, bnd_v, bnd_x, pu_s, pu_n, b01_T, b01_F, Int.reduceEq, Int.reduceLT, Int.reduceLE, Int.reduceNe, Nat.reduceEqDiff, Nat.reduceLeDiff, and_false, false_and, and_true, true_and, or_false, false_or, or_true, true_or, if_true, if_false, not_true_eq_false, not_false_eq_true, eq_self, ne_eq, reduceCtorEq, false_implies, true_implies, implies_true, fI_pushS, aI_pushS, aJ_pushS, fI_gmodeS, aI_gmodeS, aJ_gmodeS, fI_modeS, aI_modeS, aJ_modeS, fI_giveS, aI_giveS, m1, m2, m3, m7, m8, m9.1, m9.2.1, m9.2.2.1, m9.2.2.2.1, m9.2.2.2.2, e6]
      have w1 := f12.2.2.1
      have w2 := f12.2.2.2.2.2.1
      have w3 := f12.2.2.2.2.2.2
      clear m1 m2 m3 m4 m5 m6 m7 m8 m9 mf mt v1 v2 v3 v4 v5 v6 v7 v8 v9
      omega
    refine ⟨hn h, fI s1 1789613740, h9, _, t1 + 1, _, X, _, pf, RC.tr RC5, J9.mono (by omega), ⟨List.mem_cons_self, rfl⟩, dp, ⟨_, E7⟩, ⟨fun x w => Or.inl (f14 x w), fun x w => ?_, fun e w => List.mem_cons_of_mem _ (f16 e w)⟩, tt, ⟨⟨fun w => by rw [v1] at w; exact absurd w (by decide), fun w => absurd w nv⟩, ⟨fun w => by rw [v1] at w; exact absurd w (by decide), fun w => absurd w nb⟩⟩, Or.inr ⟨fun w => nv w.2, rfl⟩, (((nmp_w r (by decide) (by decide)).tr (nmp_k q' (by decide))).tr f18).tr (nmp_k f2.1 (by decide))⟩
    rcases w with w | w | w | w
    · rcases f15 x w with y | y
      · exact Or.inl y
      · right; omega
    · right; omega
    · right; omega
    · right; omega
end DSt
