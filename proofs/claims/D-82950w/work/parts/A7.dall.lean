/-! READING DECLARERS: all of it -/
set_option maxRecDepth 100000
set_option maxHeartbeats 1000000
section DA
variable {h : PH} {s : MS} {p lx t o : Nat} {X O : Nat → Prop} {l : List TokE} {PR g mv : Int} {P : List (Nat × Int)} {Z0 Z : Nat}
theorem dc_ref24 (d : Nat) (J : JD h s p lx l t o PR P X O Z0 Z) (hX : ∀ j, X j → j < t) (z1 : Z + 24 * (482 - t) ≤ 80000) (z2 : Z - Z0 + 24 * (482 - t) ≤ 11800) (Pre : DPre s o g mv) (q : kd l t = 1) (r : sI l t = 37) (qo : o = 24) (hl1 : t + 1 < xc l) : BF (F (d + 100) 104145474 [vR p, vI (xmv mv)] h) h s p l Z0 (Z + 24 * (482 - t) + 10) := by
  obtain ⟨hg, g0, g1, hgo, hz, hga, hmv⟩ := Pre
  have M := J.m
  have Y := J.x
  have hlt : t < l.length := M.1.a
  have hl2 := M.1.1.2.1
  have hxt : t < xc l := M.1.2.2
  have ho24 : o ≤ 24 := Y.2.2.2.2.2.1
  have rm := J.room (by omega) (by omega)
  have z0 := J.2.2.2.2.2.2.2.2.2.1
  have xll : xc l ≤ l.length := M.1.1.x
  have hp := J.hp
  have lt6 : t < 1000000 := by omega
  have lt7 : t + 1 < 1000000 := by omega
  have rm1 := rm.le (u' := 10) (by omega)
  have x1 : hk h < cLim := by unfold Room at rm1; omega
  have x2 : hs h + 8 ≤ sLim := by unfold Room at rm1; omega
  have a1 : Fr (Lq s g) (-1) s ((uI (vI' (vI' s 38 g t) 37 g (fI s 2234209964)) 1772836524 (pl l t))) := by
    refine (Fr.uI (Fr.vI (Fr.vI Fr.rf (by decide) (Or.inl ?_)) (by decide) (Or.inl ?_)) (by decide))
    all_goals (first | exact Int.le_refl _ | (show g ≤ fI s 2066437804; omega) | (show fI s 2066437804 - 1 ≤ _; omega) | (show fI s 2066437804 - 1 ≤ fI s 2066437804; omega))
  have zz : Z + 0 + 1 ≤ Z + 24 * (482 - t) + 10 := by omega
  have RC : Reach s ((uI (vI' (vI' s 38 g t) 37 g (fI s 2234209964)) 1772836524 (pl l t))) := Reach.one (by rw [hg]; omega) (by have := M.2.2.1; omega) (step_of hg ⟨g0, by omega⟩ hgo (by decide) (md_ref24 M ho24 hg g0 (by omega) hz q r qo (by omega)))
  have bd : fI ((uI (vI' (vI' s 38 g t) 37 g (fI s 2234209964)) 1772836524 (pl l t))) 1772836524 = pl l (t) := by simp (config := {implicitDefEqProofs := false}) only [fI_uI, fI_uJ, fI_vI, fI_vJ, fJ_uI, fJ_uJ, fJ_vI, fJ_vJ, aI_uI, aI_uJ, aI_vI, aI_vJ, aJ_uI, aJ_uJ, aJ_vI, aJ_vJ, bnd_v, bnd_x, pu_s, pu_n, b01_T, b01_F, Int.reduceEq, Int.reduceLT, Int.reduceLE, Int.reduceNe, Nat.reduceEqDiff, Nat.reduceLeDiff, and_false, false_and, and_true, true_and, or_false, false_or, or_true, true_or, if_true, if_false, not_true_eq_false, not_false_eq_true, eq_self, ne_eq, reduceCtorEq, false_implies, true_implies, implies_true, fI_pushS, aI_pushS, aJ_pushS, fI_gmodeS, aI_gmodeS, aJ_gmodeS, fI_modeS, aI_modeS, aJ_modeS, fI_giveS, aI_giveS]
  have fw := frw M a1
  clear a1
  generalize hss : ((uI (vI' (vI' s 38 g t) 37 g (fI s 2234209964)) 1772836524 (pl l t))) = sS at RC bd fw
  clear hss
  obtain ⟨e, h1, w1, w2, w3⟩ := f_openN (d + 92) Y (rm.le (by omega)) qo
  have w2' : hc h1 e = 44 := w2.1
  refine bf_now (k := t) J (by omega) (Ev.rf (W := (· = p)) J.i) ?_ w2 w3 zz RC bd fw
  simp (config := {implicitDefEqProofs := false}) only [e_X11_declarer, c_X11_declarer_0, c_X11_declarer_6, e_X11_declarer_2, c_X11_declarer_2_0, c_X11_declarer_2_4, c_X11_declarer_2_13, c_X11_declarer_2_19, c_X11_declarer_2_27, c_X11_declarer_2_30, c_X11_declarer_2_34, c_X11_declarer_2_35, c_X11_declarer_2_44, c_X11_declarer_2_79, c_X11_declarer_2_83, c_X11_declarer_2_90, c_X11_declarer_2_93, c_X11_declarer_2_98, c_X11_declarer_2_99, c_X11_declarer_2_105, c_X11_declarer_2_108, c_X11_declarer_2_116, c_X11_declarer_2_117, c_X11_declarer_2_123, c_X11_declarer_2_126, c_X11_declarer_2_134, c_X11_declarer_2_135, c_X11_declarer_2_141, c_X11_declarer_2_144, c_X11_declarer_2_152, c_X11_declarer_2_153, c_X11_declarer_2_159, c_X11_declarer_2_162, c_X11_declarer_2_166, c_X11_declarer_2_180, c_X11_declarer_2_183, c_X11_declarer_2_184, c_X11_declarer_2_192, c_X11_declarer_2_193, c_X11_declarer_2_199, c_X11_declarer_2_202, c_X11_declarer_2_206, c_X11_declarer_2_226, c_X11_declarer_2_229, c_X11_declarer_2_235, c_X11_declarer_2_238, c_X11_declarer_2_244, c_X11_declarer_2_247, c_X11_declarer_2_251, c_X11_declarer_2_252, c_X11_declarer_2_258, c_X11_declarer_2_261, c_X11_declarer_2_265, c_X11_declarer_2_266, c_X11_declarer_2_272, c_X11_declarer_2_275, c_X11_declarer_2_279, c_X11_declarer_2_280, c_X11_declarer_2_299, c_X11_declarer_2_307, c_X11_declarer_2_322, c_X11_declarer_2_325, bnd_v, bnd_x, pu_s, pu_n, b01_T, b01_F, Int.reduceEq, Int.reduceLT, Int.reduceLE, Int.reduceNe, Nat.reduceEqDiff, Nat.reduceLeDiff, and_false, false_and, and_true, true_and, or_false, false_or, or_true, true_or, if_true, if_false, not_true_eq_false, not_false_eq_true, eq_self, ne_eq, reduceCtorEq, false_implies, true_implies, implies_true, inT, inA, rmO, rmA, rI_pI, rI_pJ, rI_pR, rI_qI, rI_qJ, rI_qR, rJ_pI, rJ_pJ, rJ_pR, rJ_qI, rJ_qJ, rJ_qR, rR_pI, rR_pJ, rR_pR, rR_qI, rR_qJ, rR_qR, sI_pI, sI_pJ, sI_pR, sI_qI, sI_qJ, sI_qR, sJ_pI, sJ_pJ, sJ_pR, sJ_qI, sJ_qJ, sJ_qR, sR_pI, sR_pJ, sR_pR, sR_qI, sR_qJ, sR_qR, hc_pI, hc_pJ, hc_pR, hc_qI, hc_qJ, hc_qR, hl_pI, hl_pJ, hl_pR, hl_qI, hl_qJ, hl_qR, hk_pI, hk_pJ, hk_pR, hk_qI, hk_qJ, hk_qR, hs_pI, hs_pJ, hs_pR, hs_qI, hs_qJ, hs_qR, hn_pI, hn_pJ, hn_pR, hn_qI, hn_qJ, hn_qR, hc_nO', hc_nA', hl_nO, hl_nA', hn_nO, hn_nA, hk_nO, hk_nA, hs_nO, hs_nA, rI_nO, rI_nA, rJ_nO, rJ_nA, rR_nO, rR_nA, Nat.le_refl, Y.1, fpl _ Y, fgt Y, fk0 _ Y, xk2 Y, xk3 Y, xk4 Y, im_op _ Y, tm_op _ Y, im_cp _ Y, tm_cp _ Y, im_ob _ Y, tm_ob _ Y, im_cb _ Y, tm_cb _ Y, im_co _ Y, tm_co _ Y, im_se _ Y, tm_se _ Y, im_cl _ Y, tm_cl _ Y, im_be _ Y, tm_be _ Y, iw_INT _ Y, tw_INT _ Y, iw_LONG _ Y, tw_LONG _ Y, iw_BOOL _ Y, tw_BOOL _ Y, iw_VOID _ Y, tw_VOID _ Y, iw_REF _ Y, tw_REF _ Y, iw_PROC _ Y, tw_PROC _ Y, iw_STRUCT _ Y, tw_STRUCT _ Y, iw_UNION _ Y, tw_UNION _ Y, q, r, x1, x2, w1, w2', w32_1 lt6, w32_1 lt7]
theorem dc_proc24 (d : Nat) (J : JD h s p lx l t o PR P X O Z0 Z) (hX : ∀ j, X j → j < t) (z1 : Z + 24 * (482 - t) ≤ 80000) (z2 : Z - Z0 + 24 * (482 - t) ≤ 11800) (Pre : DPre s o g mv) (q : kd l t = 1) (r : sI l t = 38) (qo : o = 24) (hl1 : t + 1 < xc l) : BF (F (d + 100) 104145474 [vR p, vI (xmv mv)] h) h s p l Z0 (Z + 24 * (482 - t) + 10) := by
  obtain ⟨hg, g0, g1, hgo, hz, hga, hmv⟩ := Pre
  have M := J.m
  have Y := J.x
  have hlt : t < l.length := M.1.a
  have hl2 := M.1.1.2.1
  have hxt : t < xc l := M.1.2.2
  have ho24 : o ≤ 24 := Y.2.2.2.2.2.1
  have rm := J.room (by omega) (by omega)
  have z0 := J.2.2.2.2.2.2.2.2.2.1
  have xll : xc l ≤ l.length := M.1.1.x
  have hp := J.hp
  have lt6 : t < 1000000 := by omega
  have lt7 : t + 1 < 1000000 := by omega
  have rm1 := rm.le (u' := 10) (by omega)
  have x1 : hk h < cLim := by unfold Room at rm1; omega
  have x2 : hs h + 8 ≤ sLim := by unfold Room at rm1; omega
  have a1 : Fr (Lq s g) (-1) s ((uI (vI' (vI' s 38 g t) 37 g (fI s 2234209964)) 1772836524 (pl l t))) := by
    refine (Fr.uI (Fr.vI (Fr.vI Fr.rf (by decide) (Or.inl ?_)) (by decide) (Or.inl ?_)) (by decide))
    all_goals (first | exact Int.le_refl _ | (show g ≤ fI s 2066437804; omega) | (show fI s 2066437804 - 1 ≤ _; omega) | (show fI s 2066437804 - 1 ≤ fI s 2066437804; omega))
  have zz : Z + 0 + 1 ≤ Z + 24 * (482 - t) + 10 := by omega
  have RC : Reach s ((uI (vI' (vI' s 38 g t) 37 g (fI s 2234209964)) 1772836524 (pl l t))) := Reach.one (by rw [hg]; omega) (by have := M.2.2.1; omega) (step_of hg ⟨g0, by omega⟩ hgo (by decide) (md_proc24 M ho24 hg g0 (by omega) hz q r qo (by omega)))
  have bd : fI ((uI (vI' (vI' s 38 g t) 37 g (fI s 2234209964)) 1772836524 (pl l t))) 1772836524 = pl l (t) := by simp (config := {implicitDefEqProofs := false}) only [fI_uI, fI_uJ, fI_vI, fI_vJ, fJ_uI, fJ_uJ, fJ_vI, fJ_vJ, aI_uI, aI_uJ, aI_vI, aI_vJ, aJ_uI, aJ_uJ, aJ_vI, aJ_vJ, bnd_v, bnd_x, pu_s, pu_n, b01_T, b01_F, Int.reduceEq, Int.reduceLT, Int.reduceLE, Int.reduceNe, Nat.reduceEqDiff, Nat.reduceLeDiff, and_false, false_and, and_true, true_and, or_false, false_or, or_true, true_or, if_true, if_false, not_true_eq_false, not_false_eq_true, eq_self, ne_eq, reduceCtorEq, false_implies, true_implies, implies_true, fI_pushS, aI_pushS, aJ_pushS, fI_gmodeS, aI_gmodeS, aJ_gmodeS, fI_modeS, aI_modeS, aJ_modeS, fI_giveS, aI_giveS]
  have fw := frw M a1
  clear a1
  generalize hss : ((uI (vI' (vI' s 38 g t) 37 g (fI s 2234209964)) 1772836524 (pl l t))) = sS at RC bd fw
  clear hss
  obtain ⟨e, h1, w1, w2, w3⟩ := f_openN (d + 91) Y (rm.le (by omega)) qo
  have w2' : hc h1 e = 44 := w2.1
  refine bf_now (k := t) J (by omega) (Ev.rf (W := (· = p)) J.i) ?_ w2 w3 zz RC bd fw
  simp (config := {implicitDefEqProofs := false}) only [e_X11_declarer, c_X11_declarer_0, c_X11_declarer_6, e_X11_declarer_2, c_X11_declarer_2_0, c_X11_declarer_2_4, c_X11_declarer_2_13, c_X11_declarer_2_19, c_X11_declarer_2_27, c_X11_declarer_2_30, c_X11_declarer_2_34, c_X11_declarer_2_35, c_X11_declarer_2_44, c_X11_declarer_2_79, c_X11_declarer_2_83, c_X11_declarer_2_90, c_X11_declarer_2_93, c_X11_declarer_2_98, c_X11_declarer_2_99, c_X11_declarer_2_105, c_X11_declarer_2_108, c_X11_declarer_2_116, c_X11_declarer_2_117, c_X11_declarer_2_123, c_X11_declarer_2_126, c_X11_declarer_2_134, c_X11_declarer_2_135, c_X11_declarer_2_141, c_X11_declarer_2_144, c_X11_declarer_2_152, c_X11_declarer_2_153, c_X11_declarer_2_159, c_X11_declarer_2_162, c_X11_declarer_2_166, c_X11_declarer_2_180, c_X11_declarer_2_183, c_X11_declarer_2_184, c_X11_declarer_2_192, c_X11_declarer_2_193, c_X11_declarer_2_199, c_X11_declarer_2_202, c_X11_declarer_2_206, c_X11_declarer_2_226, c_X11_declarer_2_229, c_X11_declarer_2_235, c_X11_declarer_2_238, c_X11_declarer_2_244, c_X11_declarer_2_247, c_X11_declarer_2_251, c_X11_declarer_2_252, c_X11_declarer_2_258, c_X11_declarer_2_261, c_X11_declarer_2_265, c_X11_declarer_2_266, c_X11_declarer_2_272, c_X11_declarer_2_275, c_X11_declarer_2_279, c_X11_declarer_2_280, c_X11_declarer_2_299, c_X11_declarer_2_307, c_X11_declarer_2_322, c_X11_declarer_2_325, e_X11_procedure, c_X11_procedure_0, c_X11_procedure_4, c_X11_procedure_22, c_X11_procedure_30, c_X11_procedure_33, c_X11_procedure_38, c_X11_procedure_44, c_X11_procedure_51, bnd_v, bnd_x, pu_s, pu_n, b01_T, b01_F, Int.reduceEq, Int.reduceLT, Int.reduceLE, Int.reduceNe, Nat.reduceEqDiff, Nat.reduceLeDiff, and_false, false_and, and_true, true_and, or_false, false_or, or_true, true_or, if_true, if_false, not_true_eq_false, not_false_eq_true, eq_self, ne_eq, reduceCtorEq, false_implies, true_implies, implies_true, inT, inA, rmO, rmA, rI_pI, rI_pJ, rI_pR, rI_qI, rI_qJ, rI_qR, rJ_pI, rJ_pJ, rJ_pR, rJ_qI, rJ_qJ, rJ_qR, rR_pI, rR_pJ, rR_pR, rR_qI, rR_qJ, rR_qR, sI_pI, sI_pJ, sI_pR, sI_qI, sI_qJ, sI_qR, sJ_pI, sJ_pJ, sJ_pR, sJ_qI, sJ_qJ, sJ_qR, sR_pI, sR_pJ, sR_pR, sR_qI, sR_qJ, sR_qR, hc_pI, hc_pJ, hc_pR, hc_qI, hc_qJ, hc_qR, hl_pI, hl_pJ, hl_pR, hl_qI, hl_qJ, hl_qR, hk_pI, hk_pJ, hk_pR, hk_qI, hk_qJ, hk_qR, hs_pI, hs_pJ, hs_pR, hs_qI, hs_qJ, hs_qR, hn_pI, hn_pJ, hn_pR, hn_qI, hn_qJ, hn_qR, hc_nO', hc_nA', hl_nO, hl_nA', hn_nO, hn_nA, hk_nO, hk_nA, hs_nO, hs_nA, rI_nO, rI_nA, rJ_nO, rJ_nA, rR_nO, rR_nA, Nat.le_refl, Y.1, fpl _ Y, fgt Y, fk0 _ Y, xk2 Y, xk3 Y, xk4 Y, im_op _ Y, tm_op _ Y, im_cp _ Y, tm_cp _ Y, im_ob _ Y, tm_ob _ Y, im_cb _ Y, tm_cb _ Y, im_co _ Y, tm_co _ Y, im_se _ Y, tm_se _ Y, im_cl _ Y, tm_cl _ Y, im_be _ Y, tm_be _ Y, iw_INT _ Y, tw_INT _ Y, iw_LONG _ Y, tw_LONG _ Y, iw_BOOL _ Y, tw_BOOL _ Y, iw_VOID _ Y, tw_VOID _ Y, iw_REF _ Y, tw_REF _ Y, iw_PROC _ Y, tw_PROC _ Y, iw_STRUCT _ Y, tw_STRUCT _ Y, iw_UNION _ Y, tw_UNION _ Y, q, r, x1, x2, w1, w2', w32_1 lt6, w32_1 lt7]
theorem dc_row24 (d : Nat) (J : JD h s p lx l t o PR P X O Z0 Z) (hX : ∀ j, X j → j < t) (z1 : Z + 24 * (482 - t) ≤ 80000) (z2 : Z - Z0 + 24 * (482 - t) ≤ 11800) (Pre : DPre s o g mv) (q : kd l t = 5) (r : sI l t = 91) (qo : o = 24) : BF (F (d + 100) 104145474 [vR p, vI (xmv mv)] h) h s p l Z0 (Z + 24 * (482 - t) + 10) := by
  obtain ⟨hg, g0, g1, hgo, hz, hga, hmv⟩ := Pre
  have M := J.m
  have Y := J.x
  have hlt : t < l.length := M.1.a
  have hl2 := M.1.1.2.1
  have hxt : t < xc l := M.1.2.2
  have ho24 : o ≤ 24 := Y.2.2.2.2.2.1
  have rm := J.room (by omega) (by omega)
  have z0 := J.2.2.2.2.2.2.2.2.2.1
  have xll : xc l ≤ l.length := M.1.1.x
  have hp := J.hp
  have lt6 : t < 1000000 := by omega
  have lt7 : t + 1 < 1000000 := by omega
  have rm1 := rm.le (u' := 10) (by omega)
  have x1 : hk h < cLim := by unfold Room at rm1; omega
  have x2 : hs h + 8 ≤ sLim := by unfold Room at rm1; omega
  have a1 : Fr (Lq s g) (-1) s ((uI (vI' (vI' s 38 g t) 37 g (fI s 2234209964)) 1772836524 (pl l t))) := by
    refine (Fr.uI (Fr.vI (Fr.vI Fr.rf (by decide) (Or.inl ?_)) (by decide) (Or.inl ?_)) (by decide))
    all_goals (first | exact Int.le_refl _ | (show g ≤ fI s 2066437804; omega) | (show fI s 2066437804 - 1 ≤ _; omega) | (show fI s 2066437804 - 1 ≤ fI s 2066437804; omega))
  have zz : Z + 0 + 1 ≤ Z + 24 * (482 - t) + 10 := by omega
  have RC : Reach s ((uI (vI' (vI' s 38 g t) 37 g (fI s 2234209964)) 1772836524 (pl l t))) := Reach.one (by rw [hg]; omega) (by have := M.2.2.1; omega) (step_of hg ⟨g0, by omega⟩ hgo (by decide) (md_row24 M ho24 hg g0 (by omega) hz q r (Or.inl ⟨q, r⟩) qo (J.pl0 hxt)))
  have bd : fI ((uI (vI' (vI' s 38 g t) 37 g (fI s 2234209964)) 1772836524 (pl l t))) 1772836524 = pl l (t) := by simp (config := {implicitDefEqProofs := false}) only [fI_uI, fI_uJ, fI_vI, fI_vJ, fJ_uI, fJ_uJ, fJ_vI, fJ_vJ, aI_uI, aI_uJ, aI_vI, aI_vJ, aJ_uI, aJ_uJ, aJ_vI, aJ_vJ, bnd_v, bnd_x, pu_s, pu_n, b01_T, b01_F, Int.reduceEq, Int.reduceLT, Int.reduceLE, Int.reduceNe, Nat.reduceEqDiff, Nat.reduceLeDiff, and_false, false_and, and_true, true_and, or_false, false_or, or_true, true_or, if_true, if_false, not_true_eq_false, not_false_eq_true, eq_self, ne_eq, reduceCtorEq, false_implies, true_implies, implies_true, fI_pushS, aI_pushS, aJ_pushS, fI_gmodeS, aI_gmodeS, aJ_gmodeS, fI_modeS, aI_modeS, aJ_modeS, fI_giveS, aI_giveS]
  have fw := frw M a1
  clear a1
  generalize hss : ((uI (vI' (vI' s 38 g t) 37 g (fI s 2234209964)) 1772836524 (pl l t))) = sS at RC bd fw
  clear hss
  obtain ⟨e, h1, w1, w2, w3⟩ := f_openN (d + 91) Y (rm.le (by omega)) qo
  have w2' : hc h1 e = 44 := w2.1
  refine bf_now (k := t) J (by omega) (Ev.rf (W := (· = p)) J.i) ?_ w2 w3 zz RC bd fw
  simp (config := {implicitDefEqProofs := false}) only [e_X11_declarer, c_X11_declarer_0, c_X11_declarer_6, e_X11_declarer_2, c_X11_declarer_2_0, c_X11_declarer_2_4, c_X11_declarer_2_13, c_X11_declarer_2_19, c_X11_declarer_2_27, c_X11_declarer_2_30, c_X11_declarer_2_34, c_X11_declarer_2_35, c_X11_declarer_2_44, c_X11_declarer_2_79, c_X11_declarer_2_83, c_X11_declarer_2_90, c_X11_declarer_2_93, c_X11_declarer_2_98, c_X11_declarer_2_99, c_X11_declarer_2_105, c_X11_declarer_2_108, c_X11_declarer_2_116, c_X11_declarer_2_117, c_X11_declarer_2_123, c_X11_declarer_2_126, c_X11_declarer_2_134, c_X11_declarer_2_135, c_X11_declarer_2_141, c_X11_declarer_2_144, c_X11_declarer_2_152, c_X11_declarer_2_153, c_X11_declarer_2_159, c_X11_declarer_2_162, c_X11_declarer_2_166, c_X11_declarer_2_180, c_X11_declarer_2_183, c_X11_declarer_2_184, c_X11_declarer_2_192, c_X11_declarer_2_193, c_X11_declarer_2_199, c_X11_declarer_2_202, c_X11_declarer_2_206, c_X11_declarer_2_226, c_X11_declarer_2_229, c_X11_declarer_2_235, c_X11_declarer_2_238, c_X11_declarer_2_244, c_X11_declarer_2_247, c_X11_declarer_2_251, c_X11_declarer_2_252, c_X11_declarer_2_258, c_X11_declarer_2_261, c_X11_declarer_2_265, c_X11_declarer_2_266, c_X11_declarer_2_272, c_X11_declarer_2_275, c_X11_declarer_2_279, c_X11_declarer_2_280, c_X11_declarer_2_299, c_X11_declarer_2_307, c_X11_declarer_2_322, c_X11_declarer_2_325, e_X11_row, c_X11_row_0, c_X11_row_4, c_X11_row_22, c_X11_row_29, c_X11_row_32, c_X11_row_36, c_X11_row_44, c_X11_row_48, c_X11_row_49, c_X11_row_56, c_X11_row_59, c_X11_row_63, c_X11_row_64, c_X11_row_68, c_X11_row_72, c_X11_row_93, c_X11_row_96, c_X11_row_102, bnd_v, bnd_x, pu_s, pu_n, b01_T, b01_F, Int.reduceEq, Int.reduceLT, Int.reduceLE, Int.reduceNe, Nat.reduceEqDiff, Nat.reduceLeDiff, and_false, false_and, and_true, true_and, or_false, false_or, or_true, true_or, if_true, if_false, not_true_eq_false, not_false_eq_true, eq_self, ne_eq, reduceCtorEq, false_implies, true_implies, implies_true, inT, inA, rmO, rmA, rI_pI, rI_pJ, rI_pR, rI_qI, rI_qJ, rI_qR, rJ_pI, rJ_pJ, rJ_pR, rJ_qI, rJ_qJ, rJ_qR, rR_pI, rR_pJ, rR_pR, rR_qI, rR_qJ, rR_qR, sI_pI, sI_pJ, sI_pR, sI_qI, sI_qJ, sI_qR, sJ_pI, sJ_pJ, sJ_pR, sJ_qI, sJ_qJ, sJ_qR, sR_pI, sR_pJ, sR_pR, sR_qI, sR_qJ, sR_qR, hc_pI, hc_pJ, hc_pR, hc_qI, hc_qJ, hc_qR, hl_pI, hl_pJ, hl_pR, hl_qI, hl_qJ, hl_qR, hk_pI, hk_pJ, hk_pR, hk_qI, hk_qJ, hk_qR, hs_pI, hs_pJ, hs_pR, hs_qI, hs_qJ, hs_qR, hn_pI, hn_pJ, hn_pR, hn_qI, hn_qJ, hn_qR, hc_nO', hc_nA', hl_nO, hl_nA', hn_nO, hn_nA, hk_nO, hk_nA, hs_nO, hs_nA, rI_nO, rI_nA, rJ_nO, rJ_nA, rR_nO, rR_nA, Nat.le_refl, Y.1, fpl _ Y, fgt Y, fk0 _ Y, xk2 Y, xk3 Y, xk4 Y, im_op _ Y, tm_op _ Y, im_cp _ Y, tm_cp _ Y, im_ob _ Y, tm_ob _ Y, im_cb _ Y, tm_cb _ Y, im_co _ Y, tm_co _ Y, im_se _ Y, tm_se _ Y, im_cl _ Y, tm_cl _ Y, im_be _ Y, tm_be _ Y, iw_INT _ Y, tw_INT _ Y, iw_LONG _ Y, tw_LONG _ Y, iw_BOOL _ Y, tw_BOOL _ Y, iw_VOID _ Y, tw_VOID _ Y, iw_REF _ Y, tw_REF _ Y, iw_PROC _ Y, tw_PROC _ Y, iw_STRUCT _ Y, tw_STRUCT _ Y, iw_UNION _ Y, tw_UNION _ Y, q, r, x1, x2, w1, w2', w32_1 lt6, w32_1 lt7]
theorem dc_rowF (d : Nat) (J : JD h s p lx l t o PR P X O Z0 Z) (hX : ∀ j, X j → j < t) (z1 : Z + 24 * (482 - t) ≤ 80000) (z2 : Z - Z0 + 24 * (482 - t) ≤ 11800) (Pre : DPre s o g mv) (q : kd l t = 5) (r : sI l t = 91) (q' : ¬ (kd l (t + 1) = 5 ∧ sI l (t + 1) = 93)) (qo : o < 24) (hl1 : t + 1 < xc l) : BF (F (d + 100) 104145474 [vR p, vI (xmv mv)] h) h s p l Z0 (Z + 24 * (482 - t) + 10) := by
  obtain ⟨hg, g0, g1, hgo, hz, hga, hmv⟩ := Pre
  have M := J.m
  have Y := J.x
  have hlt : t < l.length := M.1.a
  have hl2 := M.1.1.2.1
  have hxt : t < xc l := M.1.2.2
  have ho24 : o ≤ 24 := Y.2.2.2.2.2.1
  have rm := J.room (by omega) (by omega)
  have z0 := J.2.2.2.2.2.2.2.2.2.1
  have xll : xc l ≤ l.length := M.1.1.x
  have hp := J.hp
  have lt6 : t < 1000000 := by omega
  have lt7 : t + 1 < 1000000 := by omega
  have rm1 := rm.le (u' := 10) (by omega)
  have x1 : hk h < cLim := by unfold Room at rm1; omega
  have x2 : hs h + 8 ≤ sLim := by unfold Room at rm1; omega
  have a1 : Fr (Lq s g) (-1) s ((uI (uI (uI (vI' (vI' s 38 g t) 37 g (fI s 2234209964)) 1781225132 ((o : Int) + 1)) 1764447916 ((t : Int) + 1)) 1772836524 (pl l (t + 1)))) := by
    refine (Fr.uI (Fr.uI (Fr.uI (Fr.vI (Fr.vI Fr.rf (by decide) (Or.inl ?_)) (by decide) (Or.inl ?_)) (by decide)) (by decide)) (by decide))
    all_goals (first | exact Int.le_refl _ | (show g ≤ fI s 2066437804; omega) | (show fI s 2066437804 - 1 ≤ _; omega) | (show fI s 2066437804 - 1 ≤ fI s 2066437804; omega))
  have zz : Z + 0 + 1 ≤ Z + 24 * (482 - t) + 10 := by omega
  have RC : Reach s ((uI (uI (uI (vI' (vI' s 38 g t) 37 g (fI s 2234209964)) 1781225132 ((o : Int) + 1)) 1764447916 ((t : Int) + 1)) 1772836524 (pl l (t + 1)))) := Reach.one (by rw [hg]; omega) (by have := M.2.2.1; omega) (step_of hg ⟨g0, by omega⟩ hgo (by decide) (md_rowF M ho24 hg g0 (by omega) hz q r (Or.inl ⟨q, r⟩) q' qo (by omega) (J.pl0 hxt)))
  have bd : fI ((uI (uI (uI (vI' (vI' s 38 g t) 37 g (fI s 2234209964)) 1781225132 ((o : Int) + 1)) 1764447916 ((t : Int) + 1)) 1772836524 (pl l (t + 1)))) 1772836524 = pl l (t + 1) := by simp (config := {implicitDefEqProofs := false}) only [fI_uI, fI_uJ, fI_vI, fI_vJ, fJ_uI, fJ_uJ, fJ_vI, fJ_vJ, aI_uI, aI_uJ, aI_vI, aI_vJ, aJ_uI, aJ_uJ, aJ_vI, aJ_vJ, bnd_v, bnd_x, pu_s, pu_n, b01_T, b01_F, Int.reduceEq, Int.reduceLT, Int.reduceLE, Int.reduceNe, Nat.reduceEqDiff, Nat.reduceLeDiff, and_false, false_and, and_true, true_and, or_false, false_or, or_true, true_or, if_true, if_false, not_true_eq_false, not_false_eq_true, eq_self, ne_eq, reduceCtorEq, false_implies, true_implies, implies_true, fI_pushS, aI_pushS, aJ_pushS, fI_gmodeS, aI_gmodeS, aJ_gmodeS, fI_modeS, aI_modeS, aJ_modeS, fI_giveS, aI_giveS]
  have fw := frw M a1
  clear a1
  generalize hss : ((uI (uI (uI (vI' (vI' s 38 g t) 37 g (fI s 2234209964)) 1781225132 ((o : Int) + 1)) 1764447916 ((t : Int) + 1)) 1772836524 (pl l (t + 1)))) = sS at RC bd fw
  clear hss
  have XA := ((XM.rf Y J.2.1).so (o1 := o + 1) (by omega)).st (t1 := t + 1) hl1
  obtain ⟨e, h1, w1, w2, w3⟩ := f_wrong (d + 92) XA.2.1 (show Room 1 h from rm.le (by omega))
  have w2' : hc h1 e = 44 := w2.1
  refine bf_now (k := t + 1) J (by omega) XA.1 ?_ w2 w3 zz RC bd fw
  simp (config := {implicitDefEqProofs := false}) only [e_X11_declarer, c_X11_declarer_0, c_X11_declarer_6, e_X11_declarer_2, c_X11_declarer_2_0, c_X11_declarer_2_4, c_X11_declarer_2_13, c_X11_declarer_2_19, c_X11_declarer_2_27, c_X11_declarer_2_30, c_X11_declarer_2_34, c_X11_declarer_2_35, c_X11_declarer_2_44, c_X11_declarer_2_79, c_X11_declarer_2_83, c_X11_declarer_2_90, c_X11_declarer_2_93, c_X11_declarer_2_98, c_X11_declarer_2_99, c_X11_declarer_2_105, c_X11_declarer_2_108, c_X11_declarer_2_116, c_X11_declarer_2_117, c_X11_declarer_2_123, c_X11_declarer_2_126, c_X11_declarer_2_134, c_X11_declarer_2_135, c_X11_declarer_2_141, c_X11_declarer_2_144, c_X11_declarer_2_152, c_X11_declarer_2_153, c_X11_declarer_2_159, c_X11_declarer_2_162, c_X11_declarer_2_166, c_X11_declarer_2_180, c_X11_declarer_2_183, c_X11_declarer_2_184, c_X11_declarer_2_192, c_X11_declarer_2_193, c_X11_declarer_2_199, c_X11_declarer_2_202, c_X11_declarer_2_206, c_X11_declarer_2_226, c_X11_declarer_2_229, c_X11_declarer_2_235, c_X11_declarer_2_238, c_X11_declarer_2_244, c_X11_declarer_2_247, c_X11_declarer_2_251, c_X11_declarer_2_252, c_X11_declarer_2_258, c_X11_declarer_2_261, c_X11_declarer_2_265, c_X11_declarer_2_266, c_X11_declarer_2_272, c_X11_declarer_2_275, c_X11_declarer_2_279, c_X11_declarer_2_280, c_X11_declarer_2_299, c_X11_declarer_2_307, c_X11_declarer_2_322, c_X11_declarer_2_325, e_X11_row, c_X11_row_0, c_X11_row_4, c_X11_row_22, c_X11_row_29, c_X11_row_32, c_X11_row_36, c_X11_row_44, c_X11_row_48, c_X11_row_49, c_X11_row_56, c_X11_row_59, c_X11_row_63, c_X11_row_64, c_X11_row_68, c_X11_row_72, c_X11_row_93, c_X11_row_96, c_X11_row_102, q', f_openY _ Y qo, im_cb _ XA.2.1, XA.2.1.1, bnd_v, bnd_x, pu_s, pu_n, b01_T, b01_F, Int.reduceEq, Int.reduceLT, Int.reduceLE, Int.reduceNe, Nat.reduceEqDiff, Nat.reduceLeDiff, and_false, false_and, and_true, true_and, or_false, false_or, or_true, true_or, if_true, if_false, not_true_eq_false, not_false_eq_true, eq_self, ne_eq, reduceCtorEq, false_implies, true_implies, implies_true, inT, inA, rmO, rmA, rI_pI, rI_pJ, rI_pR, rI_qI, rI_qJ, rI_qR, rJ_pI, rJ_pJ, rJ_pR, rJ_qI, rJ_qJ, rJ_qR, rR_pI, rR_pJ, rR_pR, rR_qI, rR_qJ, rR_qR, sI_pI, sI_pJ, sI_pR, sI_qI, sI_qJ, sI_qR, sJ_pI, sJ_pJ, sJ_pR, sJ_qI, sJ_qJ, sJ_qR, sR_pI, sR_pJ, sR_pR, sR_qI, sR_qJ, sR_qR, hc_pI, hc_pJ, hc_pR, hc_qI, hc_qJ, hc_qR, hl_pI, hl_pJ, hl_pR, hl_qI, hl_qJ, hl_qR, hk_pI, hk_pJ, hk_pR, hk_qI, hk_qJ, hk_qR, hs_pI, hs_pJ, hs_pR, hs_qI, hs_qJ, hs_qR, hn_pI, hn_pJ, hn_pR, hn_qI, hn_qJ, hn_qR, hc_nO', hc_nA', hl_nO, hl_nA', hn_nO, hn_nA, hk_nO, hk_nA, hs_nO, hs_nA, rI_nO, rI_nA, rJ_nO, rJ_nA, rR_nO, rR_nA, Nat.le_refl, Y.1, fpl _ Y, fgt Y, fk0 _ Y, xk2 Y, xk3 Y, xk4 Y, im_op _ Y, tm_op _ Y, im_cp _ Y, tm_cp _ Y, im_ob _ Y, tm_ob _ Y, im_cb _ Y, tm_cb _ Y, im_co _ Y, tm_co _ Y, im_se _ Y, tm_se _ Y, im_cl _ Y, tm_cl _ Y, im_be _ Y, tm_be _ Y, iw_INT _ Y, tw_INT _ Y, iw_LONG _ Y, tw_LONG _ Y, iw_BOOL _ Y, tw_BOOL _ Y, iw_VOID _ Y, tw_VOID _ Y, iw_REF _ Y, tw_REF _ Y, iw_PROC _ Y, tw_PROC _ Y, iw_STRUCT _ Y, tw_STRUCT _ Y, iw_UNION _ Y, tw_UNION _ Y, q, r, x1, x2, w1, w2', w32_1 lt6, w32_1 lt7]
theorem dc_structF1 (d : Nat) (J : JD h s p lx l t o PR P X O Z0 Z) (hX : ∀ j, X j → j < t) (z1 : Z + 24 * (482 - t) ≤ 80000) (z2 : Z - Z0 + 24 * (482 - t) ≤ 11800) (Pre : DPre s o g mv) (q : kd l t = 1) (r : sI l t = 39) (hl1 : t + 1 < xc l) (q' : ¬ (kd l (t + 1) = 5 ∧ sI l (t + 1) = 40)) : BF (F (d + 100) 104145474 [vR p, vI (xmv mv)] h) h s p l Z0 (Z + 24 * (482 - t) + 10) := by
  obtain ⟨hg, g0, g1, hgo, hz, hga, hmv⟩ := Pre
  have M := J.m
  have Y := J.x
  have hlt : t < l.length := M.1.a
  have hl2 := M.1.1.2.1
  have hxt : t < xc l := M.1.2.2
  have ho24 : o ≤ 24 := Y.2.2.2.2.2.1
  have rm := J.room (by omega) (by omega)
  have z0 := J.2.2.2.2.2.2.2.2.2.1
  have xll : xc l ≤ l.length := M.1.1.x
  have hp := J.hp
  have lt6 : t < 1000000 := by omega
  have lt7 : t + 1 < 1000000 := by omega
  have rm1 := rm.le (u' := 10) (by omega)
  have x1 : hk h < cLim := by unfold Room at rm1; omega
  have x2 : hs h + 8 ≤ sLim := by unfold Room at rm1; omega
  have a1 : Fr (Lq s g) (-1) s ((uI (uI (vI' (vI' s 38 g t) 37 g (fI s 2234209964)) 1764447916 ((t : Int) + 1)) 1772836524 (pl l (t + 1)))) := by
    refine (Fr.uI (Fr.uI (Fr.vI (Fr.vI Fr.rf (by decide) (Or.inl ?_)) (by decide) (Or.inl ?_)) (by decide)) (by decide))
    all_goals (first | exact Int.le_refl _ | (show g ≤ fI s 2066437804; omega) | (show fI s 2066437804 - 1 ≤ _; omega) | (show fI s 2066437804 - 1 ≤ fI s 2066437804; omega))
  have zz : Z + 2 + 1 ≤ Z + 24 * (482 - t) + 10 := by omega
  have RC : Reach s ((uI (uI (vI' (vI' s 38 g t) 37 g (fI s 2234209964)) 1764447916 ((t : Int) + 1)) 1772836524 (pl l (t + 1)))) := Reach.one (by rw [hg]; omega) (by have := M.2.2.1; omega) (step_of hg ⟨g0, by omega⟩ hgo (by decide) (md_structF M ho24 hg g0 (by omega) hz q r (by omega) (fun z => q' z.1) (J.pl0 hl1)))
  have bd : fI ((uI (uI (vI' (vI' s 38 g t) 37 g (fI s 2234209964)) 1764447916 ((t : Int) + 1)) 1772836524 (pl l (t + 1)))) 1772836524 = pl l (t + 1) := by simp (config := {implicitDefEqProofs := false}) only [fI_uI, fI_uJ, fI_vI, fI_vJ, fJ_uI, fJ_uJ, fJ_vI, fJ_vJ, aI_uI, aI_uJ, aI_vI, aI_vJ, aJ_uI, aJ_uJ, aJ_vI, aJ_vJ, bnd_v, bnd_x, pu_s, pu_n, b01_T, b01_F, Int.reduceEq, Int.reduceLT, Int.reduceLE, Int.reduceNe, Nat.reduceEqDiff, Nat.reduceLeDiff, and_false, false_and, and_true, true_and, or_false, false_or, or_true, true_or, if_true, if_false, not_true_eq_false, not_false_eq_true, eq_self, ne_eq, reduceCtorEq, false_implies, true_implies, implies_true, fI_pushS, aI_pushS, aJ_pushS, fI_gmodeS, aI_gmodeS, aJ_gmodeS, fI_modeS, aI_modeS, aJ_modeS, fI_giveS, aI_giveS]
  have fw := frw M a1
  clear a1
  generalize hss : ((uI (uI (vI' (vI' s 38 g t) 37 g (fI s 2234209964)) 1764447916 ((t : Int) + 1)) 1772836524 (pl l (t + 1)))) = sS at RC bd fw
  clear hss
  have A1 := (XM.rf Y J.2.1).st (t1 := t + 1) hl1
  have e0 : Ev W0 1 (pI h 1285834896 p ((t + 1 : Nat) : Int)) (nO (pI h 1285834896 p ((t + 1 : Nat) : Int)) 9 8) := (Ev.rf A1.2.1.i).mO (by decide) (by decide)
  obtain ⟨hB, i1, i2, i3, i4, i5, i6, i7, i8, i9⟩ := f_modeInit (d + 93) e0.2.2.1 (Room.ev (u := 1) (u' := 1) (show Room (1 + 1) (pI h 1285834896 p ((t + 1 : Nat) : Int)) from rm.le (by omega)) e0) (if_pos rfl : hc (nO (pI h 1285834896 p ((t + 1 : Nat) : Int)) 9 8) (hn h) = 9) 7
  have E1 : Ev (· = hn h) 2 (pI h 1285834896 p ((t + 1 : Nat) : Int)) hB := (e0.mono (W' := (· = hn h)) (fun _ _ z => z.elim) (Nat.le_refl _)).tr i2 (fun _ _ z => z)
  have EB : Ev (· = p) 2 h hB := A1.1.tr E1 (fun x hx z => by omega)
  have rmB : Room 5 hB := (rm.le (u' := 2 + 5) (by omega)).ev EB
  have XB : PXs hB p lx l (t + 1) o := A1.2.1.ev E1 (fun x z => by omega)
  obtain ⟨e, h1, w1, w2, w3⟩ := f_wrong (d + 92) XB (rmB.le (by omega))
  have w2' : hc h1 e = 44 := w2.1
  refine bf_now (k := t + 1) J (by omega) EB ?_ w2 w3 zz RC bd fw
  simp (config := {implicitDefEqProofs := false}) only [e_X11_declarer, c_X11_declarer_0, c_X11_declarer_6, e_X11_declarer_2, c_X11_declarer_2_0, c_X11_declarer_2_4, c_X11_declarer_2_13, c_X11_declarer_2_19, c_X11_declarer_2_27, c_X11_declarer_2_30, c_X11_declarer_2_34, c_X11_declarer_2_35, c_X11_declarer_2_44, c_X11_declarer_2_79, c_X11_declarer_2_83, c_X11_declarer_2_90, c_X11_declarer_2_93, c_X11_declarer_2_98, c_X11_declarer_2_99, c_X11_declarer_2_105, c_X11_declarer_2_108, c_X11_declarer_2_116, c_X11_declarer_2_117, c_X11_declarer_2_123, c_X11_declarer_2_126, c_X11_declarer_2_134, c_X11_declarer_2_135, c_X11_declarer_2_141, c_X11_declarer_2_144, c_X11_declarer_2_152, c_X11_declarer_2_153, c_X11_declarer_2_159, c_X11_declarer_2_162, c_X11_declarer_2_166, c_X11_declarer_2_180, c_X11_declarer_2_183, c_X11_declarer_2_184, c_X11_declarer_2_192, c_X11_declarer_2_193, c_X11_declarer_2_199, c_X11_declarer_2_202, c_X11_declarer_2_206, c_X11_declarer_2_226, c_X11_declarer_2_229, c_X11_declarer_2_235, c_X11_declarer_2_238, c_X11_declarer_2_244, c_X11_declarer_2_247, c_X11_declarer_2_251, c_X11_declarer_2_252, c_X11_declarer_2_258, c_X11_declarer_2_261, c_X11_declarer_2_265, c_X11_declarer_2_266, c_X11_declarer_2_272, c_X11_declarer_2_275, c_X11_declarer_2_279, c_X11_declarer_2_280, c_X11_declarer_2_299, c_X11_declarer_2_307, c_X11_declarer_2_322, c_X11_declarer_2_325, e_X11_structure, c_X11_structure_0, c_X11_structure_19, c_X11_structure_27, c_X11_structure_30, c_X11_structure_34, c_X11_structure_35, c_X11_structure_39, c_X11_structure_54, c_X11_structure_61, c_X11_structure_68, c_X11_structure_72, c_X11_structure_73, c_X11_structure_82, c_X11_structure_85, c_X11_structure_90, c_X11_structure_98, c_X11_structure_102, c_X11_structure_108, c_X11_structure_119, c_X11_structure_134, c_X11_structure_137, c_X11_structure_138, c_X11_structure_144, c_X11_structure_151, c_X11_structure_154, c_X11_structure_161, c_X11_structure_165, c_X11_structure_173, c_X11_structure_193, q', i1, XB.1, im_op _ XB, bnd_v, bnd_x, pu_s, pu_n, b01_T, b01_F, Int.reduceEq, Int.reduceLT, Int.reduceLE, Int.reduceNe, Nat.reduceEqDiff, Nat.reduceLeDiff, and_false, false_and, and_true, true_and, or_false, false_or, or_true, true_or, if_true, if_false, not_true_eq_false, not_false_eq_true, eq_self, ne_eq, reduceCtorEq, false_implies, true_implies, implies_true, inT, inA, rmO, rmA, rI_pI, rI_pJ, rI_pR, rI_qI, rI_qJ, rI_qR, rJ_pI, rJ_pJ, rJ_pR, rJ_qI, rJ_qJ, rJ_qR, rR_pI, rR_pJ, rR_pR, rR_qI, rR_qJ, rR_qR, sI_pI, sI_pJ, sI_pR, sI_qI, sI_qJ, sI_qR, sJ_pI, sJ_pJ, sJ_pR, sJ_qI, sJ_qJ, sJ_qR, sR_pI, sR_pJ, sR_pR, sR_qI, sR_qJ, sR_qR, hc_pI, hc_pJ, hc_pR, hc_qI, hc_qJ, hc_qR, hl_pI, hl_pJ, hl_pR, hl_qI, hl_qJ, hl_qR, hk_pI, hk_pJ, hk_pR, hk_qI, hk_qJ, hk_qR, hs_pI, hs_pJ, hs_pR, hs_qI, hs_qJ, hs_qR, hn_pI, hn_pJ, hn_pR, hn_qI, hn_qJ, hn_qR, hc_nO', hc_nA', hl_nO, hl_nA', hn_nO, hn_nA, hk_nO, hk_nA, hs_nO, hs_nA, rI_nO, rI_nA, rJ_nO, rJ_nA, rR_nO, rR_nA, Nat.le_refl, Y.1, fpl _ Y, fgt Y, fk0 _ Y, xk2 Y, xk3 Y, xk4 Y, im_op _ Y, tm_op _ Y, im_cp _ Y, tm_cp _ Y, im_ob _ Y, tm_ob _ Y, im_cb _ Y, tm_cb _ Y, im_co _ Y, tm_co _ Y, im_se _ Y, tm_se _ Y, im_cl _ Y, tm_cl _ Y, im_be _ Y, tm_be _ Y, iw_INT _ Y, tw_INT _ Y, iw_LONG _ Y, tw_LONG _ Y, iw_BOOL _ Y, tw_BOOL _ Y, iw_VOID _ Y, tw_VOID _ Y, iw_REF _ Y, tw_REF _ Y, iw_PROC _ Y, tw_PROC _ Y, iw_STRUCT _ Y, tw_STRUCT _ Y, iw_UNION _ Y, tw_UNION _ Y, q, r, x1, x2, w1, w2', w32_1 lt6, w32_1 lt7]
theorem dc_structF2 (d : Nat) (J : JD h s p lx l t o PR P X O Z0 Z) (hX : ∀ j, X j → j < t) (z1 : Z + 24 * (482 - t) ≤ 80000) (z2 : Z - Z0 + 24 * (482 - t) ≤ 11800) (Pre : DPre s o g mv) (q : kd l t = 1) (r : sI l t = 39) (hl1 : t + 1 < xc l) (q' : kd l (t + 1) = 5) (r' : sI l (t + 1) = 40) (qo : o = 24) : BF (F (d + 100) 104145474 [vR p, vI (xmv mv)] h) h s p l Z0 (Z + 24 * (482 - t) + 10) := by
  obtain ⟨hg, g0, g1, hgo, hz, hga, hmv⟩ := Pre
  have M := J.m
  have Y := J.x
  have hlt : t < l.length := M.1.a
  have hl2 := M.1.1.2.1
  have hxt : t < xc l := M.1.2.2
  have ho24 : o ≤ 24 := Y.2.2.2.2.2.1
  have rm := J.room (by omega) (by omega)
  have z0 := J.2.2.2.2.2.2.2.2.2.1
  have xll : xc l ≤ l.length := M.1.1.x
  have hp := J.hp
  have lt6 : t < 1000000 := by omega
  have lt7 : t + 1 < 1000000 := by omega
  have rm1 := rm.le (u' := 10) (by omega)
  have x1 : hk h < cLim := by unfold Room at rm1; omega
  have x2 : hs h + 8 ≤ sLim := by unfold Room at rm1; omega
  have a1 : Fr (Lq s g) (-1) s ((uI (uI (vI' (vI' s 38 g t) 37 g (fI s 2234209964)) 1764447916 ((t : Int) + 1)) 1772836524 (pl l (t + 1)))) := by
    refine (Fr.uI (Fr.uI (Fr.vI (Fr.vI Fr.rf (by decide) (Or.inl ?_)) (by decide) (Or.inl ?_)) (by decide)) (by decide))
    all_goals (first | exact Int.le_refl _ | (show g ≤ fI s 2066437804; omega) | (show fI s 2066437804 - 1 ≤ _; omega) | (show fI s 2066437804 - 1 ≤ fI s 2066437804; omega))
  have zz : Z + 2 + 1 ≤ Z + 24 * (482 - t) + 10 := by omega
  have RC : Reach s ((uI (uI (vI' (vI' s 38 g t) 37 g (fI s 2234209964)) 1764447916 ((t : Int) + 1)) 1772836524 (pl l (t + 1)))) := Reach.one (by rw [hg]; omega) (by have := M.2.2.1; omega) (step_of hg ⟨g0, by omega⟩ hgo (by decide) (md_structF M ho24 hg g0 (by omega) hz q r (by omega) (fun z => by omega) (J.pl0 hl1)))
  have bd : fI ((uI (uI (vI' (vI' s 38 g t) 37 g (fI s 2234209964)) 1764447916 ((t : Int) + 1)) 1772836524 (pl l (t + 1)))) 1772836524 = pl l (t + 1) := by simp (config := {implicitDefEqProofs := false}) only [fI_uI, fI_uJ, fI_vI, fI_vJ, fJ_uI, fJ_uJ, fJ_vI, fJ_vJ, aI_uI, aI_uJ, aI_vI, aI_vJ, aJ_uI, aJ_uJ, aJ_vI, aJ_vJ, bnd_v, bnd_x, pu_s, pu_n, b01_T, b01_F, Int.reduceEq, Int.reduceLT, Int.reduceLE, Int.reduceNe, Nat.reduceEqDiff, Nat.reduceLeDiff, and_false, false_and, and_true, true_and, or_false, false_or, or_true, true_or, if_true, if_false, not_true_eq_false, not_false_eq_true, eq_self, ne_eq, reduceCtorEq, false_implies, true_implies, implies_true, fI_pushS, aI_pushS, aJ_pushS, fI_gmodeS, aI_gmodeS, aJ_gmodeS, fI_modeS, aI_modeS, aJ_modeS, fI_giveS, aI_giveS]
  have fw := frw M a1
  clear a1
  generalize hss : ((uI (uI (vI' (vI' s 38 g t) 37 g (fI s 2234209964)) 1764447916 ((t : Int) + 1)) 1772836524 (pl l (t + 1)))) = sS at RC bd fw
  clear hss
  have A1 := (XM.rf Y J.2.1).st (t1 := t + 1) hl1
  have e0 : Ev W0 1 (pI h 1285834896 p ((t + 1 : Nat) : Int)) (nO (pI h 1285834896 p ((t + 1 : Nat) : Int)) 9 8) := (Ev.rf A1.2.1.i).mO (by decide) (by decide)
  obtain ⟨hB, i1, i2, i3, i4, i5, i6, i7, i8, i9⟩ := f_modeInit (d + 93) e0.2.2.1 (Room.ev (u := 1) (u' := 1) (show Room (1 + 1) (pI h 1285834896 p ((t + 1 : Nat) : Int)) from rm.le (by omega)) e0) (if_pos rfl : hc (nO (pI h 1285834896 p ((t + 1 : Nat) : Int)) 9 8) (hn h) = 9) 7
  have E1 : Ev (· = hn h) 2 (pI h 1285834896 p ((t + 1 : Nat) : Int)) hB := (e0.mono (W' := (· = hn h)) (fun _ _ z => z.elim) (Nat.le_refl _)).tr i2 (fun _ _ z => z)
  have EB : Ev (· = p) 2 h hB := A1.1.tr E1 (fun x hx z => by omega)
  have rmB : Room 5 hB := (rm.le (u' := 2 + 5) (by omega)).ev EB
  have XB : PXs hB p lx l (t + 1) o := A1.2.1.ev E1 (fun x z => by omega)
  obtain ⟨e, h1, w1, w2, w3⟩ := f_openN (d + 91) XB (rmB.le (by omega)) qo
  have w2' : hc h1 e = 44 := w2.1
  refine bf_now (k := t + 1) J (by omega) EB ?_ w2 w3 zz RC bd fw
  simp (config := {implicitDefEqProofs := false}) only [e_X11_declarer, c_X11_declarer_0, c_X11_declarer_6, e_X11_declarer_2, c_X11_declarer_2_0, c_X11_declarer_2_4, c_X11_declarer_2_13, c_X11_declarer_2_19, c_X11_declarer_2_27, c_X11_declarer_2_30, c_X11_declarer_2_34, c_X11_declarer_2_35, c_X11_declarer_2_44, c_X11_declarer_2_79, c_X11_declarer_2_83, c_X11_declarer_2_90, c_X11_declarer_2_93, c_X11_declarer_2_98, c_X11_declarer_2_99, c_X11_declarer_2_105, c_X11_declarer_2_108, c_X11_declarer_2_116, c_X11_declarer_2_117, c_X11_declarer_2_123, c_X11_declarer_2_126, c_X11_declarer_2_134, c_X11_declarer_2_135, c_X11_declarer_2_141, c_X11_declarer_2_144, c_X11_declarer_2_152, c_X11_declarer_2_153, c_X11_declarer_2_159, c_X11_declarer_2_162, c_X11_declarer_2_166, c_X11_declarer_2_180, c_X11_declarer_2_183, c_X11_declarer_2_184, c_X11_declarer_2_192, c_X11_declarer_2_193, c_X11_declarer_2_199, c_X11_declarer_2_202, c_X11_declarer_2_206, c_X11_declarer_2_226, c_X11_declarer_2_229, c_X11_declarer_2_235, c_X11_declarer_2_238, c_X11_declarer_2_244, c_X11_declarer_2_247, c_X11_declarer_2_251, c_X11_declarer_2_252, c_X11_declarer_2_258, c_X11_declarer_2_261, c_X11_declarer_2_265, c_X11_declarer_2_266, c_X11_declarer_2_272, c_X11_declarer_2_275, c_X11_declarer_2_279, c_X11_declarer_2_280, c_X11_declarer_2_299, c_X11_declarer_2_307, c_X11_declarer_2_322, c_X11_declarer_2_325, e_X11_structure, c_X11_structure_0, c_X11_structure_19, c_X11_structure_27, c_X11_structure_30, c_X11_structure_34, c_X11_structure_35, c_X11_structure_39, c_X11_structure_54, c_X11_structure_61, c_X11_structure_68, c_X11_structure_72, c_X11_structure_73, c_X11_structure_82, c_X11_structure_85, c_X11_structure_90, c_X11_structure_98, c_X11_structure_102, c_X11_structure_108, c_X11_structure_119, c_X11_structure_134, c_X11_structure_137, c_X11_structure_138, c_X11_structure_144, c_X11_structure_151, c_X11_structure_154, c_X11_structure_161, c_X11_structure_165, c_X11_structure_173, c_X11_structure_193, q', r', i1, XB.1, im_op _ XB, bnd_v, bnd_x, pu_s, pu_n, b01_T, b01_F, Int.reduceEq, Int.reduceLT, Int.reduceLE, Int.reduceNe, Nat.reduceEqDiff, Nat.reduceLeDiff, and_false, false_and, and_true, true_and, or_false, false_or, or_true, true_or, if_true, if_false, not_true_eq_false, not_false_eq_true, eq_self, ne_eq, reduceCtorEq, false_implies, true_implies, implies_true, inT, inA, rmO, rmA, rI_pI, rI_pJ, rI_pR, rI_qI, rI_qJ, rI_qR, rJ_pI, rJ_pJ, rJ_pR, rJ_qI, rJ_qJ, rJ_qR, rR_pI, rR_pJ, rR_pR, rR_qI, rR_qJ, rR_qR, sI_pI, sI_pJ, sI_pR, sI_qI, sI_qJ, sI_qR, sJ_pI, sJ_pJ, sJ_pR, sJ_qI, sJ_qJ, sJ_qR, sR_pI, sR_pJ, sR_pR, sR_qI, sR_qJ, sR_qR, hc_pI, hc_pJ, hc_pR, hc_qI, hc_qJ, hc_qR, hl_pI, hl_pJ, hl_pR, hl_qI, hl_qJ, hl_qR, hk_pI, hk_pJ, hk_pR, hk_qI, hk_qJ, hk_qR, hs_pI, hs_pJ, hs_pR, hs_qI, hs_qJ, hs_qR, hn_pI, hn_pJ, hn_pR, hn_qI, hn_qJ, hn_qR, hc_nO', hc_nA', hl_nO, hl_nA', hn_nO, hn_nA, hk_nO, hk_nA, hs_nO, hs_nA, rI_nO, rI_nA, rJ_nO, rJ_nA, rR_nO, rR_nA, Nat.le_refl, Y.1, fpl _ Y, fgt Y, fk0 _ Y, xk2 Y, xk3 Y, xk4 Y, im_op _ Y, tm_op _ Y, im_cp _ Y, tm_cp _ Y, im_ob _ Y, tm_ob _ Y, im_cb _ Y, tm_cb _ Y, im_co _ Y, tm_co _ Y, im_se _ Y, tm_se _ Y, im_cl _ Y, tm_cl _ Y, im_be _ Y, tm_be _ Y, iw_INT _ Y, tw_INT _ Y, iw_LONG _ Y, tw_LONG _ Y, iw_BOOL _ Y, tw_BOOL _ Y, iw_VOID _ Y, tw_VOID _ Y, iw_REF _ Y, tw_REF _ Y, iw_PROC _ Y, tw_PROC _ Y, iw_STRUCT _ Y, tw_STRUCT _ Y, iw_UNION _ Y, tw_UNION _ Y, q, r, x1, x2, w1, w2', w32_1 lt6, w32_1 lt7]
theorem dc_unionF1 (d : Nat) (J : JD h s p lx l t o PR P X O Z0 Z) (hX : ∀ j, X j → j < t) (z1 : Z + 24 * (482 - t) ≤ 80000) (z2 : Z - Z0 + 24 * (482 - t) ≤ 11800) (Pre : DPre s o g mv) (q : kd l t = 1) (r : sI l t = 40) (hl1 : t + 1 < xc l) (q' : ¬ (kd l (t + 1) = 5 ∧ sI l (t + 1) = 40)) : BF (F (d + 100) 104145474 [vR p, vI (xmv mv)] h) h s p l Z0 (Z + 24 * (482 - t) + 10) := by
  obtain ⟨hg, g0, g1, hgo, hz, hga, hmv⟩ := Pre
  have M := J.m
  have Y := J.x
  have hlt : t < l.length := M.1.a
  have hl2 := M.1.1.2.1
  have hxt : t < xc l := M.1.2.2
  have ho24 : o ≤ 24 := Y.2.2.2.2.2.1
  have rm := J.room (by omega) (by omega)
  have z0 := J.2.2.2.2.2.2.2.2.2.1
  have xll : xc l ≤ l.length := M.1.1.x
  have hp := J.hp
  have lt6 : t < 1000000 := by omega
  have lt7 : t + 1 < 1000000 := by omega
  have rm1 := rm.le (u' := 10) (by omega)
  have x1 : hk h < cLim := by unfold Room at rm1; omega
  have x2 : hs h + 8 ≤ sLim := by unfold Room at rm1; omega
  have a1 : Fr (Lq s g) (-1) s ((uI (uI (vI' (vI' s 38 g t) 37 g (fI s 2234209964)) 1764447916 ((t : Int) + 1)) 1772836524 (pl l (t + 1)))) := by
    refine (Fr.uI (Fr.uI (Fr.vI (Fr.vI Fr.rf (by decide) (Or.inl ?_)) (by decide) (Or.inl ?_)) (by decide)) (by decide))
    all_goals (first | exact Int.le_refl _ | (show g ≤ fI s 2066437804; omega) | (show fI s 2066437804 - 1 ≤ _; omega) | (show fI s 2066437804 - 1 ≤ fI s 2066437804; omega))
  have zz : Z + 2 + 1 ≤ Z + 24 * (482 - t) + 10 := by omega
  have RC : Reach s ((uI (uI (vI' (vI' s 38 g t) 37 g (fI s 2234209964)) 1764447916 ((t : Int) + 1)) 1772836524 (pl l (t + 1)))) := Reach.one (by rw [hg]; omega) (by have := M.2.2.1; omega) (step_of hg ⟨g0, by omega⟩ hgo (by decide) (md_unionF M ho24 hg g0 (by omega) hz q r (by omega) (fun z => q' z.1) (J.pl0 hl1)))
  have bd : fI ((uI (uI (vI' (vI' s 38 g t) 37 g (fI s 2234209964)) 1764447916 ((t : Int) + 1)) 1772836524 (pl l (t + 1)))) 1772836524 = pl l (t + 1) := by simp (config := {implicitDefEqProofs := false}) only [fI_uI, fI_uJ, fI_vI, fI_vJ, fJ_uI, fJ_uJ, fJ_vI, fJ_vJ, aI_uI, aI_uJ, aI_vI, aI_vJ, aJ_uI, aJ_uJ, aJ_vI, aJ_vJ, bnd_v, bnd_x, pu_s, pu_n, b01_T, b01_F, Int.reduceEq, Int.reduceLT, Int.reduceLE, Int.reduceNe, Nat.reduceEqDiff, Nat.reduceLeDiff, and_false, false_and, and_true, true_and, or_false, false_or, or_true, true_or, if_true, if_false, not_true_eq_false, not_false_eq_true, eq_self, ne_eq, reduceCtorEq, false_implies, true_implies, implies_true, fI_pushS, aI_pushS, aJ_pushS, fI_gmodeS, aI_gmodeS, aJ_gmodeS, fI_modeS, aI_modeS, aJ_modeS, fI_giveS, aI_giveS]
  have fw := frw M a1
  clear a1
  generalize hss : ((uI (uI (vI' (vI' s 38 g t) 37 g (fI s 2234209964)) 1764447916 ((t : Int) + 1)) 1772836524 (pl l (t + 1)))) = sS at RC bd fw
  clear hss
  have A1 := (XM.rf Y J.2.1).st (t1 := t + 1) hl1
  have e0 : Ev W0 1 (pI h 1285834896 p ((t + 1 : Nat) : Int)) (nO (pI h 1285834896 p ((t + 1 : Nat) : Int)) 9 8) := (Ev.rf A1.2.1.i).mO (by decide) (by decide)
  obtain ⟨hB, i1, i2, i3, i4, i5, i6, i7, i8, i9⟩ := f_modeInit (d + 94) e0.2.2.1 (Room.ev (u := 1) (u' := 1) (show Room (1 + 1) (pI h 1285834896 p ((t + 1 : Nat) : Int)) from rm.le (by omega)) e0) (if_pos rfl : hc (nO (pI h 1285834896 p ((t + 1 : Nat) : Int)) 9 8) (hn h) = 9) 8
  have E1 : Ev (· = hn h) 2 (pI h 1285834896 p ((t + 1 : Nat) : Int)) hB := (e0.mono (W' := (· = hn h)) (fun _ _ z => z.elim) (Nat.le_refl _)).tr i2 (fun _ _ z => z)
  have EB : Ev (· = p) 2 h hB := A1.1.tr E1 (fun x hx z => by omega)
  have rmB : Room 5 hB := (rm.le (u' := 2 + 5) (by omega)).ev EB
  have XB : PXs hB p lx l (t + 1) o := A1.2.1.ev E1 (fun x z => by omega)
  obtain ⟨e, h1, w1, w2, w3⟩ := f_wrong (d + 92) XB (rmB.le (by omega))
  have w2' : hc h1 e = 44 := w2.1
  refine bf_now (k := t + 1) J (by omega) EB ?_ w2 w3 zz RC bd fw
  simp (config := {implicitDefEqProofs := false}) only [e_X11_declarer, c_X11_declarer_0, c_X11_declarer_6, e_X11_declarer_2, c_X11_declarer_2_0, c_X11_declarer_2_4, c_X11_declarer_2_13, c_X11_declarer_2_19, c_X11_declarer_2_27, c_X11_declarer_2_30, c_X11_declarer_2_34, c_X11_declarer_2_35, c_X11_declarer_2_44, c_X11_declarer_2_79, c_X11_declarer_2_83, c_X11_declarer_2_90, c_X11_declarer_2_93, c_X11_declarer_2_98, c_X11_declarer_2_99, c_X11_declarer_2_105, c_X11_declarer_2_108, c_X11_declarer_2_116, c_X11_declarer_2_117, c_X11_declarer_2_123, c_X11_declarer_2_126, c_X11_declarer_2_134, c_X11_declarer_2_135, c_X11_declarer_2_141, c_X11_declarer_2_144, c_X11_declarer_2_152, c_X11_declarer_2_153, c_X11_declarer_2_159, c_X11_declarer_2_162, c_X11_declarer_2_166, c_X11_declarer_2_180, c_X11_declarer_2_183, c_X11_declarer_2_184, c_X11_declarer_2_192, c_X11_declarer_2_193, c_X11_declarer_2_199, c_X11_declarer_2_202, c_X11_declarer_2_206, c_X11_declarer_2_226, c_X11_declarer_2_229, c_X11_declarer_2_235, c_X11_declarer_2_238, c_X11_declarer_2_244, c_X11_declarer_2_247, c_X11_declarer_2_251, c_X11_declarer_2_252, c_X11_declarer_2_258, c_X11_declarer_2_261, c_X11_declarer_2_265, c_X11_declarer_2_266, c_X11_declarer_2_272, c_X11_declarer_2_275, c_X11_declarer_2_279, c_X11_declarer_2_280, c_X11_declarer_2_299, c_X11_declarer_2_307, c_X11_declarer_2_322, c_X11_declarer_2_325, e_X11_declarers, c_X11_declarers_0, c_X11_declarers_7, c_X11_declarers_10, c_X11_declarers_14, c_X11_declarers_15, c_X11_declarers_19, c_X11_declarers_29, c_X11_declarers_36, c_X11_declarers_41, c_X11_declarers_45, c_X11_declarers_46, c_X11_declarers_55, c_X11_declarers_58, c_X11_declarers_66, c_X11_declarers_69, c_X11_declarers_76, c_X11_declarers_80, q', i1, XB.1, im_op _ XB, bnd_v, bnd_x, pu_s, pu_n, b01_T, b01_F, Int.reduceEq, Int.reduceLT, Int.reduceLE, Int.reduceNe, Nat.reduceEqDiff, Nat.reduceLeDiff, and_false, false_and, and_true, true_and, or_false, false_or, or_true, true_or, if_true, if_false, not_true_eq_false, not_false_eq_true, eq_self, ne_eq, reduceCtorEq, false_implies, true_implies, implies_true, inT, inA, rmO, rmA, rI_pI, rI_pJ, rI_pR, rI_qI, rI_qJ, rI_qR, rJ_pI, rJ_pJ, rJ_pR, rJ_qI, rJ_qJ, rJ_qR, rR_pI, rR_pJ, rR_pR, rR_qI, rR_qJ, rR_qR, sI_pI, sI_pJ, sI_pR, sI_qI, sI_qJ, sI_qR, sJ_pI, sJ_pJ, sJ_pR, sJ_qI, sJ_qJ, sJ_qR, sR_pI, sR_pJ, sR_pR, sR_qI, sR_qJ, sR_qR, hc_pI, hc_pJ, hc_pR, hc_qI, hc_qJ, hc_qR, hl_pI, hl_pJ, hl_pR, hl_qI, hl_qJ, hl_qR, hk_pI, hk_pJ, hk_pR, hk_qI, hk_qJ, hk_qR, hs_pI, hs_pJ, hs_pR, hs_qI, hs_qJ, hs_qR, hn_pI, hn_pJ, hn_pR, hn_qI, hn_qJ, hn_qR, hc_nO', hc_nA', hl_nO, hl_nA', hn_nO, hn_nA, hk_nO, hk_nA, hs_nO, hs_nA, rI_nO, rI_nA, rJ_nO, rJ_nA, rR_nO, rR_nA, Nat.le_refl, Y.1, fpl _ Y, fgt Y, fk0 _ Y, xk2 Y, xk3 Y, xk4 Y, im_op _ Y, tm_op _ Y, im_cp _ Y, tm_cp _ Y, im_ob _ Y, tm_ob _ Y, im_cb _ Y, tm_cb _ Y, im_co _ Y, tm_co _ Y, im_se _ Y, tm_se _ Y, im_cl _ Y, tm_cl _ Y, im_be _ Y, tm_be _ Y, iw_INT _ Y, tw_INT _ Y, iw_LONG _ Y, tw_LONG _ Y, iw_BOOL _ Y, tw_BOOL _ Y, iw_VOID _ Y, tw_VOID _ Y, iw_REF _ Y, tw_REF _ Y, iw_PROC _ Y, tw_PROC _ Y, iw_STRUCT _ Y, tw_STRUCT _ Y, iw_UNION _ Y, tw_UNION _ Y, q, r, x1, x2, w1, w2', w32_1 lt6, w32_1 lt7]
theorem dc_unionF2 (d : Nat) (J : JD h s p lx l t o PR P X O Z0 Z) (hX : ∀ j, X j → j < t) (z1 : Z + 24 * (482 - t) ≤ 80000) (z2 : Z - Z0 + 24 * (482 - t) ≤ 11800) (Pre : DPre s o g mv) (q : kd l t = 1) (r : sI l t = 40) (hl1 : t + 1 < xc l) (q' : kd l (t + 1) = 5) (r' : sI l (t + 1) = 40) (qo : o = 24) : BF (F (d + 100) 104145474 [vR p, vI (xmv mv)] h) h s p l Z0 (Z + 24 * (482 - t) + 10) := by
  obtain ⟨hg, g0, g1, hgo, hz, hga, hmv⟩ := Pre
  have M := J.m
  have Y := J.x
  have hlt : t < l.length := M.1.a
  have hl2 := M.1.1.2.1
  have hxt : t < xc l := M.1.2.2
  have ho24 : o ≤ 24 := Y.2.2.2.2.2.1
  have rm := J.room (by omega) (by omega)
  have z0 := J.2.2.2.2.2.2.2.2.2.1
  have xll : xc l ≤ l.length := M.1.1.x
  have hp := J.hp
  have lt6 : t < 1000000 := by omega
  have lt7 : t + 1 < 1000000 := by omega
  have rm1 := rm.le (u' := 10) (by omega)
  have x1 : hk h < cLim := by unfold Room at rm1; omega
  have x2 : hs h + 8 ≤ sLim := by unfold Room at rm1; omega
  have a1 : Fr (Lq s g) (-1) s ((uI (uI (vI' (vI' s 38 g t) 37 g (fI s 2234209964)) 1764447916 ((t : Int) + 1)) 1772836524 (pl l (t + 1)))) := by
    refine (Fr.uI (Fr.uI (Fr.vI (Fr.vI Fr.rf (by decide) (Or.inl ?_)) (by decide) (Or.inl ?_)) (by decide)) (by decide))
    all_goals (first | exact Int.le_refl _ | (show g ≤ fI s 2066437804; omega) | (show fI s 2066437804 - 1 ≤ _; omega) | (show fI s 2066437804 - 1 ≤ fI s 2066437804; omega))
  have zz : Z + 2 + 1 ≤ Z + 24 * (482 - t) + 10 := by omega
  have RC : Reach s ((uI (uI (vI' (vI' s 38 g t) 37 g (fI s 2234209964)) 1764447916 ((t : Int) + 1)) 1772836524 (pl l (t + 1)))) := Reach.one (by rw [hg]; omega) (by have := M.2.2.1; omega) (step_of hg ⟨g0, by omega⟩ hgo (by decide) (md_unionF M ho24 hg g0 (by omega) hz q r (by omega) (fun z => by omega) (J.pl0 hl1)))
  have bd : fI ((uI (uI (vI' (vI' s 38 g t) 37 g (fI s 2234209964)) 1764447916 ((t : Int) + 1)) 1772836524 (pl l (t + 1)))) 1772836524 = pl l (t + 1) := by simp (config := {implicitDefEqProofs := false}) only [fI_uI, fI_uJ, fI_vI, fI_vJ, fJ_uI, fJ_uJ, fJ_vI, fJ_vJ, aI_uI, aI_uJ, aI_vI, aI_vJ, aJ_uI, aJ_uJ, aJ_vI, aJ_vJ, bnd_v, bnd_x, pu_s, pu_n, b01_T, b01_F, Int.reduceEq, Int.reduceLT, Int.reduceLE, Int.reduceNe, Nat.reduceEqDiff, Nat.reduceLeDiff, and_false, false_and, and_true, true_and, or_false, false_or, or_true, true_or, if_true, if_false, not_true_eq_false, not_false_eq_true, eq_self, ne_eq, reduceCtorEq, false_implies, true_implies, implies_true, fI_pushS, aI_pushS, aJ_pushS, fI_gmodeS, aI_gmodeS, aJ_gmodeS, fI_modeS, aI_modeS, aJ_modeS, fI_giveS, aI_giveS]
  have fw := frw M a1
  clear a1
  generalize hss : ((uI (uI (vI' (vI' s 38 g t) 37 g (fI s 2234209964)) 1764447916 ((t : Int) + 1)) 1772836524 (pl l (t + 1)))) = sS at RC bd fw
  clear hss
  have A1 := (XM.rf Y J.2.1).st (t1 := t + 1) hl1
  have e0 : Ev W0 1 (pI h 1285834896 p ((t + 1 : Nat) : Int)) (nO (pI h 1285834896 p ((t + 1 : Nat) : Int)) 9 8) := (Ev.rf A1.2.1.i).mO (by decide) (by decide)
  obtain ⟨hB, i1, i2, i3, i4, i5, i6, i7, i8, i9⟩ := f_modeInit (d + 94) e0.2.2.1 (Room.ev (u := 1) (u' := 1) (show Room (1 + 1) (pI h 1285834896 p ((t + 1 : Nat) : Int)) from rm.le (by omega)) e0) (if_pos rfl : hc (nO (pI h 1285834896 p ((t + 1 : Nat) : Int)) 9 8) (hn h) = 9) 8
  have E1 : Ev (· = hn h) 2 (pI h 1285834896 p ((t + 1 : Nat) : Int)) hB := (e0.mono (W' := (· = hn h)) (fun _ _ z => z.elim) (Nat.le_refl _)).tr i2 (fun _ _ z => z)
  have EB : Ev (· = p) 2 h hB := A1.1.tr E1 (fun x hx z => by omega)
  have rmB : Room 5 hB := (rm.le (u' := 2 + 5) (by omega)).ev EB
  have XB : PXs hB p lx l (t + 1) o := A1.2.1.ev E1 (fun x z => by omega)
  obtain ⟨e, h1, w1, w2, w3⟩ := f_openN (d + 91) XB (rmB.le (by omega)) qo
  have w2' : hc h1 e = 44 := w2.1
  refine bf_now (k := t + 1) J (by omega) EB ?_ w2 w3 zz RC bd fw
  simp (config := {implicitDefEqProofs := false}) only [e_X11_declarer, c_X11_declarer_0, c_X11_declarer_6, e_X11_declarer_2, c_X11_declarer_2_0, c_X11_declarer_2_4, c_X11_declarer_2_13, c_X11_declarer_2_19, c_X11_declarer_2_27, c_X11_declarer_2_30, c_X11_declarer_2_34, c_X11_declarer_2_35, c_X11_declarer_2_44, c_X11_declarer_2_79, c_X11_declarer_2_83, c_X11_declarer_2_90, c_X11_declarer_2_93, c_X11_declarer_2_98, c_X11_declarer_2_99, c_X11_declarer_2_105, c_X11_declarer_2_108, c_X11_declarer_2_116, c_X11_declarer_2_117, c_X11_declarer_2_123, c_X11_declarer_2_126, c_X11_declarer_2_134, c_X11_declarer_2_135, c_X11_declarer_2_141, c_X11_declarer_2_144, c_X11_declarer_2_152, c_X11_declarer_2_153, c_X11_declarer_2_159, c_X11_declarer_2_162, c_X11_declarer_2_166, c_X11_declarer_2_180, c_X11_declarer_2_183, c_X11_declarer_2_184, c_X11_declarer_2_192, c_X11_declarer_2_193, c_X11_declarer_2_199, c_X11_declarer_2_202, c_X11_declarer_2_206, c_X11_declarer_2_226, c_X11_declarer_2_229, c_X11_declarer_2_235, c_X11_declarer_2_238, c_X11_declarer_2_244, c_X11_declarer_2_247, c_X11_declarer_2_251, c_X11_declarer_2_252, c_X11_declarer_2_258, c_X11_declarer_2_261, c_X11_declarer_2_265, c_X11_declarer_2_266, c_X11_declarer_2_272, c_X11_declarer_2_275, c_X11_declarer_2_279, c_X11_declarer_2_280, c_X11_declarer_2_299, c_X11_declarer_2_307, c_X11_declarer_2_322, c_X11_declarer_2_325, e_X11_declarers, c_X11_declarers_0, c_X11_declarers_7, c_X11_declarers_10, c_X11_declarers_14, c_X11_declarers_15, c_X11_declarers_19, c_X11_declarers_29, c_X11_declarers_36, c_X11_declarers_41, c_X11_declarers_45, c_X11_declarers_46, c_X11_declarers_55, c_X11_declarers_58, c_X11_declarers_66, c_X11_declarers_69, c_X11_declarers_76, c_X11_declarers_80, q', r', i1, XB.1, im_op _ XB, bnd_v, bnd_x, pu_s, pu_n, b01_T, b01_F, Int.reduceEq, Int.reduceLT, Int.reduceLE, Int.reduceNe, Nat.reduceEqDiff, Nat.reduceLeDiff, and_false, false_and, and_true, true_and, or_false, false_or, or_true, true_or, if_true, if_false, not_true_eq_false, not_false_eq_true, eq_self, ne_eq, reduceCtorEq, false_implies, true_implies, implies_true, inT, inA, rmO, rmA, rI_pI, rI_pJ, rI_pR, rI_qI, rI_qJ, rI_qR, rJ_pI, rJ_pJ, rJ_pR, rJ_qI, rJ_qJ, rJ_qR, rR_pI, rR_pJ, rR_pR, rR_qI, rR_qJ, rR_qR, sI_pI, sI_pJ, sI_pR, sI_qI, sI_qJ, sI_qR, sJ_pI, sJ_pJ, sJ_pR, sJ_qI, sJ_qJ, sJ_qR, sR_pI, sR_pJ, sR_pR, sR_qI, sR_qJ, sR_qR, hc_pI, hc_pJ, hc_pR, hc_qI, hc_qJ, hc_qR, hl_pI, hl_pJ, hl_pR, hl_qI, hl_qJ, hl_qR, hk_pI, hk_pJ, hk_pR, hk_qI, hk_qJ, hk_qR, hs_pI, hs_pJ, hs_pR, hs_qI, hs_qJ, hs_qR, hn_pI, hn_pJ, hn_pR, hn_qI, hn_qJ, hn_qR, hc_nO', hc_nA', hl_nO, hl_nA', hn_nO, hn_nA, hk_nO, hk_nA, hs_nO, hs_nA, rI_nO, rI_nA, rJ_nO, rJ_nA, rR_nO, rR_nA, Nat.le_refl, Y.1, fpl _ Y, fgt Y, fk0 _ Y, xk2 Y, xk3 Y, xk4 Y, im_op _ Y, tm_op _ Y, im_cp _ Y, tm_cp _ Y, im_ob _ Y, tm_ob _ Y, im_cb _ Y, tm_cb _ Y, im_co _ Y, tm_co _ Y, im_se _ Y, tm_se _ Y, im_cl _ Y, tm_cl _ Y, im_be _ Y, tm_be _ Y, iw_INT _ Y, tw_INT _ Y, iw_LONG _ Y, tw_LONG _ Y, iw_BOOL _ Y, tw_BOOL _ Y, iw_VOID _ Y, tw_VOID _ Y, iw_REF _ Y, tw_REF _ Y, iw_PROC _ Y, tw_PROC _ Y, iw_STRUCT _ Y, tw_STRUCT _ Y, iw_UNION _ Y, tw_UNION _ Y, q, r, x1, x2, w1, w2', w32_1 lt6, w32_1 lt7]
theorem dc_procF (d : Nat) (J : JD h s p lx l t o PR P X O Z0 Z) (hX : ∀ j, X j → j < t) (z1 : Z + 24 * (482 - t) ≤ 80000) (z2 : Z - Z0 + 24 * (482 - t) ≤ 11800) (Pre : DPre s o g mv) (q : kd l t = 1) (r : sI l t = 38) (hl1 : t + 1 < xc l) (q' : kd l (t + 1) = 5) (r' : sI l (t + 1) = 40) (qo : o + 1 = 24) : BF (F (d + 100) 104145474 [vR p, vI (xmv mv)] h) h s p l Z0 (Z + 24 * (482 - t) + 10) := by
  obtain ⟨hg, g0, g1, hgo, hz, hga, hmv⟩ := Pre
  have M := J.m
  have Y := J.x
  have hlt : t < l.length := M.1.a
  have hl2 := M.1.1.2.1
  have hxt : t < xc l := M.1.2.2
  have ho24 : o ≤ 24 := Y.2.2.2.2.2.1
  have rm := J.room (by omega) (by omega)
  have z0 := J.2.2.2.2.2.2.2.2.2.1
  have xll : xc l ≤ l.length := M.1.1.x
  have hp := J.hp
  have lt6 : t < 1000000 := by omega
  have lt7 : t + 1 < 1000000 := by omega
  have rm1 := rm.le (u' := 10) (by omega)
  have x1 : hk h < cLim := by unfold Room at rm1; omega
  have x2 : hs h + 8 ≤ sLim := by unfold Room at rm1; omega
  have a1 : Fr (Lq s g) (-1) s ((uI (uI (uI (vI' (vI' s 38 g t) 37 g (fI s 2234209964)) 1781225132 ((o : Int) + 1)) 1764447916 ((t : Int) + 1)) 1772836524 (pl l (t + 1)))) := by
    refine (Fr.uI (Fr.uI (Fr.uI (Fr.vI (Fr.vI Fr.rf (by decide) (Or.inl ?_)) (by decide) (Or.inl ?_)) (by decide)) (by decide)) (by decide))
    all_goals (first | exact Int.le_refl _ | (show g ≤ fI s 2066437804; omega) | (show fI s 2066437804 - 1 ≤ _; omega) | (show fI s 2066437804 - 1 ≤ fI s 2066437804; omega))
  have zz : Z + 2 + 1 ≤ Z + 24 * (482 - t) + 10 := by omega
  have RC : Reach s ((uI (uI (uI (vI' (vI' s 38 g t) 37 g (fI s 2234209964)) 1781225132 ((o : Int) + 1)) 1764447916 ((t : Int) + 1)) 1772836524 (pl l (t + 1)))) := Reach.one (by rw [hg]; omega) (by have := M.2.2.1; omega) (step_of hg ⟨g0, by omega⟩ hgo (by decide) (md_procF M ho24 hg g0 (by omega) hz q r qo (by omega) q' r' (J.pl0 hl1)))
  have bd : fI ((uI (uI (uI (vI' (vI' s 38 g t) 37 g (fI s 2234209964)) 1781225132 ((o : Int) + 1)) 1764447916 ((t : Int) + 1)) 1772836524 (pl l (t + 1)))) 1772836524 = pl l (t + 1) := by simp (config := {implicitDefEqProofs := false}) only [fI_uI, fI_uJ, fI_vI, fI_vJ, fJ_uI, fJ_uJ, fJ_vI, fJ_vJ, aI_uI, aI_uJ, aI_vI, aI_vJ, aJ_uI, aJ_uJ, aJ_vI, aJ_vJ, bnd_v, bnd_x, pu_s, pu_n, b01_T, b01_F, Int.reduceEq, Int.reduceLT, Int.reduceLE, Int.reduceNe, Nat.reduceEqDiff, Nat.reduceLeDiff, and_false, false_and, and_true, true_and, or_false, false_or, or_true, true_or, if_true, if_false, not_true_eq_false, not_false_eq_true, eq_self, ne_eq, reduceCtorEq, false_implies, true_implies, implies_true, fI_pushS, aI_pushS, aJ_pushS, fI_gmodeS, aI_gmodeS, aJ_gmodeS, fI_modeS, aI_modeS, aJ_modeS, fI_giveS, aI_giveS]
  have fw := frw M a1
  clear a1
  generalize hss : ((uI (uI (uI (vI' (vI' s 38 g t) 37 g (fI s 2234209964)) 1781225132 ((o : Int) + 1)) 1764447916 ((t : Int) + 1)) 1772836524 (pl l (t + 1)))) = sS at RC bd fw
  clear hss
  have A1 := ((XM.rf Y J.2.1).so (o1 := o + 1) (by omega)).st (t1 := t + 1) hl1
  have e0 : Ev W0 1 (pI (pI h 1294223504 p ((o + 1 : Nat) : Int)) 1285834896 p ((t + 1 : Nat) : Int)) (nO (pI (pI h 1294223504 p ((o + 1 : Nat) : Int)) 1285834896 p ((t + 1 : Nat) : Int)) 9 8) := (Ev.rf A1.2.1.i).mO (by decide) (by decide)
  obtain ⟨hB, i1, i2, i3, i4, i5, i6, i7, i8, i9⟩ := f_modeInit (d + 93) e0.2.2.1 (Room.ev (u := 1) (u' := 1) (show Room (1 + 1) (pI (pI h 1294223504 p ((o + 1 : Nat) : Int)) 1285834896 p ((t + 1 : Nat) : Int)) from rm.le (by omega)) e0) (if_pos rfl : hc (nO (pI (pI h 1294223504 p ((o + 1 : Nat) : Int)) 1285834896 p ((t + 1 : Nat) : Int)) 9 8) (hn h) = 9) 5
  have E1 : Ev (· = hn h) 2 (pI (pI h 1294223504 p ((o + 1 : Nat) : Int)) 1285834896 p ((t + 1 : Nat) : Int)) hB := (e0.mono (W' := (· = hn h)) (fun _ _ z => z.elim) (Nat.le_refl _)).tr i2 (fun _ _ z => z)
  have EB : Ev (· = p) 2 h hB := A1.1.tr E1 (fun x hx z => by omega)
  have rmB : Room 5 hB := (rm.le (u' := 2 + 5) (by omega)).ev EB
  have XB : PXs hB p lx l (t + 1) (o + 1) := A1.2.1.ev E1 (fun x z => by omega)
  have qo1 : o < 24 := by omega
  obtain ⟨e, h1, w1, w2, w3⟩ := f_openN (d + 90) XB (rmB.le (by omega)) qo
  have w2' : hc h1 e = 44 := w2.1
  refine bf_now (k := t + 1) J (by omega) EB ?_ w2 w3 zz RC bd fw
  simp (config := {implicitDefEqProofs := false}) only [e_X11_declarer, c_X11_declarer_0, c_X11_declarer_6, e_X11_declarer_2, c_X11_declarer_2_0, c_X11_declarer_2_4, c_X11_declarer_2_13, c_X11_declarer_2_19, c_X11_declarer_2_27, c_X11_declarer_2_30, c_X11_declarer_2_34, c_X11_declarer_2_35, c_X11_declarer_2_44, c_X11_declarer_2_79, c_X11_declarer_2_83, c_X11_declarer_2_90, c_X11_declarer_2_93, c_X11_declarer_2_98, c_X11_declarer_2_99, c_X11_declarer_2_105, c_X11_declarer_2_108, c_X11_declarer_2_116, c_X11_declarer_2_117, c_X11_declarer_2_123, c_X11_declarer_2_126, c_X11_declarer_2_134, c_X11_declarer_2_135, c_X11_declarer_2_141, c_X11_declarer_2_144, c_X11_declarer_2_152, c_X11_declarer_2_153, c_X11_declarer_2_159, c_X11_declarer_2_162, c_X11_declarer_2_166, c_X11_declarer_2_180, c_X11_declarer_2_183, c_X11_declarer_2_184, c_X11_declarer_2_192, c_X11_declarer_2_193, c_X11_declarer_2_199, c_X11_declarer_2_202, c_X11_declarer_2_206, c_X11_declarer_2_226, c_X11_declarer_2_229, c_X11_declarer_2_235, c_X11_declarer_2_238, c_X11_declarer_2_244, c_X11_declarer_2_247, c_X11_declarer_2_251, c_X11_declarer_2_252, c_X11_declarer_2_258, c_X11_declarer_2_261, c_X11_declarer_2_265, c_X11_declarer_2_266, c_X11_declarer_2_272, c_X11_declarer_2_275, c_X11_declarer_2_279, c_X11_declarer_2_280, c_X11_declarer_2_299, c_X11_declarer_2_307, c_X11_declarer_2_322, c_X11_declarer_2_325, e_X11_procedure, c_X11_procedure_0, c_X11_procedure_4, c_X11_procedure_22, c_X11_procedure_30, c_X11_procedure_33, c_X11_procedure_38, c_X11_procedure_44, c_X11_procedure_51, e_X11_declarers, c_X11_declarers_0, c_X11_declarers_7, c_X11_declarers_10, c_X11_declarers_14, c_X11_declarers_15, c_X11_declarers_19, c_X11_declarers_29, c_X11_declarers_36, c_X11_declarers_41, c_X11_declarers_45, c_X11_declarers_46, c_X11_declarers_55, c_X11_declarers_58, c_X11_declarers_66, c_X11_declarers_69, c_X11_declarers_76, c_X11_declarers_80, q', r', i1, XB.1, im_op _ XB, f_openY _ Y qo1, bnd_v, bnd_x, pu_s, pu_n, b01_T, b01_F, Int.reduceEq, Int.reduceLT, Int.reduceLE, Int.reduceNe, Nat.reduceEqDiff, Nat.reduceLeDiff, and_false, false_and, and_true, true_and, or_false, false_or, or_true, true_or, if_true, if_false, not_true_eq_false, not_false_eq_true, eq_self, ne_eq, reduceCtorEq, false_implies, true_implies, implies_true, inT, inA, rmO, rmA, rI_pI, rI_pJ, rI_pR, rI_qI, rI_qJ, rI_qR, rJ_pI, rJ_pJ, rJ_pR, rJ_qI, rJ_qJ, rJ_qR, rR_pI, rR_pJ, rR_pR, rR_qI, rR_qJ, rR_qR, sI_pI, sI_pJ, sI_pR, sI_qI, sI_qJ, sI_qR, sJ_pI, sJ_pJ, sJ_pR, sJ_qI, sJ_qJ, sJ_qR, sR_pI, sR_pJ, sR_pR, sR_qI, sR_qJ, sR_qR, hc_pI, hc_pJ, hc_pR, hc_qI, hc_qJ, hc_qR, hl_pI, hl_pJ, hl_pR, hl_qI, hl_qJ, hl_qR, hk_pI, hk_pJ, hk_pR, hk_qI, hk_qJ, hk_qR, hs_pI, hs_pJ, hs_pR, hs_qI, hs_qJ, hs_qR, hn_pI, hn_pJ, hn_pR, hn_qI, hn_qJ, hn_qR, hc_nO', hc_nA', hl_nO, hl_nA', hn_nO, hn_nA, hk_nO, hk_nA, hs_nO, hs_nA, rI_nO, rI_nA, rJ_nO, rJ_nA, rR_nO, rR_nA, Nat.le_refl, Y.1, fpl _ Y, fgt Y, fk0 _ Y, xk2 Y, xk3 Y, xk4 Y, im_op _ Y, tm_op _ Y, im_cp _ Y, tm_cp _ Y, im_ob _ Y, tm_ob _ Y, im_cb _ Y, tm_cb _ Y, im_co _ Y, tm_co _ Y, im_se _ Y, tm_se _ Y, im_cl _ Y, tm_cl _ Y, im_be _ Y, tm_be _ Y, iw_INT _ Y, tw_INT _ Y, iw_LONG _ Y, tw_LONG _ Y, iw_BOOL _ Y, tw_BOOL _ Y, iw_VOID _ Y, tw_VOID _ Y, iw_REF _ Y, tw_REF _ Y, iw_PROC _ Y, tw_PROC _ Y, iw_STRUCT _ Y, tw_STRUCT _ Y, iw_UNION _ Y, tw_UNION _ Y, q, r, x1, x2, w1, w2', w32_1 lt6, w32_1 lt7]
/-- declarers: x and the model read them alike -/
theorem decl_all : ∀ k, DeclC k := by
  have main : ∀ k, (∀ j, j + 1 = k → DeclC j) → DeclC k := by
    intro k IH h s p lx l t o PR P X O Z0 Z g mv D hK J hX z1 z2 Pre hD
    obtain ⟨d, rfl⟩ : ∃ d, D = d + 100 := ⟨D - 100, by omega⟩
    have hD' : 40 * (24 - o) ≤ d := by omega
    have Y := J.x
    have hxt : t < xc l := Y.2.2.2.2.1
    have ho24 : o ≤ 24 := Y.2.2.2.2.2.1
    have nx : ∀ j, j < xc l → kd l j ≠ 0 → kd l j ≠ 6 → j + 1 < xc l := fun j hj a b => Y.next hj a b
    have xll : xc l ≤ l.length := J.m.1.1.x
    have sub : o < 24 → ∃ j, DeclC j ∧ 24 ≤ o + (j + 1) := fun w => ⟨k - 1, IH (k - 1) (by omega), by omega⟩
    by_cases c2 : kd l t = 2
    · by_cases c : isMI l t
      · exact Or.inr (dc_named d J hX z1 z2 Pre c2 c (nx t hxt (by omega) (by omega)))
      · exact Or.inl (dc_failI d J hX z1 z2 Pre c2 c)
    by_cases c5 : kd l t = 5 ∧ sI l t = 91
    · obtain ⟨q, r⟩ := c5
      have hl1 := nx t hxt (by omega) (by omega)
      rcases Nat.lt_or_ge o 24 with qo | qo
      · obtain ⟨j, I, hj⟩ := sub qo
        by_cases c : kd l (t + 1) = 5 ∧ sI l (t + 1) = 93
        · exact dc_row I hj d J hX z1 z2 Pre hD' q r c.1 c.2 qo hl1 (nx _ hl1 (by rw [c.1]; decide) (by rw [c.1]; decide))
        · exact Or.inl (dc_rowF d J hX z1 z2 Pre q r c qo hl1)
      · exact Or.inl (dc_row24 d J hX z1 z2 Pre q r (by omega))
    by_cases c1 : kd l t = 1
    · have hl1 := nx t hxt (by omega) (by omega)
      by_cases w : sI l t = 34
      · exact Or.inr (dc_int d J hX z1 z2 Pre c1 w hl1)
      by_cases w : sI l t = 12
      · exact Or.inr (dc_long d J hX z1 z2 Pre c1 w hl1)
      by_cases w : sI l t = 35
      · exact Or.inr (dc_bool d J hX z1 z2 Pre c1 w hl1)
      by_cases w : sI l t = 36
      · rcases Pre.2.2.2.2.2.2 with m | m | m
        · exact Or.inr (dc_void0 d J hX z1 z2 Pre c1 w hl1 m)
        · exact Or.inr (dc_void1 d J hX z1 z2 Pre c1 w hl1 m)
        · exact Or.inr (dc_void2 d J hX z1 z2 Pre c1 w hl1 m)
      by_cases w : sI l t = 37
      · rcases Nat.lt_or_ge o 24 with qo | qo
        · obtain ⟨j, I, hj⟩ := sub qo
          exact dc_ref I hj d J hX z1 z2 Pre hD' c1 w qo hl1
        · exact Or.inl (dc_ref24 d J hX z1 z2 Pre c1 w (by omega) hl1)
      by_cases w : sI l t = 38
      · rcases Nat.lt_or_ge o 24 with qo | qo
        · obtain ⟨j, I, hj⟩ := sub qo
          by_cases c : kd l (t + 1) = 5 ∧ sI l (t + 1) = 40
          · rcases Nat.lt_or_ge (o + 1) 24 with qo1 | qo1
            · exact dc_procP I hj d J hX z1 z2 Pre hD' c1 w c.1 c.2 qo1 hl1 (nx _ hl1 (by rw [c.1]; decide) (by rw [c.1]; decide))
            · exact Or.inl (dc_procF d J hX z1 z2 Pre c1 w hl1 c.1 c.2 (by omega))
          · exact dc_procN I hj d J hX z1 z2 Pre hD' c1 w c qo hl1
        · exact Or.inl (dc_proc24 d J hX z1 z2 Pre c1 w (by omega) hl1)
      by_cases w : sI l t = 39
      · by_cases c : kd l (t + 1) = 5 ∧ sI l (t + 1) = 40
        · rcases Nat.lt_or_ge o 24 with qo | qo
          · obtain ⟨j, I, hj⟩ := sub qo
            exact dc_struct I hj d J hX z1 z2 Pre hD' c1 w c.1 c.2 qo hl1 (nx _ hl1 (by rw [c.1]; decide) (by rw [c.1]; decide))
          · exact Or.inl (dc_structF2 d J hX z1 z2 Pre c1 w hl1 c.1 c.2 (by omega))
        · exact Or.inl (dc_structF1 d J hX z1 z2 Pre c1 w hl1 c)
      by_cases w : sI l t = 40
      · by_cases c : kd l (t + 1) = 5 ∧ sI l (t + 1) = 40
        · rcases Nat.lt_or_ge o 24 with qo | qo
          · obtain ⟨j, I, hj⟩ := sub qo
            exact dc_union I hj d J hX z1 z2 Pre hD' c1 w c.1 c.2 qo hl1 (nx _ hl1 (by rw [c.1]; decide) (by rw [c.1]; decide))
          · exact Or.inl (dc_unionF2 d J hX z1 z2 Pre c1 w hl1 c.1 c.2 (by omega))
        · exact Or.inl (dc_unionF1 d J hX z1 z2 Pre c1 w hl1 c)
      refine Or.inl (dc_fail d J hX z1 z2 Pre c2 (fun z => ?_) (fun z => ?_) (fun _ => by omega))
      · rcases z with z | z | ⟨z1, z⟩
        · exact c5 z
        · have := z.1; omega
        · rcases z with z | z <;> omega
      · have := z.2; omega
    · refine Or.inl (dc_fail d J hX z1 z2 Pre c2 (fun z => ?_) (fun z => c1 z.1) (fun z => absurd z c1))
      rcases z with z | z | ⟨z1, z⟩
      · exact c5 z
      · have := z.1; omega
      · exact c1 z1
  intro k
  induction k with
  | zero => exact main 0 (fun j hj => by omega)
  | succ k ih => exact main (k + 1) (fun j hj => by
      have : j = k := by omega
      rw [this]; exact ih)
end DA
