/-! READING NODES: PRINT -/
set_option maxRecDepth 100000
set_option maxHeartbeats 1000000
section BSP
variable {hG h h0 h1 : PH} {sG s s1 : MS} {p lx t o t1 o1 : Nat} {l : List TokE} {PR g : Int} {P P1 : List (Nat × Int)} {O O1 W W1 X : Nat → Prop} {Z0 ZM Z u u' y y1 : Nat} {v w : Int} {dl dl1 : List Nat} {R R1 : Int × Nat → Prop}
theorem bs_printF1 {d : Nat} (J : JN hG sG p lx l PR Z0 ZM h s t o P O dl y) (G : FG s g 1) (hg : g ≤ 20 * o + 8) (c1 : kd l t = 1) (c2 : sI l t = 33) (nd : ¬ isDec l t) (c3 : ¬ (kd l (t + 1) = 5 ∧ sI l (t + 1) = 40)) : BN hG sG p l Z0 ZM (F (d + 270) 112796225 [vR p] h) s := by
  have M := JNX.m J
  have Y := JNX.x J
  have F0 := JNX.f J
  have hp := JNX.hp J
  have p0 := JNX.p0 J
  have ho24 : o ≤ 24 := Y.2.2.2.2.2.1
  have hxt : t < xc l := M.1.2.2
  have xl : xc l ≤ l.length := M.1.1.x
  have hl2 := M.1.1.2.1
  have rm := JNX.room J
  have lt6 : t < 1000000 := by omega
  obtain ⟨⟨k1, k2, k3, k4⟩, k5, k6, k7⟩ := JNX.c J
  have cn := JNX.c J
  have x1 : hk h < cLim := by unfold Room at rm; omega
  have x2 : hs h + 20 ≤ sLim := by unfold Room at rm; omega
  have x8 : hs h + 8 ≤ sLim := by omega
  have x9 : hs h + 9 ≤ sLim := by omega
  have pn : ¬ (p = hn h) := by omega
  have hl1 : t + 1 < xc l := Y.next hxt (by rw [c1]; decide) (by rw [c1]; decide)
  have lt7 : t + 1 < 1000000 := by omega
  have hpl : 0 ≤ pl l (t + 1) := (Y.tok hl1).1.1
  obtain ⟨s1, RC1, G1, GP1, st1, go1, f1, f2, f3, md1⟩ := msf1_print M cn ho24 G.1 (by omega) c1 c2 nd (by omega)
  have M1 := M.sg G1 (Nat.le_refl _) hxt
  have cn1 := cn.sg G1 (Nat.le_refl _) (by omega)
  have X1 := (XU.rf (W := (· = p)) Y F0).st rfl (t1 := t + 1) hl1
  obtain ⟨hg1, g0, hgo, hz⟩ := GP1
  have RC : Reach s1 (uI (uI (vI' (nodeS s1 28 (t)) 36 (g + 1) (fI s1 1915442860)) 1764447916 ((t : Int) + 1)) 1772836524 (pl l (t + 1))) := Reach.one (by rw [hg1]; omega) (by have := M1.2.2.1; omega) (step_of hg1 ⟨g0, by omega⟩ hgo (by decide) (mp0F1 M1 cn1 ho24 hg1 g0 (by omega) hz (by omega) hpl c3))
  obtain ⟨e, h1, w1, w2, w3⟩ := f_wrong (d + 264) X1.2.1 (X1.rm rm (by omega))
  have w2' : hc h1 e = 44 := w2.1
  have fw : FrW s1 (uI (uI (vI' (nodeS s1 28 (t)) 36 (g + 1) (fI s1 1915442860)) 1764447916 ((t : Int) + 1)) 1772836524 (pl l (t + 1))) := (Fr.uI (Fr.uI (Fr.vI (Fr.node (Fr.rf (L := Lm s1) (v := -1)) (Int.le_refl _) (Int.le_refl _)) (by decide) (Or.inl (show fI s1 2066437804 - 1 ≤ g + 1 by omega))) (by decide)) (by decide)).w (by have := M1.2.2.2; show _ ≤ fI s1 1789613740; omega) (by have := M1.2.2.2; show _ ≤ fI s1 1848333996; omega) (by have := M1.2.2.2; show _ ≤ fI s1 2024494764; omega)
  refine JNX.now J X1.1 (fun _ z => Or.inr z) (by omega) ⟨e, h1, ?_, w2, w3⟩ hl1 (RC1.tr RC) (by simp (config := {implicitDefEqProofs := false}) only [bnd_v, bnd_x, pu_s, pu_n, b01_T, b01_F, Int.reduceEq, Int.reduceLT, Int.reduceLE, Int.reduceNe, Nat.reduceEqDiff, Nat.reduceLeDiff, and_false, false_and, and_true, true_and, or_false, false_or, or_true, true_or, if_true, if_false, not_true_eq_false, not_false_eq_true, eq_self, ne_eq, reduceCtorEq, false_implies, true_implies, implies_true, fI_uI, fI_uJ, fI_vI, fI_vJ, fJ_uI, fJ_uJ, fJ_vI, fJ_vJ, aI_uI, aI_uJ, aI_vI, aI_vJ, aJ_uI, aJ_uJ, aJ_vI, aJ_vJ, fI_nodeS, aI_nodeS, aJ_nodeS, fI_modeS, aI_modeS, aJ_modeS, fI_pushS, aI_pushS, aJ_pushS, fI_giveS, aI_giveS, aJ_giveS, fI_gmodeS, aI_gmodeS, aJ_gmodeS, fI_childS, aI_childS, aJ_childS]) ((G1.fw M).tr fw)
  simp (config := {implicitDefEqProofs := false}) only [e_X11_base, c_X11_base_0, c_X11_base_4, c_X11_base_13, c_X11_base_19, c_X11_base_48, c_X11_base_49, c_X11_base_55, c_X11_base_58, c_X11_base_68, c_X11_base_74, c_X11_base_108, c_X11_base_109, c_X11_base_116, c_X11_base_119, c_X11_base_130, c_X11_base_131, c_X11_base_138, c_X11_base_141, c_X11_base_152, c_X11_base_153, c_X11_base_161, c_X11_base_167, c_X11_base_176, c_X11_base_179, c_X11_base_180, c_X11_base_188, c_X11_base_191, c_X11_base_198, c_X11_base_201, c_X11_base_202, c_X11_base_209, c_X11_base_212, c_X11_base_217, c_X11_base_218, c_X11_base_225, c_X11_base_228, c_X11_base_232, c_X11_base_246, c_X11_base_254, c_X11_base_258, c_X11_base_260, c_X11_base_267, c_X11_base_270, c_X11_base_275, c_X11_base_276, c_X11_base_283, c_X11_base_286, c_X11_base_291, c_X11_base_292, c_X11_base_299, c_X11_base_302, c_X11_base_319, c_X11_base_322, c_X11_base_326, c_X11_base_327, c_X11_base_331, c_X11_base_349, c_X11_base_353, c_X11_base_356, c_X11_base_364, c_X11_base_368, c_X11_base_370, c_X11_base_375, bnd_v, bnd_x, pu_s, pu_n, b01_T, b01_F, Int.reduceEq, Int.reduceLT, Int.reduceLE, Int.reduceNe, Nat.reduceEqDiff, Nat.reduceLeDiff, and_false, false_and, and_true, true_and, or_false, false_or, or_true, true_or, if_true, if_false, not_true_eq_false, not_false_eq_true, eq_self, ne_eq, reduceCtorEq, false_implies, true_implies, implies_true, inT, inA, rmO, rmA, rI_pI, rI_pJ, rI_pR, rI_qI, rI_qJ, rI_qR, rJ_pI, rJ_pJ, rJ_pR, rJ_qI, rJ_qJ, rJ_qR, rR_pI, rR_pJ, rR_pR, rR_qI, rR_qJ, rR_qR, sI_pI, sI_pJ, sI_pR, sI_qI, sI_qJ, sI_qR, sJ_pI, sJ_pJ, sJ_pR, sJ_qI, sJ_qJ, sJ_qR, sR_pI, sR_pJ, sR_pR, sR_qI, sR_qJ, sR_qR, hc_pI, hc_pJ, hc_pR, hc_qI, hc_qJ, hc_qR, hl_pI, hl_pJ, hl_pR, hl_qI, hl_qJ, hl_qR, hk_pI, hk_pJ, hk_pR, hk_qI, hk_qJ, hk_qR, hs_pI, hs_pJ, hs_pR, hs_qI, hs_qJ, hs_qR, hn_pI, hn_pJ, hn_pR, hn_qI, hn_qJ, hn_qR, hc_nO', hc_nA', hl_nO, hl_nA', hn_nO, hn_nA, hk_nO, hk_nA, hs_nO, hs_nA, rI_nO, rI_nA, rJ_nO, rJ_nA, rR_nO, rR_nA, Nat.le_refl, Y.1, fpl _ Y, fgt Y, fk0 _ Y, xk2 Y, xk3 Y, xk4 Y, im_op _ Y, tm_op _ Y, im_cp _ Y, tm_cp _ Y, im_ob _ Y, tm_ob _ Y, im_cb _ Y, tm_cb _ Y, im_co _ Y, tm_co _ Y, im_se _ Y, tm_se _ Y, im_cl _ Y, tm_cl _ Y, im_be _ Y, tm_be _ Y, iw_LONG _ Y, tw_LONG _ Y, iw_TRUE _ Y, tw_TRUE _ Y, iw_FALSE _ Y, tw_FALSE _ Y, iw_BEGIN _ Y, tw_BEGIN _ Y, iw_IF _ Y, tw_IF _ Y, iw_CASE _ Y, tw_CASE _ Y, iw_PRINT _ Y, tw_PRINT _ Y, f_isDeclarer _ Y hxt, b01_n nd, c1, c2, w32_1 lt6, w32_1 lt7, im_op _ X1.2.1, c3, w1, w2']
theorem bs_printF2 {d : Nat} (J : JN hG sG p lx l PR Z0 ZM h s t o P O dl y) (G : FG s g 1) (hg : g ≤ 20 * o + 8) (c1 : kd l t = 1) (c2 : sI l t = 33) (nd : ¬ isDec l t) (c3 : kd l (t + 1) = 5) (c4 : sI l (t + 1) = 40) (qo : o = 24) : BN hG sG p l Z0 ZM (F (d + 270) 112796225 [vR p] h) s := by
  have M := JNX.m J
  have Y := JNX.x J
  have F0 := JNX.f J
  have hp := JNX.hp J
  have p0 := JNX.p0 J
  have ho24 : o ≤ 24 := Y.2.2.2.2.2.1
  have hxt : t < xc l := M.1.2.2
  have xl : xc l ≤ l.length := M.1.1.x
  have hl2 := M.1.1.2.1
  have rm := JNX.room J
  have lt6 : t < 1000000 := by omega
  obtain ⟨⟨k1, k2, k3, k4⟩, k5, k6, k7⟩ := JNX.c J
  have cn := JNX.c J
  have x1 : hk h < cLim := by unfold Room at rm; omega
  have x2 : hs h + 20 ≤ sLim := by unfold Room at rm; omega
  have x8 : hs h + 8 ≤ sLim := by omega
  have x9 : hs h + 9 ≤ sLim := by omega
  have pn : ¬ (p = hn h) := by omega
  have hl1 : t + 1 < xc l := Y.next hxt (by rw [c1]; decide) (by rw [c1]; decide)
  have lt7 : t + 1 < 1000000 := by omega
  have hpl : 0 ≤ pl l (t + 1) := (Y.tok hl1).1.1
  obtain ⟨s1, RC1, G1, GP1, st1, go1, f1, f2, f3, md1⟩ := msf1_print M cn ho24 G.1 (by omega) c1 c2 nd (by omega)
  have M1 := M.sg G1 (Nat.le_refl _) hxt
  have cn1 := cn.sg G1 (Nat.le_refl _) (by omega)
  have X1 := (XU.rf (W := (· = p)) Y F0).st rfl (t1 := t + 1) hl1
  obtain ⟨hg1, g0, hgo, hz⟩ := GP1
  have RC : Reach s1 (uI (uI (vI' (nodeS s1 28 (t)) 36 (g + 1) (fI s1 1915442860)) 1764447916 ((t : Int) + 1)) 1772836524 (pl l (t + 1))) := Reach.one (by rw [hg1]; omega) (by have := M1.2.2.1; omega) (step_of hg1 ⟨g0, by omega⟩ hgo (by decide) (mp0F2 M1 cn1 ho24 hg1 g0 (by omega) hz (by omega) c3 c4 hpl qo))
  obtain ⟨e, h1, w1, w2, w3⟩ := f_openN (d + 263) X1.2.1 (X1.rm rm (by omega)) qo
  have w2' : hc h1 e = 44 := w2.1
  have fw : FrW s1 (uI (uI (vI' (nodeS s1 28 (t)) 36 (g + 1) (fI s1 1915442860)) 1764447916 ((t : Int) + 1)) 1772836524 (pl l (t + 1))) := (Fr.uI (Fr.uI (Fr.vI (Fr.node (Fr.rf (L := Lm s1) (v := -1)) (Int.le_refl _) (Int.le_refl _)) (by decide) (Or.inl (show fI s1 2066437804 - 1 ≤ g + 1 by omega))) (by decide)) (by decide)).w (by have := M1.2.2.2; show _ ≤ fI s1 1789613740; omega) (by have := M1.2.2.2; show _ ≤ fI s1 1848333996; omega) (by have := M1.2.2.2; show _ ≤ fI s1 2024494764; omega)
  refine JNX.now J X1.1 (fun _ z => Or.inr z) (by omega) ⟨e, h1, ?_, w2, w3⟩ hl1 (RC1.tr RC) (by simp (config := {implicitDefEqProofs := false}) only [bnd_v, bnd_x, pu_s, pu_n, b01_T, b01_F, Int.reduceEq, Int.reduceLT, Int.reduceLE, Int.reduceNe, Nat.reduceEqDiff, Nat.reduceLeDiff, and_false, false_and, and_true, true_and, or_false, false_or, or_true, true_or, if_true, if_false, not_true_eq_false, not_false_eq_true, eq_self, ne_eq, reduceCtorEq, false_implies, true_implies, implies_true, fI_uI, fI_uJ, fI_vI, fI_vJ, fJ_uI, fJ_uJ, fJ_vI, fJ_vJ, aI_uI, aI_uJ, aI_vI, aI_vJ, aJ_uI, aJ_uJ, aJ_vI, aJ_vJ, fI_nodeS, aI_nodeS, aJ_nodeS, fI_modeS, aI_modeS, aJ_modeS, fI_pushS, aI_pushS, aJ_pushS, fI_giveS, aI_giveS, aJ_giveS, fI_gmodeS, aI_gmodeS, aJ_gmodeS, fI_childS, aI_childS, aJ_childS]) ((G1.fw M).tr fw)
  simp (config := {implicitDefEqProofs := false}) only [e_X11_base, c_X11_base_0, c_X11_base_4, c_X11_base_13, c_X11_base_19, c_X11_base_48, c_X11_base_49, c_X11_base_55, c_X11_base_58, c_X11_base_68, c_X11_base_74, c_X11_base_108, c_X11_base_109, c_X11_base_116, c_X11_base_119, c_X11_base_130, c_X11_base_131, c_X11_base_138, c_X11_base_141, c_X11_base_152, c_X11_base_153, c_X11_base_161, c_X11_base_167, c_X11_base_176, c_X11_base_179, c_X11_base_180, c_X11_base_188, c_X11_base_191, c_X11_base_198, c_X11_base_201, c_X11_base_202, c_X11_base_209, c_X11_base_212, c_X11_base_217, c_X11_base_218, c_X11_base_225, c_X11_base_228, c_X11_base_232, c_X11_base_246, c_X11_base_254, c_X11_base_258, c_X11_base_260, c_X11_base_267, c_X11_base_270, c_X11_base_275, c_X11_base_276, c_X11_base_283, c_X11_base_286, c_X11_base_291, c_X11_base_292, c_X11_base_299, c_X11_base_302, c_X11_base_319, c_X11_base_322, c_X11_base_326, c_X11_base_327, c_X11_base_331, c_X11_base_349, c_X11_base_353, c_X11_base_356, c_X11_base_364, c_X11_base_368, c_X11_base_370, c_X11_base_375, bnd_v, bnd_x, pu_s, pu_n, b01_T, b01_F, Int.reduceEq, Int.reduceLT, Int.reduceLE, Int.reduceNe, Nat.reduceEqDiff, Nat.reduceLeDiff, and_false, false_and, and_true, true_and, or_false, false_or, or_true, true_or, if_true, if_false, not_true_eq_false, not_false_eq_true, eq_self, ne_eq, reduceCtorEq, false_implies, true_implies, implies_true, inT, inA, rmO, rmA, rI_pI, rI_pJ, rI_pR, rI_qI, rI_qJ, rI_qR, rJ_pI, rJ_pJ, rJ_pR, rJ_qI, rJ_qJ, rJ_qR, rR_pI, rR_pJ, rR_pR, rR_qI, rR_qJ, rR_qR, sI_pI, sI_pJ, sI_pR, sI_qI, sI_qJ, sI_qR, sJ_pI, sJ_pJ, sJ_pR, sJ_qI, sJ_qJ, sJ_qR, sR_pI, sR_pJ, sR_pR, sR_qI, sR_qJ, sR_qR, hc_pI, hc_pJ, hc_pR, hc_qI, hc_qJ, hc_qR, hl_pI, hl_pJ, hl_pR, hl_qI, hl_qJ, hl_qR, hk_pI, hk_pJ, hk_pR, hk_qI, hk_qJ, hk_qR, hs_pI, hs_pJ, hs_pR, hs_qI, hs_qJ, hs_qR, hn_pI, hn_pJ, hn_pR, hn_qI, hn_qJ, hn_qR, hc_nO', hc_nA', hl_nO, hl_nA', hn_nO, hn_nA, hk_nO, hk_nA, hs_nO, hs_nA, rI_nO, rI_nA, rJ_nO, rJ_nA, rR_nO, rR_nA, Nat.le_refl, Y.1, fpl _ Y, fgt Y, fk0 _ Y, xk2 Y, xk3 Y, xk4 Y, im_op _ Y, tm_op _ Y, im_cp _ Y, tm_cp _ Y, im_ob _ Y, tm_ob _ Y, im_cb _ Y, tm_cb _ Y, im_co _ Y, tm_co _ Y, im_se _ Y, tm_se _ Y, im_cl _ Y, tm_cl _ Y, im_be _ Y, tm_be _ Y, iw_LONG _ Y, tw_LONG _ Y, iw_TRUE _ Y, tw_TRUE _ Y, iw_FALSE _ Y, tw_FALSE _ Y, iw_BEGIN _ Y, tw_BEGIN _ Y, iw_IF _ Y, tw_IF _ Y, iw_CASE _ Y, tw_CASE _ Y, iw_PRINT _ Y, tw_PRINT _ Y, f_isDeclarer _ Y hxt, b01_n nd, c1, c2, w32_1 lt6, w32_1 lt7, im_op _ X1.2.1, c3, c4, w1]
theorem bs_print {k d : Nat} (U : UnitC k) (hK : 24 ≤ o + 1 + k) (hD : 60 * (24 - o) ≤ d) (J : JN hG sG p lx l PR Z0 ZM h s t o P O dl y) (G : FG s g 1) (hg : g ≤ 20 * o + 8) (c1 : kd l t = 1) (c2 : sI l t = 33) (nd : ¬ isDec l t) (c3 : kd l (t + 1) = 5) (c4 : sI l (t + 1) = 40) (qo : o < 24) : BN hG sG p l Z0 ZM (F (d + 270) 112796225 [vR p] h) s ∨ VOK R0 6 hG sG p lx l PR Z0 ZM (F (d + 270) 112796225 [vR p] h) h s t o P O y g (-1) := by
  have M := JNX.m J
  have Y := JNX.x J
  have F0 := JNX.f J
  have hp := JNX.hp J
  have p0 := JNX.p0 J
  have ho24 : o ≤ 24 := Y.2.2.2.2.2.1
  have hxt : t < xc l := M.1.2.2
  have xl : xc l ≤ l.length := M.1.1.x
  have hl2 := M.1.1.2.1
  have rm := JNX.room J
  have lt6 : t < 1000000 := by omega
  obtain ⟨⟨k1, k2, k3, k4⟩, k5, k6, k7⟩ := JNX.c J
  have cn := JNX.c J
  have x1 : hk h < cLim := by unfold Room at rm; omega
  have x2 : hs h + 20 ≤ sLim := by unfold Room at rm; omega
  have x8 : hs h + 8 ≤ sLim := by omega
  have x9 : hs h + 9 ≤ sLim := by omega
  have pn : ¬ (p = hn h) := by omega
  have hl1 : t + 1 < xc l := Y.next hxt (by rw [c1]; decide) (by rw [c1]; decide)
  have lt7 : t + 1 < 1000000 := by omega
  have hpl : 0 ≤ pl l (t + 1) := (Y.tok hl1).1.1
  obtain ⟨s1, RC1, G1, GP1, st1, go1, f1, f2, f3, md1⟩ := msf1_print M cn ho24 G.1 (by omega) c1 c2 nd (by omega)
  have M1 := M.sg G1 (Nat.le_refl _) hxt
  have cn1 := cn.sg G1 (Nat.le_refl _) (by omega)
  have X1 := (XU.rf (W := (· = p)) Y F0).st rfl (t1 := t + 1) hl1
  have hl2' : t + 1 + 1 < xc l := Y.next hl1 (by rw [c3]; decide) (by rw [c3]; decide)
  have g0 := G.1.2.1
  have n0 : 0 ≤ fI s 1915442860 := k1
  obtain ⟨s2, RC2, G2, mk2, U2, A2, GP2, go2, st2, ga2⟩ := msp0 M1 cn1 ho24 GP1 (by omega) (by omega) c3 c4 hpl qo
  have q1 := G1.2.2.2.1
  have X1b := (X1.so rfl (o1 := o + 1) (by omega)).st rfl (t1 := t + 1 + 1) hl2'
  have X2 := X1b.mO (tg := 29) (n := 9) (by decide) (by decide)
  obtain ⟨h1, i1, i2, i3, i4, i5⟩ := x_newPrint (d + 261) X2.i (X2.rm rm (by omega)) (fz_nO) (pl l t)
  have i1 : F (d + 269) 150268370 [vR (hn h), vI (pl l t)] (nO (pI (pI (pI h 1285834896 p ((t + 1 : Nat) : Int)) 1294223504 p ((o + 1 : Nat) : Int)) 1285834896 p ((t + 1 + 1 : Nat) : Int)) 29 9) = some (.inl none, h1) := i1
  have i3 : NF h1 (hn h) 29 (hn h + 1) (pl l t) z0 z0 zr := i3
  have i4 : AL h1 (hn h + 1) [] := i4
  have i5 : hn h1 = hn h + 1 + 2 := i5
  have X3 := X2.tr i2 (fun x z => ⟨by have z : x = hn h := z; omega, Or.inr (by have z : x = hn h := z; omega)⟩)
  have J1 := JNX.step J (Ev.rf (W := (· = p)) Y.i) (fun _ z => Or.inr z) Y F0 G1 (Nat.le_refl _) nmp_rf (y1 := y) (by omega) (by omega)
  have J2 := JNX.step J1 X3.1 (fun _ z => Or.inr z) X3.2.1 X3.2.2 G2 (by omega) ((nmp_w c2 (by decide) (by decide)).tr (nmp_k c3 (by decide))) (y1 := y + 3) (by omega) (by omega)
  have gg1 : fI s1 2066437804 = g + 2 := G1.2.1
  have gg2 : fI s2 2066437804 = g + 1 + 2 := G2.2.1
  rw [md1] at mk2 U2 A2 ga2
  have BL : Bld h1 s2 l P (ON p O) PR (RB R0 (fI s 1915442860) (hn h) (fI s2 1915442860) (hn h1)) [] (fI s 1915442860) (hn h) (hn h + 1) 28 t 0 0 0 (-1) 0 29 (pl l t) z0 z0 zr := ⟨KF.nil, U2, A2, i3, i4⟩
  have hR : ∀ e, R0 e → 0 ≤ e.1 ∧ e.1 < fI s 1915442860 ∧ e.2 < hn h := fun e z => z.elim
  rcases U hG sG p lx l PR Z0 ZM h1 s2 (t + 1 + 1) (o + 1) P O dl (y + 3) (g + 1 + 1) (d + 269) hK J2 GP2 (by omega) (by omega) with B | B
  · left
    refine BN.up B (RC1.tr RC2) (fun e h' hb => ?_)
    simp (config := {implicitDefEqProofs := false}) only [e_X11_base, c_X11_base_0, c_X11_base_4, c_X11_base_13, c_X11_base_19, c_X11_base_48, c_X11_base_49, c_X11_base_55, c_X11_base_58, c_X11_base_68, c_X11_base_74, c_X11_base_108, c_X11_base_109, c_X11_base_116, c_X11_base_119, c_X11_base_130, c_X11_base_131, c_X11_base_138, c_X11_base_141, c_X11_base_152, c_X11_base_153, c_X11_base_161, c_X11_base_167, c_X11_base_176, c_X11_base_179, c_X11_base_180, c_X11_base_188, c_X11_base_191, c_X11_base_198, c_X11_base_201, c_X11_base_202, c_X11_base_209, c_X11_base_212, c_X11_base_217, c_X11_base_218, c_X11_base_225, c_X11_base_228, c_X11_base_232, c_X11_base_246, c_X11_base_254, c_X11_base_258, c_X11_base_260, c_X11_base_267, c_X11_base_270, c_X11_base_275, c_X11_base_276, c_X11_base_283, c_X11_base_286, c_X11_base_291, c_X11_base_292, c_X11_base_299, c_X11_base_302, c_X11_base_319, c_X11_base_322, c_X11_base_326, c_X11_base_327, c_X11_base_331, c_X11_base_349, c_X11_base_353, c_X11_base_356, c_X11_base_364, c_X11_base_368, c_X11_base_370, c_X11_base_375, bnd_v, bnd_x, pu_s, pu_n, b01_T, b01_F, Int.reduceEq, Int.reduceLT, Int.reduceLE, Int.reduceNe, Nat.reduceEqDiff, Nat.reduceLeDiff, and_false, false_and, and_true, true_and, or_false, false_or, or_true, true_or, if_true, if_false, not_true_eq_false, not_false_eq_true, eq_self, ne_eq, reduceCtorEq, false_implies, true_implies, implies_true, inT, inA, rmO, rmA, rI_pI, rI_pJ, rI_pR, rI_qI, rI_qJ, rI_qR, rJ_pI, rJ_pJ, rJ_pR, rJ_qI, rJ_qJ, rJ_qR, rR_pI, rR_pJ, rR_pR, rR_qI, rR_qJ, rR_qR, sI_pI, sI_pJ, sI_pR, sI_qI, sI_qJ, sI_qR, sJ_pI, sJ_pJ, sJ_pR, sJ_qI, sJ_qJ, sJ_qR, sR_pI, sR_pJ, sR_pR, sR_qI, sR_qJ, sR_qR, hc_pI, hc_pJ, hc_pR, hc_qI, hc_qJ, hc_qR, hl_pI, hl_pJ, hl_pR, hl_qI, hl_qJ, hl_qR, hk_pI, hk_pJ, hk_pR, hk_qI, hk_qJ, hk_qR, hs_pI, hs_pJ, hs_pR, hs_qI, hs_qJ, hs_qR, hn_pI, hn_pJ, hn_pR, hn_qI, hn_qJ, hn_qR, hc_nO', hc_nA', hl_nO, hl_nA', hn_nO, hn_nA, hk_nO, hk_nA, hs_nO, hs_nA, rI_nO, rI_nA, rJ_nO, rJ_nA, rR_nO, rR_nA, Nat.le_refl, Y.1, fpl _ Y, fgt Y, fk0 _ Y, xk2 Y, xk3 Y, xk4 Y, im_op _ Y, tm_op _ Y, im_cp _ Y, tm_cp _ Y, im_ob _ Y, tm_ob _ Y, im_cb _ Y, tm_cb _ Y, im_co _ Y, tm_co _ Y, im_se _ Y, tm_se _ Y, im_cl _ Y, tm_cl _ Y, im_be _ Y, tm_be _ Y, iw_LONG _ Y, tw_LONG _ Y, iw_TRUE _ Y, tw_TRUE _ Y, iw_FALSE _ Y, tw_FALSE _ Y, iw_BEGIN _ Y, tw_BEGIN _ Y, iw_IF _ Y, tw_IF _ Y, iw_CASE _ Y, tw_CASE _ Y, iw_PRINT _ Y, tw_PRINT _ Y, f_isDeclarer _ Y hxt, b01_n nd, c1, c2, w32_1 lt6, w32_1 lt7, im_op _ X1.2.1, c3, c4, f_openY _ X1.2.1 qo, x1, x9, pn, i1, i3.1, X3.2.1.1, hb]
  · have rO : ¬ O (hn h + 1) := fun z => by have := JNX.hi J z; omega
    have qO : ¬ O (hn h) := fun z => by have := JNX.hi J z; omega
    obtain ⟨q3, i3', h3, h4, s3, t3, P3, O3, dl3, b1, b2, b3, b4, b5, b6, ⟨u6, b7⟩, b8, ⟨b9, b10⟩, ⟨b11, b12, b13⟩, ⟨b14, b15, b16⟩⟩ := pn_with (d + 262) J2 B BL hR (by decide) (by omega) (by omega) rO qO (by show 0 < 50; decide) (by omega)
    have M5 := JNX.m b4
    have cn5 := JNX.c b4
    have Y5 := JNX.x b4
    have F5 := JNX.f b4
    have hx5 : t3 < xc l := M5.1.2.2
    have md6 := b6.2.2.2.1
    have e6 := b6.2.2.1
    have q2 := G2.2.2.2.1
    have g01 : 0 ≤ g + 1 := by omega
    have gg3 : g + 1 < fI s2 2066437804 - 1 := by omega
    have e4 : GP s3 (g + 1) 13 1 := ⟨b6.2.1, g01, (b6.gl (by decide) g01 gg3).1.trans go2, (b6.gl (by decide) g01 gg3).1.trans st2⟩
    have e5 : aI s3 36 (g + 1) = fI s 1915442860 := (b6.gl (by decide) g01 gg3).1.trans ga2
    have GF : GFr s1 s3 (g + 1) := ((GFr.rf (s := s1)).po G2.po (by omega)).po b6 (by omega)
    have RC3 := (RC1.tr RC2).tr b3
    have ok := b5.2.2.1.ok (by have := cn5.2.2.1; have := cn5.1; omega)
    by_cases c5 : kd l t3 = 5 ∧ sI l t3 = 41
    · right
      obtain ⟨c5, c6⟩ := c5
      have hl5 : t3 + 1 < xc l := Y5.next hx5 (by rw [c5]; decide) (by rw [c5]; decide)
      obtain ⟨s6, RC6, G6, d1, d2, d3, d4, at6, v6, ir6⟩ := msp1 M5 cn5 Y5.2.2.2.2.2.1 e4 (by omega) (by rw [e5]; exact ok.1.1) (by rw [e5]; exact ok.1.2) (by rw [e5]; exact ok.2) c5 c6 (by omega)
      rw [e5] at G6 d1 d2 d3 at6 v6
      have X6 := ((XU.rf (W := (· = p)) Y5 F5).st rfl (t1 := t3 + 1) hl5).so rfl (o1 := o) (by omega)
      obtain ⟨J6, B6, lm⟩ := pn_chl (k2 := 28) (o1 := o) b4 b5 hR ⟨by omega, md6⟩ ⟨by omega, b11⟩ G6 d1 d2 d3 d4 (at6 _ _ _ _ _ _ _) X6 (by omega) (by omega) (by decide) (by omega) (nmp_k c5 (by decide)) (y1 := y) (by omega) (by omega)
      obtain ⟨F1, F2, F3, F4, F5'⟩ := B6
      obtain ⟨J7, K7⟩ := fin J6 F1 F2 F3 F4 F5' (fun e z => by
        rcases z with z | ⟨z1, z2, z3, z4⟩
        · exact z.elim
        · constructor <;> omega) (by omega) (by omega) (by decide) (by decide) hxt rfl rfl (by
          obtain ⟨a1, a2, a3, a4, a5, a6, a7, a8⟩ := F3
          obtain ⟨n1, n2, n3, n4, n5, n6⟩ := F4
          unfold APu
          simp (config := {implicitDefEqProofs := false}) only [bnd_v, bnd_x, pu_s, pu_n, b01_T, b01_F, Int.reduceEq, Int.reduceLT, Int.reduceLE, Int.reduceNe, Nat.reduceEqDiff, Nat.reduceLeDiff, and_false, false_and, and_true, true_and, or_false, false_or, or_true, true_or, if_true, if_false, not_true_eq_false, not_false_eq_true, eq_self, ne_eq, reduceCtorEq, false_implies, true_implies, implies_true, a1, n1]) (by
          unfold Ari
          simp (config := {implicitDefEqProofs := false}) only [bnd_v, bnd_x, pu_s, pu_n, b01_T, b01_F, Int.reduceEq, Int.reduceLT, Int.reduceLE, Int.reduceNe, Nat.reduceEqDiff, Nat.reduceLeDiff, and_false, false_and, and_true, true_and, or_false, false_or, or_true, true_or, if_true, if_false, not_true_eq_false, not_false_eq_true, eq_self, ne_eq, reduceCtorEq, false_implies, true_implies, implies_true]
          rfl) (by decide) (by decide) (fun f _ => rfl) (fun f _ => rfl)
      have M6 := JNX.m J7
      have cn6 := JNX.c J7
      have g6 : fI s6 2066437804 = g + 1 := G6.2.1
      have mL : aI s3 21 (fI s 1915442860) = -1 := b5.2.2.1.2.2.2.2.2 rfl
      have N3 := ((G1.po).seq (by have := G.1.1; omega) G2.po (Or.inl rfl) (Or.inl rfl)).seq (by have := G.1.1; omega) b6 (Or.inl rfl) (Or.inl rfl)
      have N6 := N3.seq (by have := G.1.1; omega) G6.po (Or.inl mL) (Or.inr (Or.inl (Int.le_refl _)))
      have GF6 : GFr s1 s6 (g + 1) := GF.po G6.po (by have := e4.1; omega)
      obtain ⟨s7, RC7, G7, GP7, v7, k1', k2', k3', md7⟩ := msf2 M6 cn6 ho24 ⟨g6, g0, (GF6 34 g (by decide) g0 (by omega)).1.trans go1, (GF6 35 g (by decide) g0 (by omega)).1.trans st1⟩ (by omega) ir6
      have J8 := JNX.step J7 (Ev.rf (W := W0) X6.2.1.i) (fun _ z => z.elim) X6.2.1 X6.2.2 G7 (Nat.le_refl _) nmp_rf (y1 := y) (by omega) (by have := cn6.2.2.1; rw [md7]; exact this)
      have ngK : ∀ b, ¬ (RB R0 (fI s 1915442860) (hn h) (fI s6 1915442860) (hn (pI (pI h4 1285834896 p ((t3 + 1 : Nat) : Int)) 1294223504 p ((o : Nat) : Int))) (-1, b) ∨ ((-1 : Int), b) = (fI s 1915442860, hn h)) := fun b z => by
        rcases z with (z | z) | z
        · exact z
        · have : fI s 1915442860 + 1 ≤ -1 := z.1; omega
        · have : (-1 : Int) = fI s 1915442860 := congrArg Prod.fst z; omega
      have K8 := K7.go J7 (Ev.rf (W := W0) X6.2.1.i) (fun _ z => z.elim) G7.po Gw.rf ngK ngK
      have EE := ((X3.1.mono (W' := Wp p) (fun x _ z => by rw [z]; exact ⟨Nat.le_refl _, by omega⟩) (Nat.le_refl _)).tr b7 (fun x hx z => z.elim id (fun w => by omega))).tr X6.1 (fun x _ z => by rw [z]; exact ⟨Nat.le_refl _, by omega⟩)
      refine ⟨hn h, fI s 1915442860, _, s7, s7, t3 + 1, P3, _, dl3, ?_, ⟨(RC3.tr RC6).tr RC7, GP7, G7.2.2.1.2.2, Eqv.rf⟩, J8, ⟨K8.up (fun e z => ?_), v7.trans v6⟩, N6.seq (by have := G.1.1; omega) G7.po (Or.inl rfl) (Or.inl rfl), ⟨_, EE⟩, (Gw.rf.tr b8 (by omega)).own (Nat.le_refl _) (Nat.le_refl _) (by omega), ⟨by omega, by omega⟩, ⟨GP7.2.2.1, GP7.2.2.2, (k1'.trans (GF6 36 g (by decide) g0 (by omega)).1).trans f1, (k2'.trans (GF6 37 g (by decide) g0 (by omega)).1).trans f2, (k3'.trans (GF6 39 g (by decide) g0 (by omega)).1).trans f3⟩⟩
      · simp (config := {implicitDefEqProofs := false}) only [e_X11_base, c_X11_base_0, c_X11_base_4, c_X11_base_13, c_X11_base_19, c_X11_base_48, c_X11_base_49, c_X11_base_55, c_X11_base_58, c_X11_base_68, c_X11_base_74, c_X11_base_108, c_X11_base_109, c_X11_base_116, c_X11_base_119, c_X11_base_130, c_X11_base_131, c_X11_base_138, c_X11_base_141, c_X11_base_152, c_X11_base_153, c_X11_base_161, c_X11_base_167, c_X11_base_176, c_X11_base_179, c_X11_base_180, c_X11_base_188, c_X11_base_191, c_X11_base_198, c_X11_base_201, c_X11_base_202, c_X11_base_209, c_X11_base_212, c_X11_base_217, c_X11_base_218, c_X11_base_225, c_X11_base_228, c_X11_base_232, c_X11_base_246, c_X11_base_254, c_X11_base_258, c_X11_base_260, c_X11_base_267, c_X11_base_270, c_X11_base_275, c_X11_base_276, c_X11_base_283, c_X11_base_286, c_X11_base_291, c_X11_base_292, c_X11_base_299, c_X11_base_302, c_X11_base_319, c_X11_base_322, c_X11_base_326, c_X11_base_327, c_X11_base_331, c_X11_base_349, c_X11_base_353, c_X11_base_356, c_X11_base_364, c_X11_base_368, c_X11_base_370, c_X11_base_375, bnd_v, bnd_x, pu_s, pu_n, b01_T, b01_F, Int.reduceEq, Int.reduceLT, Int.reduceLE, Int.reduceNe, Nat.reduceEqDiff, Nat.reduceLeDiff, and_false, false_and, and_true, true_and, or_false, false_or, or_true, true_or, if_true, if_false, not_true_eq_false, not_false_eq_true, eq_self, ne_eq, reduceCtorEq, false_implies, true_implies, implies_true, inT, inA, rmO, rmA, rI_pI, rI_pJ, rI_pR, rI_qI, rI_qJ, rI_qR, rJ_pI, rJ_pJ, rJ_pR, rJ_qI, rJ_qJ, rJ_qR, rR_pI, rR_pJ, rR_pR, rR_qI, rR_qJ, rR_qR, sI_pI, sI_pJ, sI_pR, sI_qI, sI_qJ, sI_qR, sJ_pI, sJ_pJ, sJ_pR, sJ_qI, sJ_qJ, sJ_qR, sR_pI, sR_pJ, sR_pR, sR_qI, sR_qJ, sR_qR, hc_pI, hc_pJ, hc_pR, hc_qI, hc_qJ, hc_qR, hl_pI, hl_pJ, hl_pR, hl_qI, hl_qJ, hl_qR, hk_pI, hk_pJ, hk_pR, hk_qI, hk_qJ, hk_qR, hs_pI, hs_pJ, hs_pR, hs_qI, hs_qJ, hs_qR, hn_pI, hn_pJ, hn_pR, hn_qI, hn_qJ, hn_qR, hc_nO', hc_nA', hl_nO, hl_nA', hn_nO, hn_nA, hk_nO, hk_nA, hs_nO, hs_nA, rI_nO, rI_nA, rJ_nO, rJ_nA, rR_nO, rR_nA, Nat.le_refl, Y.1, fpl _ Y, fgt Y, fk0 _ Y, xk2 Y, xk3 Y, xk4 Y, im_op _ Y, tm_op _ Y, im_cp _ Y, tm_cp _ Y, im_ob _ Y, tm_ob _ Y, im_cb _ Y, tm_cb _ Y, im_co _ Y, tm_co _ Y, im_se _ Y, tm_se _ Y, im_cl _ Y, tm_cl _ Y, im_be _ Y, tm_be _ Y, iw_LONG _ Y, tw_LONG _ Y, iw_TRUE _ Y, tw_TRUE _ Y, iw_FALSE _ Y, tw_FALSE _ Y, iw_BEGIN _ Y, tw_BEGIN _ Y, iw_IF _ Y, tw_IF _ Y, iw_CASE _ Y, tw_CASE _ Y, iw_PRINT _ Y, tw_PRINT _ Y, f_isDeclarer _ Y hxt, b01_n nd, c1, c2, w32_1 lt6, w32_1 lt7, im_op _ X1.2.1, c3, c4, f_openY _ X1.2.1 qo, x1, x9, pn, i1, i3.1, X3.2.1.1, b1, b14, b15, dq_18, b2, Y5.1, ma_cp _ Y5 ⟨c5, c6⟩, f_close _ ((XU.rf (W := (· = p)) Y5 F5).st rfl (t1 := t3 + 1) hl5).2.1 (o' := o) rfl]
      · rcases z with (z | ⟨z1, z2, z3, z4⟩) | z
        · exact z.elim
        · right
          exact ⟨by omega, by omega, by omega, z4⟩
        · right
          rw [z]
          exact ⟨Int.le_refl _, by show fI s 1915442860 < fI s7 1915442860; omega, Nat.le_refl _, by show hn h < hn h4; omega⟩
    · left
      have hbad : ∃ S, Reach s3 S ∧ fI S 1772836524 = pl l t3 ∧ FrW s3 S := by
        obtain ⟨hg5, g05, hgo5, hz5⟩ := e4
        refine ⟨(uI (childS s3 (aI s3 36 (g + 1)) (fI s3 2125158060)) 1772836524 (pl l t3)), Reach.one (by rw [hg5]; omega) (by have := M5.2.2.1; omega) (step_of hg5 ⟨g05, by omega⟩ hgo5 (by decide) (mp1F M5 cn5 Y5.2.2.2.2.2.1 hg5 g05 (by omega) hz5 (by rw [e5]; exact ok.1.1) (by rw [e5]; exact ok.1.2) (by rw [e5]; exact ok.2) c5)), by simp (config := {implicitDefEqProofs := false}) only [bnd_v, bnd_x, pu_s, pu_n, b01_T, b01_F, Int.reduceEq, Int.reduceLT, Int.reduceLE, Int.reduceNe, Nat.reduceEqDiff, Nat.reduceLeDiff, and_false, false_and, and_true, true_and, or_false, false_or, or_true, true_or, if_true, if_false, not_true_eq_false, not_false_eq_true, eq_self, ne_eq, reduceCtorEq, false_implies, true_implies, implies_true, fI_uI, fI_uJ, fI_vI, fI_vJ, fJ_uI, fJ_uJ, fJ_vI, fJ_vJ, aI_uI, aI_uJ, aI_vI, aI_vJ, aJ_uI, aJ_uJ, aJ_vI, aJ_vJ, fI_nodeS, aI_nodeS, aJ_nodeS, fI_modeS, aI_modeS, aJ_modeS, fI_pushS, aI_pushS, aJ_pushS, fI_giveS, aI_giveS, aJ_giveS, fI_gmodeS, aI_gmodeS, aJ_gmodeS, fI_childS, aI_childS, aJ_childS], (Fr.uI (Fr.child (Fr.rf (L := fun c => if c = 2 ∨ c = 12 then -1 else Lm s3 c) (v := -1)) (by show (-1 : Int) ≤ aI s3 36 (g + 1); rw [e5]; have := ok.1.1; omega) (fun z => Or.inl (by show (-1 : Int) ≤ aI s3 21 (aI s3 36 (g + 1)); rw [e5] at z ⊢; rcases ok.2 with y | y <;> omega))) (by decide)).w (by have := M5.2.2.2; show _ ≤ fI s3 1789613740; omega) (by have := M5.2.2.2; show _ ≤ fI s3 1848333996; omega) (by have := M5.2.2.2; show _ ≤ fI s3 2024494764; omega)⟩
      obtain ⟨S, RC5, bd5, fw⟩ := hbad
      obtain ⟨e, h', w1, w2, w3⟩ := f_markN (d + 263) Y5 ((JNX.room b4).le (by omega)) (c := 41) (w := 41) (by decide) c5
      have w2' : hc h' e = 44 := w2.1
      refine (JNX.now b4 (Ev.rf (W := (· = p)) Y5.i) (fun _ z => Or.inr z) (by omega) ⟨e, h', ?_, w2, w3⟩ hx5 RC5 bd5 fw).up RC3 (fun e h' z => z)
      simp (config := {implicitDefEqProofs := false}) only [e_X11_base, c_X11_base_0, c_X11_base_4, c_X11_base_13, c_X11_base_19, c_X11_base_48, c_X11_base_49, c_X11_base_55, c_X11_base_58, c_X11_base_68, c_X11_base_74, c_X11_base_108, c_X11_base_109, c_X11_base_116, c_X11_base_119, c_X11_base_130, c_X11_base_131, c_X11_base_138, c_X11_base_141, c_X11_base_152, c_X11_base_153, c_X11_base_161, c_X11_base_167, c_X11_base_176, c_X11_base_179, c_X11_base_180, c_X11_base_188, c_X11_base_191, c_X11_base_198, c_X11_base_201, c_X11_base_202, c_X11_base_209, c_X11_base_212, c_X11_base_217, c_X11_base_218, c_X11_base_225, c_X11_base_228, c_X11_base_232, c_X11_base_246, c_X11_base_254, c_X11_base_258, c_X11_base_260, c_X11_base_267, c_X11_base_270, c_X11_base_275, c_X11_base_276, c_X11_base_283, c_X11_base_286, c_X11_base_291, c_X11_base_292, c_X11_base_299, c_X11_base_302, c_X11_base_319, c_X11_base_322, c_X11_base_326, c_X11_base_327, c_X11_base_331, c_X11_base_349, c_X11_base_353, c_X11_base_356, c_X11_base_364, c_X11_base_368, c_X11_base_370, c_X11_base_375, bnd_v, bnd_x, pu_s, pu_n, b01_T, b01_F, Int.reduceEq, Int.reduceLT, Int.reduceLE, Int.reduceNe, Nat.reduceEqDiff, Nat.reduceLeDiff, and_false, false_and, and_true, true_and, or_false, false_or, or_true, true_or, if_true, if_false, not_true_eq_false, not_false_eq_true, eq_self, ne_eq, reduceCtorEq, false_implies, true_implies, implies_true, inT, inA, rmO, rmA, rI_pI, rI_pJ, rI_pR, rI_qI, rI_qJ, rI_qR, rJ_pI, rJ_pJ, rJ_pR, rJ_qI, rJ_qJ, rJ_qR, rR_pI, rR_pJ, rR_pR, rR_qI, rR_qJ, rR_qR, sI_pI, sI_pJ, sI_pR, sI_qI, sI_qJ, sI_qR, sJ_pI, sJ_pJ, sJ_pR, sJ_qI, sJ_qJ, sJ_qR, sR_pI, sR_pJ, sR_pR, sR_qI, sR_qJ, sR_qR, hc_pI, hc_pJ, hc_pR, hc_qI, hc_qJ, hc_qR, hl_pI, hl_pJ, hl_pR, hl_qI, hl_qJ, hl_qR, hk_pI, hk_pJ, hk_pR, hk_qI, hk_qJ, hk_qR, hs_pI, hs_pJ, hs_pR, hs_qI, hs_qJ, hs_qR, hn_pI, hn_pJ, hn_pR, hn_qI, hn_qJ, hn_qR, hc_nO', hc_nA', hl_nO, hl_nA', hn_nO, hn_nA, hk_nO, hk_nA, hs_nO, hs_nA, rI_nO, rI_nA, rJ_nO, rJ_nA, rR_nO, rR_nA, Nat.le_refl, Y.1, fpl _ Y, fgt Y, fk0 _ Y, xk2 Y, xk3 Y, xk4 Y, im_op _ Y, tm_op _ Y, im_cp _ Y, tm_cp _ Y, im_ob _ Y, tm_ob _ Y, im_cb _ Y, tm_cb _ Y, im_co _ Y, tm_co _ Y, im_se _ Y, tm_se _ Y, im_cl _ Y, tm_cl _ Y, im_be _ Y, tm_be _ Y, iw_LONG _ Y, tw_LONG _ Y, iw_TRUE _ Y, tw_TRUE _ Y, iw_FALSE _ Y, tw_FALSE _ Y, iw_BEGIN _ Y, tw_BEGIN _ Y, iw_IF _ Y, tw_IF _ Y, iw_CASE _ Y, tw_CASE _ Y, iw_PRINT _ Y, tw_PRINT _ Y, f_isDeclarer _ Y hxt, b01_n nd, c1, c2, w32_1 lt6, w32_1 lt7, im_op _ X1.2.1, c3, c4, f_openY _ X1.2.1 qo, x1, x9, pn, i1, i3.1, X3.2.1.1, b1, b14, b15, dq_18, b2, Y5.1, w1, w2']
end BSP
