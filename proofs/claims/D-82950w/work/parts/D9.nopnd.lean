/-! READING NODES: operands -/
set_option maxRecDepth 100000
set_option maxHeartbeats 1000000
section OPN
variable {hG h h0 h1 : PH} {sG s s1 : MS} {p lx t o t1 o1 : Nat} {l : List TokE} {PR g : Int} {P P1 : List (Nat × Int)} {O O1 W W1 X : Nat → Prop} {Z0 ZM Z u u' y y1 : Nat} {v w : Int} {dl dl1 : List Nat} {R R1 : Int × Nat → Prop}
theorem VOK.up {z : Int} {r : Rs} (V : VOK R z hG sG p lx l PR Z0 ZM r h s1 t o P O y g v) (RC : Reach s s1) (N : NPo (-1) (-1) (g + 1) s s1) (hg : fI s 2066437804 = g + 1) (md : fI s1 1915442860 = fI s 1915442860) (f1 : aI s1 36 g = aI s 36 g) (f2 : aI s1 37 g = aI s 37 g) (f3 : aI s1 39 g = aI s 39 g) : VOK R z hG sG p lx l PR Z0 ZM r h s t o P O y g v := by
  obtain ⟨q, i, h1, s2, s3, t1, P1, O1, dl1, a1, ⟨a2, a3⟩, a4, a5, a6, a7, a8, a9, a10⟩ := V
  refine ⟨q, i, h1, s2, s3, t1, P1, O1, dl1, a1, ⟨RC.tr a2, a3⟩, a4, by rw [← md]; exact a5, N.vv.seq (by omega) a6 (Or.inl rfl) (Or.inl rfl), a7, a8, ⟨a9.1, by have := a9.2; omega⟩, ⟨a10.1, a10.2.1, a10.2.2.1.trans f1, a10.2.2.2.1.trans f2, a10.2.2.2.2.trans f3⟩⟩
theorem opd_sec {k d : Nat} (S : OpdC 112271937 275 1 k) (J : JN hG sG p lx l PR Z0 ZM h s t o P O dl y) (G : FG s g 0) (hg : g ≤ 20 * o + 8) (hK : 24 ≤ o + k) (hD : 60 * (24 - o) ≤ d) (fl : FlC s g l t) (q1 : ¬ (kd l t = 1 ∧ sI l t = 9)) (q2 : ¬ (kd l t = 1 ∧ sI l t = 10)) (q3 : ¬ isMon l t) : BN hG sG p l Z0 ZM (F (d + 280) 111747649 [vR p] h) s ∨ VOK R0 7 hG sG p lx l PR Z0 ZM (F (d + 280) 111747649 [vR p] h) h s t o P O y g (-1) := by
  have M := JNX.m J
  have Y := JNX.x J
  have F0 := JNX.f J
  have hp := JNX.hp J
  have p0 := JNX.p0 J
  have ho24 : o ≤ 24 := Y.2.2.2.2.2.1
  have hxt : t < xc l := M.1.2.2
  have xl : xc l ≤ l.length := M.1.1.x
  have hl2 := M.1.1.2.1
  have rm := JNX.room J
  have lt6 : t < 1000000 := by omega
  obtain ⟨⟨k1, k2, k3, k4⟩, k5, k6, k7⟩ := JNX.c J
  have cn := JNX.c J
  have x1 : hk h < cLim := by unfold Room at rm; omega
  have x2 : hs h + 20 ≤ sLim := by unfold Room at rm; omega
  have x8 : hs h + 8 ≤ sLim := by omega
  have x9 : hs h + 9 ≤ sLim := by omega
  have pn : ¬ (p = hn h) := by omega
  obtain ⟨s1, RC, G1, GP1, f0, f1, f2, f3, md⟩ := mso_sec M cn ho24 G.1 (by omega) q1 q2 q3
  have J1 := JNX.step J (Ev.rf (W := (· = p)) Y.i) (fun _ z => Or.inr z) Y F0 G1 (Nat.le_refl _) nmp_rf (y1 := y) (by omega) (by omega)
  have eq4 := G1.2.2.2.1
  have G2 : FG s1 g 1 := ⟨GP1, by rw [f1]; have := G.2.1; omega, by rw [f2]; have := G.2.2.1; omega, by rw [f3, f1]; exact G.2.2.2⟩
  rcases S hG sG p lx l PR Z0 ZM h s1 t o P O dl y g (d + 279) hK J1 G2 (by unfold FlC; rw [f0]; exact fl) hg (by omega) with B | B
  · left
    refine BN.up B RC (fun e h' hb => ?_)
    simp (config := {implicitDefEqProofs := false}) only [e_X11_operand, c_X11_operand_0, c_X11_operand_4, c_X11_operand_12, c_X11_operand_17, c_X11_operand_24, c_X11_operand_27, c_X11_operand_31, c_X11_operand_50, c_X11_operand_54, c_X11_operand_57, c_X11_operand_62, c_X11_operand_64, c_X11_operand_72, c_X11_operand_75, c_X11_operand_79, c_X11_operand_80, c_X11_operand_88, c_X11_operand_93, c_X11_operand_112, c_X11_operand_116, c_X11_operand_119, c_X11_operand_125, bnd_v, bnd_x, pu_s, pu_n, b01_T, b01_F, Int.reduceEq, Int.reduceLT, Int.reduceLE, Int.reduceNe, Nat.reduceEqDiff, Nat.reduceLeDiff, and_false, false_and, and_true, true_and, or_false, false_or, or_true, true_or, if_true, if_false, not_true_eq_false, not_false_eq_true, eq_self, ne_eq, reduceCtorEq, false_implies, true_implies, implies_true, inT, inA, rmO, rmA, rI_pI, rI_pJ, rI_pR, rI_qI, rI_qJ, rI_qR, rJ_pI, rJ_pJ, rJ_pR, rJ_qI, rJ_qJ, rJ_qR, rR_pI, rR_pJ, rR_pR, rR_qI, rR_qJ, rR_qR, sI_pI, sI_pJ, sI_pR, sI_qI, sI_qJ, sI_qR, sJ_pI, sJ_pJ, sJ_pR, sJ_qI, sJ_qJ, sJ_qR, sR_pI, sR_pJ, sR_pR, sR_qI, sR_qJ, sR_qR, hc_pI, hc_pJ, hc_pR, hc_qI, hc_qJ, hc_qR, hl_pI, hl_pJ, hl_pR, hl_qI, hl_qJ, hl_qR, hk_pI, hk_pJ, hk_pR, hk_qI, hk_qJ, hk_qR, hs_pI, hs_pJ, hs_pR, hs_qI, hs_qJ, hs_qR, hn_pI, hn_pJ, hn_pR, hn_qI, hn_qJ, hn_qR, hc_nO', hc_nA', hl_nO, hl_nA', hn_nO, hn_nA, hk_nO, hk_nA, hs_nO, hs_nA, rI_nO, rI_nA, rJ_nO, rJ_nA, rR_nO, rR_nA, Nat.le_refl, Y.1, fpl _ Y, fgt Y, fk0 _ Y, xk2 Y, xk3 Y, xk4 Y, im_op _ Y, tm_op _ Y, im_cp _ Y, tm_cp _ Y, im_ob _ Y, tm_ob _ Y, im_cb _ Y, tm_cb _ Y, im_co _ Y, tm_co _ Y, im_se _ Y, tm_se _ Y, im_cl _ Y, tm_cl _ Y, im_be _ Y, tm_be _ Y, iw_UPB _ Y, tw_UPB _ Y, iw_LWB _ Y, tw_LWB _ Y, f_isMonadic _ Y hxt, q1, q2, b01_n q3, hb]
  · right
    have V := VOK.up B RC G1.po G.1.1 md f1 f2 f3
    obtain ⟨q, i, h1, s2, s3, t1, P1, O1, dl1, a1, a2⟩ := V
    refine ⟨q, i, h1, s2, s3, t1, P1, O1, dl1, ?_, a2⟩
    simp (config := {implicitDefEqProofs := false}) only [e_X11_operand, c_X11_operand_0, c_X11_operand_4, c_X11_operand_12, c_X11_operand_17, c_X11_operand_24, c_X11_operand_27, c_X11_operand_31, c_X11_operand_50, c_X11_operand_54, c_X11_operand_57, c_X11_operand_62, c_X11_operand_64, c_X11_operand_72, c_X11_operand_75, c_X11_operand_79, c_X11_operand_80, c_X11_operand_88, c_X11_operand_93, c_X11_operand_112, c_X11_operand_116, c_X11_operand_119, c_X11_operand_125, bnd_v, bnd_x, pu_s, pu_n, b01_T, b01_F, Int.reduceEq, Int.reduceLT, Int.reduceLE, Int.reduceNe, Nat.reduceEqDiff, Nat.reduceLeDiff, and_false, false_and, and_true, true_and, or_false, false_or, or_true, true_or, if_true, if_false, not_true_eq_false, not_false_eq_true, eq_self, ne_eq, reduceCtorEq, false_implies, true_implies, implies_true, inT, inA, rmO, rmA, rI_pI, rI_pJ, rI_pR, rI_qI, rI_qJ, rI_qR, rJ_pI, rJ_pJ, rJ_pR, rJ_qI, rJ_qJ, rJ_qR, rR_pI, rR_pJ, rR_pR, rR_qI, rR_qJ, rR_qR, sI_pI, sI_pJ, sI_pR, sI_qI, sI_qJ, sI_qR, sJ_pI, sJ_pJ, sJ_pR, sJ_qI, sJ_qJ, sJ_qR, sR_pI, sR_pJ, sR_pR, sR_qI, sR_qJ, sR_qR, hc_pI, hc_pJ, hc_pR, hc_qI, hc_qJ, hc_qR, hl_pI, hl_pJ, hl_pR, hl_qI, hl_qJ, hl_qR, hk_pI, hk_pJ, hk_pR, hk_qI, hk_qJ, hk_qR, hs_pI, hs_pJ, hs_pR, hs_qI, hs_qJ, hs_qR, hn_pI, hn_pJ, hn_pR, hn_qI, hn_qJ, hn_qR, hc_nO', hc_nA', hl_nO, hl_nA', hn_nO, hn_nA, hk_nO, hk_nA, hs_nO, hs_nA, rI_nO, rI_nA, rJ_nO, rJ_nA, rR_nO, rR_nA, Nat.le_refl, Y.1, fpl _ Y, fgt Y, fk0 _ Y, xk2 Y, xk3 Y, xk4 Y, im_op _ Y, tm_op _ Y, im_cp _ Y, tm_cp _ Y, im_ob _ Y, tm_ob _ Y, im_cb _ Y, tm_cb _ Y, im_co _ Y, tm_co _ Y, im_se _ Y, tm_se _ Y, im_cl _ Y, tm_cl _ Y, im_be _ Y, tm_be _ Y, iw_UPB _ Y, tw_UPB _ Y, iw_LWB _ Y, tw_LWB _ Y, f_isMonadic _ Y hxt, q1, q2, b01_n q3, a1]
theorem opd_lwbF {k d : Nat} (J : JN hG sG p lx l PR Z0 ZM h s t o P O dl y) (G : FG s g 0) (hg : g ≤ 20 * o + 8) (c1 : kd l t = 1) (c2 : sI l t = 9) (qo : o = 24) : BN hG sG p l Z0 ZM (F (d + 280) 111747649 [vR p] h) s := by
  have M := JNX.m J
  have Y := JNX.x J
  have F0 := JNX.f J
  have hp := JNX.hp J
  have p0 := JNX.p0 J
  have ho24 : o ≤ 24 := Y.2.2.2.2.2.1
  have hxt : t < xc l := M.1.2.2
  have xl : xc l ≤ l.length := M.1.1.x
  have hl2 := M.1.1.2.1
  have rm := JNX.room J
  have lt6 : t < 1000000 := by omega
  obtain ⟨⟨k1, k2, k3, k4⟩, k5, k6, k7⟩ := JNX.c J
  have cn := JNX.c J
  have x1 : hk h < cLim := by unfold Room at rm; omega
  have x2 : hs h + 20 ≤ sLim := by unfold Room at rm; omega
  have x8 : hs h + 8 ≤ sLim := by omega
  have x9 : hs h + 9 ≤ sLim := by omega
  have pn : ¬ (p = hn h) := by omega
  obtain ⟨hg1, g0, hgo, hz⟩ := G.1
  have RC : Reach s (uI s 1772836524 (pl l t)) := Reach.one (by rw [hg1]; omega) (by have := M.2.2.1; omega) (step_of hg1 ⟨g0, by omega⟩ hgo (by decide) (mo_lwbF M cn ho24 hg1 g0 (by omega) hz c1 c2 qo))
  obtain ⟨e, h1, w1, w2, w3⟩ := f_openN (d + 273) Y (rm.le (by omega)) qo
  refine JNX.now J (Ev.rf (W := (· = p)) Y.i) (fun _ z => Or.inr z) (by omega) ⟨e, h1, ?_, w2, w3⟩ hxt RC (by simp (config := {implicitDefEqProofs := false}) only [bnd_v, bnd_x, pu_s, pu_n, b01_T, b01_F, Int.reduceEq, Int.reduceLT, Int.reduceLE, Int.reduceNe, Nat.reduceEqDiff, Nat.reduceLeDiff, and_false, false_and, and_true, true_and, or_false, false_or, or_true, true_or, if_true, if_false, not_true_eq_false, not_false_eq_true, eq_self, ne_eq, reduceCtorEq, false_implies, true_implies, implies_true, fI_uI, fI_uJ, fI_vI, fI_vJ, fJ_uI, fJ_uJ, fJ_vI, fJ_vJ, aI_uI, aI_uJ, aI_vI, aI_vJ, aJ_uI, aJ_uJ, aJ_vI, aJ_vJ, fI_nodeS, aI_nodeS, aJ_nodeS, fI_modeS, aI_modeS, aJ_modeS, fI_pushS, aI_pushS, aJ_pushS, fI_giveS, aI_giveS, aJ_giveS, fI_gmodeS, aI_gmodeS, aJ_gmodeS, fI_childS, aI_childS, aJ_childS]) ((Fr.uI (L := Lm s) (v := -1) Fr.rf (by decide)).w (by have := M.2.2.2; show _ ≤ fI s 1789613740; omega) (by have := M.2.2.2; show _ ≤ fI s 1848333996; omega) (by have := M.2.2.2; show _ ≤ fI s 2024494764; omega))
  simp (config := {implicitDefEqProofs := false}) only [e_X11_operand, c_X11_operand_0, c_X11_operand_4, c_X11_operand_12, c_X11_operand_17, c_X11_operand_24, c_X11_operand_27, c_X11_operand_31, c_X11_operand_50, c_X11_operand_54, c_X11_operand_57, c_X11_operand_62, c_X11_operand_64, c_X11_operand_72, c_X11_operand_75, c_X11_operand_79, c_X11_operand_80, c_X11_operand_88, c_X11_operand_93, c_X11_operand_112, c_X11_operand_116, c_X11_operand_119, c_X11_operand_125, bnd_v, bnd_x, pu_s, pu_n, b01_T, b01_F, Int.reduceEq, Int.reduceLT, Int.reduceLE, Int.reduceNe, Nat.reduceEqDiff, Nat.reduceLeDiff, and_false, false_and, and_true, true_and, or_false, false_or, or_true, true_or, if_true, if_false, not_true_eq_false, not_false_eq_true, eq_self, ne_eq, reduceCtorEq, false_implies, true_implies, implies_true, inT, inA, rmO, rmA, rI_pI, rI_pJ, rI_pR, rI_qI, rI_qJ, rI_qR, rJ_pI, rJ_pJ, rJ_pR, rJ_qI, rJ_qJ, rJ_qR, rR_pI, rR_pJ, rR_pR, rR_qI, rR_qJ, rR_qR, sI_pI, sI_pJ, sI_pR, sI_qI, sI_qJ, sI_qR, sJ_pI, sJ_pJ, sJ_pR, sJ_qI, sJ_qJ, sJ_qR, sR_pI, sR_pJ, sR_pR, sR_qI, sR_qJ, sR_qR, hc_pI, hc_pJ, hc_pR, hc_qI, hc_qJ, hc_qR, hl_pI, hl_pJ, hl_pR, hl_qI, hl_qJ, hl_qR, hk_pI, hk_pJ, hk_pR, hk_qI, hk_qJ, hk_qR, hs_pI, hs_pJ, hs_pR, hs_qI, hs_qJ, hs_qR, hn_pI, hn_pJ, hn_pR, hn_qI, hn_qJ, hn_qR, hc_nO', hc_nA', hl_nO, hl_nA', hn_nO, hn_nA, hk_nO, hk_nA, hs_nO, hs_nA, rI_nO, rI_nA, rJ_nO, rJ_nA, rR_nO, rR_nA, Nat.le_refl, Y.1, fpl _ Y, fgt Y, fk0 _ Y, xk2 Y, xk3 Y, xk4 Y, im_op _ Y, tm_op _ Y, im_cp _ Y, tm_cp _ Y, im_ob _ Y, tm_ob _ Y, im_cb _ Y, tm_cb _ Y, im_co _ Y, tm_co _ Y, im_se _ Y, tm_se _ Y, im_cl _ Y, tm_cl _ Y, im_be _ Y, tm_be _ Y, iw_UPB _ Y, tw_UPB _ Y, iw_LWB _ Y, tw_LWB _ Y, f_isMonadic _ Y hxt, c1, c2, w1]
theorem opd_upbF {k d : Nat} (J : JN hG sG p lx l PR Z0 ZM h s t o P O dl y) (G : FG s g 0) (hg : g ≤ 20 * o + 8) (c1 : kd l t = 1) (c2 : sI l t = 10) (qo : o = 24) : BN hG sG p l Z0 ZM (F (d + 280) 111747649 [vR p] h) s := by
  have M := JNX.m J
  have Y := JNX.x J
  have F0 := JNX.f J
  have hp := JNX.hp J
  have p0 := JNX.p0 J
  have ho24 : o ≤ 24 := Y.2.2.2.2.2.1
  have hxt : t < xc l := M.1.2.2
  have xl : xc l ≤ l.length := M.1.1.x
  have hl2 := M.1.1.2.1
  have rm := JNX.room J
  have lt6 : t < 1000000 := by omega
  obtain ⟨⟨k1, k2, k3, k4⟩, k5, k6, k7⟩ := JNX.c J
  have cn := JNX.c J
  have x1 : hk h < cLim := by unfold Room at rm; omega
  have x2 : hs h + 20 ≤ sLim := by unfold Room at rm; omega
  have x8 : hs h + 8 ≤ sLim := by omega
  have x9 : hs h + 9 ≤ sLim := by omega
  have pn : ¬ (p = hn h) := by omega
  obtain ⟨hg1, g0, hgo, hz⟩ := G.1
  have RC : Reach s (uI s 1772836524 (pl l t)) := Reach.one (by rw [hg1]; omega) (by have := M.2.2.1; omega) (step_of hg1 ⟨g0, by omega⟩ hgo (by decide) (mo_upbF M cn ho24 hg1 g0 (by omega) hz c1 c2 qo))
  obtain ⟨e, h1, w1, w2, w3⟩ := f_openN (d + 273) Y (rm.le (by omega)) qo
  refine JNX.now J (Ev.rf (W := (· = p)) Y.i) (fun _ z => Or.inr z) (by omega) ⟨e, h1, ?_, w2, w3⟩ hxt RC (by simp (config := {implicitDefEqProofs := false}) only [bnd_v, bnd_x, pu_s, pu_n, b01_T, b01_F, Int.reduceEq, Int.reduceLT, Int.reduceLE, Int.reduceNe, Nat.reduceEqDiff, Nat.reduceLeDiff, and_false, false_and, and_true, true_and, or_false, false_or, or_true, true_or, if_true, if_false, not_true_eq_false, not_false_eq_true, eq_self, ne_eq, reduceCtorEq, false_implies, true_implies, implies_true, fI_uI, fI_uJ, fI_vI, fI_vJ, fJ_uI, fJ_uJ, fJ_vI, fJ_vJ, aI_uI, aI_uJ, aI_vI, aI_vJ, aJ_uI, aJ_uJ, aJ_vI, aJ_vJ, fI_nodeS, aI_nodeS, aJ_nodeS, fI_modeS, aI_modeS, aJ_modeS, fI_pushS, aI_pushS, aJ_pushS, fI_giveS, aI_giveS, aJ_giveS, fI_gmodeS, aI_gmodeS, aJ_gmodeS, fI_childS, aI_childS, aJ_childS]) ((Fr.uI (L := Lm s) (v := -1) Fr.rf (by decide)).w (by have := M.2.2.2; show _ ≤ fI s 1789613740; omega) (by have := M.2.2.2; show _ ≤ fI s 1848333996; omega) (by have := M.2.2.2; show _ ≤ fI s 2024494764; omega))
  simp (config := {implicitDefEqProofs := false}) only [e_X11_operand, c_X11_operand_0, c_X11_operand_4, c_X11_operand_12, c_X11_operand_17, c_X11_operand_24, c_X11_operand_27, c_X11_operand_31, c_X11_operand_50, c_X11_operand_54, c_X11_operand_57, c_X11_operand_62, c_X11_operand_64, c_X11_operand_72, c_X11_operand_75, c_X11_operand_79, c_X11_operand_80, c_X11_operand_88, c_X11_operand_93, c_X11_operand_112, c_X11_operand_116, c_X11_operand_119, c_X11_operand_125, bnd_v, bnd_x, pu_s, pu_n, b01_T, b01_F, Int.reduceEq, Int.reduceLT, Int.reduceLE, Int.reduceNe, Nat.reduceEqDiff, Nat.reduceLeDiff, and_false, false_and, and_true, true_and, or_false, false_or, or_true, true_or, if_true, if_false, not_true_eq_false, not_false_eq_true, eq_self, ne_eq, reduceCtorEq, false_implies, true_implies, implies_true, inT, inA, rmO, rmA, rI_pI, rI_pJ, rI_pR, rI_qI, rI_qJ, rI_qR, rJ_pI, rJ_pJ, rJ_pR, rJ_qI, rJ_qJ, rJ_qR, rR_pI, rR_pJ, rR_pR, rR_qI, rR_qJ, rR_qR, sI_pI, sI_pJ, sI_pR, sI_qI, sI_qJ, sI_qR, sJ_pI, sJ_pJ, sJ_pR, sJ_qI, sJ_qJ, sJ_qR, sR_pI, sR_pJ, sR_pR, sR_qI, sR_qJ, sR_qR, hc_pI, hc_pJ, hc_pR, hc_qI, hc_qJ, hc_qR, hl_pI, hl_pJ, hl_pR, hl_qI, hl_qJ, hl_qR, hk_pI, hk_pJ, hk_pR, hk_qI, hk_qJ, hk_qR, hs_pI, hs_pJ, hs_pR, hs_qI, hs_qJ, hs_qR, hn_pI, hn_pJ, hn_pR, hn_qI, hn_qJ, hn_qR, hc_nO', hc_nA', hl_nO, hl_nA', hn_nO, hn_nA, hk_nO, hk_nA, hs_nO, hs_nA, rI_nO, rI_nA, rJ_nO, rJ_nA, rR_nO, rR_nA, Nat.le_refl, Y.1, fpl _ Y, fgt Y, fk0 _ Y, xk2 Y, xk3 Y, xk4 Y, im_op _ Y, tm_op _ Y, im_cp _ Y, tm_cp _ Y, im_ob _ Y, tm_ob _ Y, im_cb _ Y, tm_cb _ Y, im_co _ Y, tm_co _ Y, im_se _ Y, tm_se _ Y, im_cl _ Y, tm_cl _ Y, im_be _ Y, tm_be _ Y, iw_UPB _ Y, tw_UPB _ Y, iw_LWB _ Y, tw_LWB _ Y, f_isMonadic _ Y hxt, c1, c2, w1]
theorem opd_monF {k d : Nat} (J : JN hG sG p lx l PR Z0 ZM h s t o P O dl y) (G : FG s g 0) (hg : g ≤ 20 * o + 8) (c1 : ¬ kd l t = 1) (c2 : isMon l t) (qo : o = 24) : BN hG sG p l Z0 ZM (F (d + 280) 111747649 [vR p] h) s := by
  have M := JNX.m J
  have Y := JNX.x J
  have F0 := JNX.f J
  have hp := JNX.hp J
  have p0 := JNX.p0 J
  have ho24 : o ≤ 24 := Y.2.2.2.2.2.1
  have hxt : t < xc l := M.1.2.2
  have xl : xc l ≤ l.length := M.1.1.x
  have hl2 := M.1.1.2.1
  have rm := JNX.room J
  have lt6 : t < 1000000 := by omega
  obtain ⟨⟨k1, k2, k3, k4⟩, k5, k6, k7⟩ := JNX.c J
  have cn := JNX.c J
  have x1 : hk h < cLim := by unfold Room at rm; omega
  have x2 : hs h + 20 ≤ sLim := by unfold Room at rm; omega
  have x8 : hs h + 8 ≤ sLim := by omega
  have x9 : hs h + 9 ≤ sLim := by omega
  have pn : ¬ (p = hn h) := by omega
  obtain ⟨hg1, g0, hgo, hz⟩ := G.1
  have RC : Reach s (uI s 1772836524 (pl l t)) := Reach.one (by rw [hg1]; omega) (by have := M.2.2.1; omega) (step_of hg1 ⟨g0, by omega⟩ hgo (by decide) (mo_monF M cn ho24 hg1 g0 (by omega) hz c1 c2 qo))
  obtain ⟨e, h1, w1, w2, w3⟩ := f_openN (d + 273) Y (rm.le (by omega)) qo
  refine JNX.now J (Ev.rf (W := (· = p)) Y.i) (fun _ z => Or.inr z) (by omega) ⟨e, h1, ?_, w2, w3⟩ hxt RC (by simp (config := {implicitDefEqProofs := false}) only [bnd_v, bnd_x, pu_s, pu_n, b01_T, b01_F, Int.reduceEq, Int.reduceLT, Int.reduceLE, Int.reduceNe, Nat.reduceEqDiff, Nat.reduceLeDiff, and_false, false_and, and_true, true_and, or_false, false_or, or_true, true_or, if_true, if_false, not_true_eq_false, not_false_eq_true, eq_self, ne_eq, reduceCtorEq, false_implies, true_implies, implies_true, fI_uI, fI_uJ, fI_vI, fI_vJ, fJ_uI, fJ_uJ, fJ_vI, fJ_vJ, aI_uI, aI_uJ, aI_vI, aI_vJ, aJ_uI, aJ_uJ, aJ_vI, aJ_vJ, fI_nodeS, aI_nodeS, aJ_nodeS, fI_modeS, aI_modeS, aJ_modeS, fI_pushS, aI_pushS, aJ_pushS, fI_giveS, aI_giveS, aJ_giveS, fI_gmodeS, aI_gmodeS, aJ_gmodeS, fI_childS, aI_childS, aJ_childS]) ((Fr.uI (L := Lm s) (v := -1) Fr.rf (by decide)).w (by have := M.2.2.2; show _ ≤ fI s 1789613740; omega) (by have := M.2.2.2; show _ ≤ fI s 1848333996; omega) (by have := M.2.2.2; show _ ≤ fI s 2024494764; omega))
  simp (config := {implicitDefEqProofs := false}) only [e_X11_operand, c_X11_operand_0, c_X11_operand_4, c_X11_operand_12, c_X11_operand_17, c_X11_operand_24, c_X11_operand_27, c_X11_operand_31, c_X11_operand_50, c_X11_operand_54, c_X11_operand_57, c_X11_operand_62, c_X11_operand_64, c_X11_operand_72, c_X11_operand_75, c_X11_operand_79, c_X11_operand_80, c_X11_operand_88, c_X11_operand_93, c_X11_operand_112, c_X11_operand_116, c_X11_operand_119, c_X11_operand_125, bnd_v, bnd_x, pu_s, pu_n, b01_T, b01_F, Int.reduceEq, Int.reduceLT, Int.reduceLE, Int.reduceNe, Nat.reduceEqDiff, Nat.reduceLeDiff, and_false, false_and, and_true, true_and, or_false, false_or, or_true, true_or, if_true, if_false, not_true_eq_false, not_false_eq_true, eq_self, ne_eq, reduceCtorEq, false_implies, true_implies, implies_true, inT, inA, rmO, rmA, rI_pI, rI_pJ, rI_pR, rI_qI, rI_qJ, rI_qR, rJ_pI, rJ_pJ, rJ_pR, rJ_qI, rJ_qJ, rJ_qR, rR_pI, rR_pJ, rR_pR, rR_qI, rR_qJ, rR_qR, sI_pI, sI_pJ, sI_pR, sI_qI, sI_qJ, sI_qR, sJ_pI, sJ_pJ, sJ_pR, sJ_qI, sJ_qJ, sJ_qR, sR_pI, sR_pJ, sR_pR, sR_qI, sR_qJ, sR_qR, hc_pI, hc_pJ, hc_pR, hc_qI, hc_qJ, hc_qR, hl_pI, hl_pJ, hl_pR, hl_qI, hl_qJ, hl_qR, hk_pI, hk_pJ, hk_pR, hk_qI, hk_qJ, hk_qR, hs_pI, hs_pJ, hs_pR, hs_qI, hs_qJ, hs_qR, hn_pI, hn_pJ, hn_pR, hn_qI, hn_qJ, hn_qR, hc_nO', hc_nA', hl_nO, hl_nA', hn_nO, hn_nA, hk_nO, hk_nA, hs_nO, hs_nA, rI_nO, rI_nA, rJ_nO, rJ_nA, rR_nO, rR_nA, Nat.le_refl, Y.1, fpl _ Y, fgt Y, fk0 _ Y, xk2 Y, xk3 Y, xk4 Y, im_op _ Y, tm_op _ Y, im_cp _ Y, tm_cp _ Y, im_ob _ Y, tm_ob _ Y, im_cb _ Y, tm_cb _ Y, im_co _ Y, tm_co _ Y, im_se _ Y, tm_se _ Y, im_cl _ Y, tm_cl _ Y, im_be _ Y, tm_be _ Y, iw_UPB _ Y, tw_UPB _ Y, iw_LWB _ Y, tw_LWB _ Y, f_isMonadic _ Y hxt, c1, b01_p c2, f_xsignk _ Y hxt c2.1, w1]
theorem opd_lwb {k d : Nat} (I : OpdC 111747649 280 0 k) (J : JN hG sG p lx l PR Z0 ZM h s t o P O dl y) (G : FG s g 0) (hg : g ≤ 20 * o + 8) (hK : 24 ≤ o + (k + 1)) (hD : 60 * (24 - o) ≤ d) (c1 : kd l t = 1) (c2 : sI l t = 9) (qo : o < 24) : BN hG sG p l Z0 ZM (F (d + 280) 111747649 [vR p] h) s ∨ VOK R0 7 hG sG p lx l PR Z0 ZM (F (d + 280) 111747649 [vR p] h) h s t o P O y g (-1) := by
  have M := JNX.m J
  have Y := JNX.x J
  have F0 := JNX.f J
  have hp := JNX.hp J
  have p0 := JNX.p0 J
  have ho24 : o ≤ 24 := Y.2.2.2.2.2.1
  have hxt : t < xc l := M.1.2.2
  have xl : xc l ≤ l.length := M.1.1.x
  have hl2 := M.1.1.2.1
  have rm := JNX.room J
  have lt6 : t < 1000000 := by omega
  obtain ⟨⟨k1, k2, k3, k4⟩, k5, k6, k7⟩ := JNX.c J
  have cn := JNX.c J
  have x1 : hk h < cLim := by unfold Room at rm; omega
  have x2 : hs h + 20 ≤ sLim := by unfold Room at rm; omega
  have x8 : hs h + 8 ≤ sLim := by omega
  have x9 : hs h + 9 ≤ sLim := by omega
  have pn : ¬ (p = hn h) := by omega
  have hl1 : t + 1 < xc l := Y.next hxt (by rw [c1]; decide) (by rw [c1]; decide)
  have g0 := G.1.2.1
  have hg1 := G.1.1
  have gb0 := G.2.2.1
  obtain ⟨s1, RC, G1, GP1, f0, f1, f2, f3, md, ah, sg, op, at1, cn1⟩ := mso_lwb M cn ho24 G.1 (by omega) c1 c2 qo
  have x10 : hs h + 10 ≤ sLim := by omega
  have x11 : hs h + 11 ≤ sLim := by omega
  have X1 := ((XU.rf (W := (· = p)) Y F0).so rfl (o1 := o + 1) (by omega)).st rfl (t1 := t + 1) hl1
  have X2 := X1.mO (tg := 18) (n := 10) (by decide) (by decide)
  obtain ⟨h1, i1, i2, i3, i4, i5⟩ := x_newEdge (d + 271) X2.i (X2.rm rm (by omega)) (fz_nO) (pl l t) 0 (by decide)
  have i1 : F (d + 279) 138711331 [vR (hn h), vI (pl l t), vI 0] (nO (pI (pI h 1294223504 p ((o + 1 : Nat) : Int)) 1285834896 p ((t + 1 : Nat) : Int)) 18 10) = some (.inl none, h1) := i1
  have i3 : NF h1 (hn h) 18 (hn h + 1) (pl l t) (pt 923935819 0 z0) z0 zr := i3
  have i4 : AL h1 (hn h + 1) [] := i4
  have i5 : hn h1 = hn h + 1 + 2 := i5
  have X3 := X2.tr i2 (fun x z => ⟨by have z : x = hn h := z; omega, Or.inr (by have z : x = hn h := z; omega)⟩)
  have J1 := JNX.stepW J X3.1 (fun _ z => Or.inr z) X3.2.1 X3.2.2 G1 (by omega) (nmp_w c2 (by decide) (by decide)) (y1 := y + 3) (by omega) cn1
  have G2 : FG s1 g 0 := ⟨GP1, by rw [f1, sg]; exact G.2.1, by rw [f2, ah]; constructor <;> omega, by rw [f3, f1]; exact G.2.2.2⟩
  rcases I hG sG p lx l PR Z0 ZM h1 s1 (t + 1) (o + 1) P O dl (y + 3) g (d + 279) (by omega) J1 G2 (Or.inl f0) (by omega) (by omega) with B | B
  · left
    refine BN.up B RC (fun e h' hb => ?_)
    simp (config := {implicitDefEqProofs := false}) only [e_X11_operand, c_X11_operand_0, c_X11_operand_4, c_X11_operand_12, c_X11_operand_17, c_X11_operand_24, c_X11_operand_27, c_X11_operand_31, c_X11_operand_50, c_X11_operand_54, c_X11_operand_57, c_X11_operand_62, c_X11_operand_64, c_X11_operand_72, c_X11_operand_75, c_X11_operand_79, c_X11_operand_80, c_X11_operand_88, c_X11_operand_93, c_X11_operand_112, c_X11_operand_116, c_X11_operand_119, c_X11_operand_125, bnd_v, bnd_x, pu_s, pu_n, b01_T, b01_F, Int.reduceEq, Int.reduceLT, Int.reduceLE, Int.reduceNe, Nat.reduceEqDiff, Nat.reduceLeDiff, and_false, false_and, and_true, true_and, or_false, false_or, or_true, true_or, if_true, if_false, not_true_eq_false, not_false_eq_true, eq_self, ne_eq, reduceCtorEq, false_implies, true_implies, implies_true, inT, inA, rmO, rmA, rI_pI, rI_pJ, rI_pR, rI_qI, rI_qJ, rI_qR, rJ_pI, rJ_pJ, rJ_pR, rJ_qI, rJ_qJ, rJ_qR, rR_pI, rR_pJ, rR_pR, rR_qI, rR_qJ, rR_qR, sI_pI, sI_pJ, sI_pR, sI_qI, sI_qJ, sI_qR, sJ_pI, sJ_pJ, sJ_pR, sJ_qI, sJ_qJ, sJ_qR, sR_pI, sR_pJ, sR_pR, sR_qI, sR_qJ, sR_qR, hc_pI, hc_pJ, hc_pR, hc_qI, hc_qJ, hc_qR, hl_pI, hl_pJ, hl_pR, hl_qI, hl_qJ, hl_qR, hk_pI, hk_pJ, hk_pR, hk_qI, hk_qJ, hk_qR, hs_pI, hs_pJ, hs_pR, hs_qI, hs_qJ, hs_qR, hn_pI, hn_pJ, hn_pR, hn_qI, hn_qJ, hn_qR, hc_nO', hc_nA', hl_nO, hl_nA', hn_nO, hn_nA, hk_nO, hk_nA, hs_nO, hs_nA, rI_nO, rI_nA, rJ_nO, rJ_nA, rR_nO, rR_nA, Nat.le_refl, Y.1, fpl _ Y, fgt Y, fk0 _ Y, xk2 Y, xk3 Y, xk4 Y, im_op _ Y, tm_op _ Y, im_cp _ Y, tm_cp _ Y, im_ob _ Y, tm_ob _ Y, im_cb _ Y, tm_cb _ Y, im_co _ Y, tm_co _ Y, im_se _ Y, tm_se _ Y, im_cl _ Y, tm_cl _ Y, im_be _ Y, tm_be _ Y, iw_UPB _ Y, tw_UPB _ Y, iw_LWB _ Y, tw_LWB _ Y, f_isMonadic _ Y hxt, c1, c2, f_openY _ Y qo, w32_1 lt6, x1, x10, pn, i1, i3.1, X3.2.1.1, hb]
  · right
    obtain ⟨q2, i2', h3, s4, s2, t2, P2, O2, dl2, b1, ⟨b2, b2a, b2b, b2c⟩, b3, ⟨b4, b5⟩, b6, ⟨u3, b7⟩, b8, ⟨b9, b10⟩, ⟨b11, b12, b13, b14, b15⟩⟩ := B
    have M2 := JNX.m b3
    have cn2 := JNX.c b3
    have Y3 := JNX.x b3
    have hn3 : hn h1 ≤ hn h3 := b7.1.1
    have wq : ¬ Wp p (hn h) := fun z => by have := z.2; omega
    have wr : ¬ Wp p (hn h + 1) := fun z => by have := z.2; omega
    have al3 := b7.al X3.2.1.c wr (fun z => p0 (by have := z.1; omega)) i4
    have n3 := XU.nf i3 b7 X3.2.1.i wq (by decide)
    have nr : ¬ O2 (hn h + 1) := fun z => (b8.2.1 _ z).elim (fun w => by have := JNX.hi J w; omega) (fun w => by omega)
    have e6 := b6.2.2.1
    have ah2 : fI s2 2217432748 = fI s 2217432748 + 1 := by omega
    have at2 : aI s2 43 (fI s2 2217432748 - 1) = t := by
      rw [show fI s2 2217432748 - 1 = fI s 2217432748 by omega, ← at1]
      exact (b6.1.rk (c := 9) (by decide) k2 (by show _ < fI s1 2217432748; omega) (by decide) (by decide)).1
    have md2 := b6.2.2.2.1
    have posR : ∀ e, (R0 e ∨ Rg (fI s1 1915442860) (fI s2 1915442860) (hn h1) (hn h3) e) → fI s 1915442860 ≤ e.1 ∧ hn h + 3 ≤ e.2 ∧ e.1 < fI s2 1915442860 ∧ e.2 < hn h3 := fun e z => by
      rcases z with z | ⟨z1, z2, z3, z4⟩
      · exact z.elim
      · exact ⟨by omega, by omega, z2, z4⟩
    obtain ⟨h4, l1, l2, J5, K5, G5, E5, ⟨m1, m2, m3, m4, m5⟩, q5⟩ := pop_ok (d := d + 272) (k := 12) (a := 1) (tg := 0) (t0 := t) b3 b5 b4 (fun e z => by have := posR e z; refine ⟨?_, ?_, ?_⟩ <;> omega) (by omega) (by have := cn.2.2.1; omega) b6.2.1 n3 al3 (by omega) (by omega) (by omega) nr (by decide) (by decide) hxt rfl (fun h' s' a' n' => by obtain ⟨a1, a2, a3, a4, a5, a6, a7, a8⟩ := a'; obtain ⟨n1, n2, n3, n4, n5, n6⟩ := n'; have n7 := n4 923935819 (by decide); unfold APu; simp (config := {implicitDefEqProofs := false}) only [bnd_v, bnd_x, pu_s, pu_n, b01_T, b01_F, Int.reduceEq, Int.reduceLT, Int.reduceLE, Int.reduceNe, Nat.reduceEqDiff, Nat.reduceLeDiff, and_false, false_and, and_true, true_and, or_false, false_or, or_true, true_or, if_true, if_false, not_true_eq_false, not_false_eq_true, eq_self, ne_eq, reduceCtorEq, false_implies, true_implies, implies_true, a1, n1, pt, n7, a3]) (by unfold Ari; simp (config := {implicitDefEqProofs := false}) only [bnd_v, bnd_x, pu_s, pu_n, b01_T, b01_F, Int.reduceEq, Int.reduceLT, Int.reduceLE, Int.reduceNe, Nat.reduceEqDiff, Nat.reduceLeDiff, and_false, false_and, and_true, true_and, or_false, false_or, or_true, true_or, if_true, if_false, not_true_eq_false, not_false_eq_true, eq_self, ne_eq, reduceCtorEq, false_implies, true_implies, implies_true]) (by decide) (by decide) (fun f z => if_neg (fun w => z (by rw [w]; decide)))
    have hg2 : fI s2 2066437804 = g + 1 := b6.2.1
    have o2 : fI s2 1781225132 = ((o + 1 : Nat) : Int) := M2.2.1
    have mm2 : fI s2 1915442860 < 700 := by have := cn2.2.2.1; have := cn2.1; have := M2.1.a; have := M2.1.1.2.1; omega
    have EQ : Eqv g s2 (uI (uI (childS (vI' (vJ' (nodeS (uI s2 2217432748 (fI s2 2217432748 - 1)) 12 (t : Int)) 25 (fI s2 1915442860) (0)) 23 (fI s2 1915442860) 1) (fI s2 1915442860) (fI s2 2125158060)) 1781225132 (fI s2 1781225132 - 1)) 2125158060 (fI s2 1915442860)) := fun s5 H5 => oe_lwb M2.1.1 g0 (by omega) (by omega) at2 (by omega) (by have := cn2.2.1; have := cn2.1; have := M2.1.a; have := M2.1.1.2.1; omega) (by rw [b14, f2]; omega) cn2.1.1 mm2 (by omega) (by omega) c1 c2 H5
    have FR := (((NPr.rf (s := s) (v := -1) (w := -1)).fr (G1.1.mono Ln_Lk) (Or.inl rfl) (Or.inl rfl) : FrN (Ln s) (-1) (-1) s s1))
    have NR1 : NPr (-1) (-1) s s1 := ⟨FR, by have := G1.2.2.2.1; have := G1.2.1; omega, by have := G1.2.2.2.1; omega⟩
    have FR2 := NR1.fr b6.1 (Or.inl rfl) (Or.inl rfl)
    have gm := G1.2.2.2.1
    have gg := G1.2.1
    have NR2 : NPr (-1) (-1) s s2 := ⟨FR2, by omega, by have := b6.2.2.2; omega⟩
    have FR3 := NR2.fr (G5.1.mono Ln_Lk) (Or.inl rfl) (Or.inl rfl)
    have g5 := G5.2.2.2
    have g51 := G5.2.1
    have cl := f_close (d + 278) l2 (o' := o) rfl
    have p4 := l2.1
    have hn5 := E5.1.1
    have EE := (X3.1.mono (W' := Wp p) (fun x _ z => by rw [z]; exact ⟨Nat.le_refl _, by omega⟩) (Nat.le_refl _)).tr b7 (fun _ _ z => z)
    have EF := EE.tr E5 (fun x hx z => by
      rcases z with z | z
      · rw [z]; exact ⟨Nat.le_refl _, by omega⟩
      · omega)
    refine ⟨hn h, fI s2 1915442860, _, s4, (uI (uI (childS (vI' (vJ' (nodeS (uI s2 2217432748 (fI s2 2217432748 - 1)) 12 (t : Int)) 25 (fI s2 1915442860) (0)) 23 (fI s2 1915442860) 1) (fI s2 1915442860) (fI s2 2125158060)) 1781225132 (fI s2 1781225132 - 1)) 2125158060 (fI s2 1915442860)), t2, P2, _, dl2, ?_, ⟨RC.tr b2, b2a, b2b, b2c.tr EQ⟩, J5, ⟨K5.up (fun e z => ?_), m5⟩, ⟨FR3, g51, ?_, ?_⟩, ⟨_, EF⟩, b8.own (by omega) (Nat.le_refl _) (by omega), ⟨by omega, ?_⟩, ⟨?_, ?_, ?_, ?_, ?_⟩⟩
    · have n31 := n3.1
      simp (config := {implicitDefEqProofs := false}) only [e_X11_operand, c_X11_operand_0, c_X11_operand_4, c_X11_operand_12, c_X11_operand_17, c_X11_operand_24, c_X11_operand_27, c_X11_operand_31, c_X11_operand_50, c_X11_operand_54, c_X11_operand_57, c_X11_operand_62, c_X11_operand_64, c_X11_operand_72, c_X11_operand_75, c_X11_operand_79, c_X11_operand_80, c_X11_operand_88, c_X11_operand_93, c_X11_operand_112, c_X11_operand_116, c_X11_operand_119, c_X11_operand_125, bnd_v, bnd_x, pu_s, pu_n, b01_T, b01_F, Int.reduceEq, Int.reduceLT, Int.reduceLE, Int.reduceNe, Nat.reduceEqDiff, Nat.reduceLeDiff, and_false, false_and, and_true, true_and, or_false, false_or, or_true, true_or, if_true, if_false, not_true_eq_false, not_false_eq_true, eq_self, ne_eq, reduceCtorEq, false_implies, true_implies, implies_true, inT, inA, rmO, rmA, rI_pI, rI_pJ, rI_pR, rI_qI, rI_qJ, rI_qR, rJ_pI, rJ_pJ, rJ_pR, rJ_qI, rJ_qJ, rJ_qR, rR_pI, rR_pJ, rR_pR, rR_qI, rR_qJ, rR_qR, sI_pI, sI_pJ, sI_pR, sI_qI, sI_qJ, sI_qR, sJ_pI, sJ_pJ, sJ_pR, sJ_qI, sJ_qJ, sJ_qR, sR_pI, sR_pJ, sR_pR, sR_qI, sR_qJ, sR_qR, hc_pI, hc_pJ, hc_pR, hc_qI, hc_qJ, hc_qR, hl_pI, hl_pJ, hl_pR, hl_qI, hl_qJ, hl_qR, hk_pI, hk_pJ, hk_pR, hk_qI, hk_qJ, hk_qR, hs_pI, hs_pJ, hs_pR, hs_qI, hs_qJ, hs_qR, hn_pI, hn_pJ, hn_pR, hn_qI, hn_qJ, hn_qR, hc_nO', hc_nA', hl_nO, hl_nA', hn_nO, hn_nA, hk_nO, hk_nA, hs_nO, hs_nA, rI_nO, rI_nA, rJ_nO, rJ_nA, rR_nO, rR_nA, Nat.le_refl, Y.1, fpl _ Y, fgt Y, fk0 _ Y, xk2 Y, xk3 Y, xk4 Y, im_op _ Y, tm_op _ Y, im_cp _ Y, tm_cp _ Y, im_ob _ Y, tm_ob _ Y, im_cb _ Y, tm_cb _ Y, im_co _ Y, tm_co _ Y, im_se _ Y, tm_se _ Y, im_cl _ Y, tm_cl _ Y, im_be _ Y, tm_be _ Y, iw_UPB _ Y, tw_UPB _ Y, iw_LWB _ Y, tw_LWB _ Y, f_isMonadic _ Y hxt, c1, c2, f_openY _ Y qo, w32_1 lt6, x1, x10, pn, i1, i3.1, X3.2.1.1, b1, n31, dq_16, l1, cl, p4, Y3.1]
    · rcases z with z | z
      · right
        have := posR e z
        exact ⟨by omega, by rw [m1]; omega, by omega, by omega⟩
      · right
        rw [z]
        exact ⟨by show fI s 1915442860 ≤ fI s2 1915442860; omega, by rw [m1]; show fI s2 1915442860 < fI s2 1915442860 + 1; omega, Nat.le_refl _, by show hn h < _; omega⟩
    · rw [m2, m3, m4]; omega
    · rw [m1]; have := b6.2.2.2; omega
    · rw [m1]; omega
    · simp (config := {implicitDefEqProofs := false}) only [bnd_v, bnd_x, pu_s, pu_n, b01_T, b01_F, Int.reduceEq, Int.reduceLT, Int.reduceLE, Int.reduceNe, Nat.reduceEqDiff, Nat.reduceLeDiff, and_false, false_and, and_true, true_and, or_false, false_or, or_true, true_or, if_true, if_false, not_true_eq_false, not_false_eq_true, eq_self, ne_eq, reduceCtorEq, false_implies, true_implies, implies_true, fI_uI, fI_uJ, fI_vI, fI_vJ, fJ_uI, fJ_uJ, fJ_vI, fJ_vJ, aI_uI, aI_uJ, aI_vI, aI_vJ, aJ_uI, aJ_uJ, aJ_vI, aJ_vJ, fI_nodeS, aI_nodeS, aJ_nodeS, fI_modeS, aI_modeS, aJ_modeS, fI_pushS, aI_pushS, aJ_pushS, fI_giveS, aI_giveS, aJ_giveS, fI_gmodeS, aI_gmodeS, aJ_gmodeS, fI_childS, aI_childS, aJ_childS, b11]
    · simp (config := {implicitDefEqProofs := false}) only [bnd_v, bnd_x, pu_s, pu_n, b01_T, b01_F, Int.reduceEq, Int.reduceLT, Int.reduceLE, Int.reduceNe, Nat.reduceEqDiff, Nat.reduceLeDiff, and_false, false_and, and_true, true_and, or_false, false_or, or_true, true_or, if_true, if_false, not_true_eq_false, not_false_eq_true, eq_self, ne_eq, reduceCtorEq, false_implies, true_implies, implies_true, fI_uI, fI_uJ, fI_vI, fI_vJ, fJ_uI, fJ_uJ, fJ_vI, fJ_vJ, aI_uI, aI_uJ, aI_vI, aI_vJ, aJ_uI, aJ_uJ, aJ_vI, aJ_vJ, fI_nodeS, aI_nodeS, aJ_nodeS, fI_modeS, aI_modeS, aJ_modeS, fI_pushS, aI_pushS, aJ_pushS, fI_giveS, aI_giveS, aJ_giveS, fI_gmodeS, aI_gmodeS, aJ_gmodeS, fI_childS, aI_childS, aJ_childS, b12]
    · simp (config := {implicitDefEqProofs := false}) only [bnd_v, bnd_x, pu_s, pu_n, b01_T, b01_F, Int.reduceEq, Int.reduceLT, Int.reduceLE, Int.reduceNe, Nat.reduceEqDiff, Nat.reduceLeDiff, and_false, false_and, and_true, true_and, or_false, false_or, or_true, true_or, if_true, if_false, not_true_eq_false, not_false_eq_true, eq_self, ne_eq, reduceCtorEq, false_implies, true_implies, implies_true, fI_uI, fI_uJ, fI_vI, fI_vJ, fJ_uI, fJ_uJ, fJ_vI, fJ_vJ, aI_uI, aI_uJ, aI_vI, aI_vJ, aJ_uI, aJ_uJ, aJ_vI, aJ_vJ, fI_nodeS, aI_nodeS, aJ_nodeS, fI_modeS, aI_modeS, aJ_modeS, fI_pushS, aI_pushS, aJ_pushS, fI_giveS, aI_giveS, aJ_giveS, fI_gmodeS, aI_gmodeS, aJ_gmodeS, fI_childS, aI_childS, aJ_childS, b13, f1]
    · simp (config := {implicitDefEqProofs := false}) only [bnd_v, bnd_x, pu_s, pu_n, b01_T, b01_F, Int.reduceEq, Int.reduceLT, Int.reduceLE, Int.reduceNe, Nat.reduceEqDiff, Nat.reduceLeDiff, and_false, false_and, and_true, true_and, or_false, false_or, or_true, true_or, if_true, if_false, not_true_eq_false, not_false_eq_true, eq_self, ne_eq, reduceCtorEq, false_implies, true_implies, implies_true, fI_uI, fI_uJ, fI_vI, fI_vJ, fJ_uI, fJ_uJ, fJ_vI, fJ_vJ, aI_uI, aI_uJ, aI_vI, aI_vJ, aJ_uI, aJ_uJ, aJ_vI, aJ_vJ, fI_nodeS, aI_nodeS, aJ_nodeS, fI_modeS, aI_modeS, aJ_modeS, fI_pushS, aI_pushS, aJ_pushS, fI_giveS, aI_giveS, aJ_giveS, fI_gmodeS, aI_gmodeS, aJ_gmodeS, fI_childS, aI_childS, aJ_childS, b14, f2]
    · simp (config := {implicitDefEqProofs := false}) only [bnd_v, bnd_x, pu_s, pu_n, b01_T, b01_F, Int.reduceEq, Int.reduceLT, Int.reduceLE, Int.reduceNe, Nat.reduceEqDiff, Nat.reduceLeDiff, and_false, false_and, and_true, true_and, or_false, false_or, or_true, true_or, if_true, if_false, not_true_eq_false, not_false_eq_true, eq_self, ne_eq, reduceCtorEq, false_implies, true_implies, implies_true, fI_uI, fI_uJ, fI_vI, fI_vJ, fJ_uI, fJ_uJ, fJ_vI, fJ_vJ, aI_uI, aI_uJ, aI_vI, aI_vJ, aJ_uI, aJ_uJ, aJ_vI, aJ_vJ, fI_nodeS, aI_nodeS, aJ_nodeS, fI_modeS, aI_modeS, aJ_modeS, fI_pushS, aI_pushS, aJ_pushS, fI_giveS, aI_giveS, aJ_giveS, fI_gmodeS, aI_gmodeS, aJ_gmodeS, fI_childS, aI_childS, aJ_childS, b15, f3]
theorem opd_upb {k d : Nat} (I : OpdC 111747649 280 0 k) (J : JN hG sG p lx l PR Z0 ZM h s t o P O dl y) (G : FG s g 0) (hg : g ≤ 20 * o + 8) (hK : 24 ≤ o + (k + 1)) (hD : 60 * (24 - o) ≤ d) (c1 : kd l t = 1) (c2 : sI l t = 10) (qo : o < 24) : BN hG sG p l Z0 ZM (F (d + 280) 111747649 [vR p] h) s ∨ VOK R0 7 hG sG p lx l PR Z0 ZM (F (d + 280) 111747649 [vR p] h) h s t o P O y g (-1) := by
  have M := JNX.m J
  have Y := JNX.x J
  have F0 := JNX.f J
  have hp := JNX.hp J
  have p0 := JNX.p0 J
  have ho24 : o ≤ 24 := Y.2.2.2.2.2.1
  have hxt : t < xc l := M.1.2.2
  have xl : xc l ≤ l.length := M.1.1.x
  have hl2 := M.1.1.2.1
  have rm := JNX.room J
  have lt6 : t < 1000000 := by omega
  obtain ⟨⟨k1, k2, k3, k4⟩, k5, k6, k7⟩ := JNX.c J
  have cn := JNX.c J
  have x1 : hk h < cLim := by unfold Room at rm; omega
  have x2 : hs h + 20 ≤ sLim := by unfold Room at rm; omega
  have x8 : hs h + 8 ≤ sLim := by omega
  have x9 : hs h + 9 ≤ sLim := by omega
  have pn : ¬ (p = hn h) := by omega
  have hl1 : t + 1 < xc l := Y.next hxt (by rw [c1]; decide) (by rw [c1]; decide)
  have g0 := G.1.2.1
  have hg1 := G.1.1
  have gb0 := G.2.2.1
  obtain ⟨s1, RC, G1, GP1, f0, f1, f2, f3, md, ah, sg, op, at1, cn1⟩ := mso_upb M cn ho24 G.1 (by omega) c1 c2 qo
  have x10 : hs h + 10 ≤ sLim := by omega
  have x11 : hs h + 11 ≤ sLim := by omega
  have X1 := ((XU.rf (W := (· = p)) Y F0).so rfl (o1 := o + 1) (by omega)).st rfl (t1 := t + 1) hl1
  have X2 := X1.mO (tg := 18) (n := 10) (by decide) (by decide)
  obtain ⟨h1, i1, i2, i3, i4, i5⟩ := x_newEdge (d + 271) X2.i (X2.rm rm (by omega)) (fz_nO) (pl l t) 1 (by decide)
  have i1 : F (d + 279) 138711331 [vR (hn h), vI (pl l t), vI 1] (nO (pI (pI h 1294223504 p ((o + 1 : Nat) : Int)) 1285834896 p ((t + 1 : Nat) : Int)) 18 10) = some (.inl none, h1) := i1
  have i3 : NF h1 (hn h) 18 (hn h + 1) (pl l t) (pt 923935819 1 z0) z0 zr := i3
  have i4 : AL h1 (hn h + 1) [] := i4
  have i5 : hn h1 = hn h + 1 + 2 := i5
  have X3 := X2.tr i2 (fun x z => ⟨by have z : x = hn h := z; omega, Or.inr (by have z : x = hn h := z; omega)⟩)
  have J1 := JNX.stepW J X3.1 (fun _ z => Or.inr z) X3.2.1 X3.2.2 G1 (by omega) (nmp_w c2 (by decide) (by decide)) (y1 := y + 3) (by omega) cn1
  have G2 : FG s1 g 0 := ⟨GP1, by rw [f1, sg]; exact G.2.1, by rw [f2, ah]; constructor <;> omega, by rw [f3, f1]; exact G.2.2.2⟩
  rcases I hG sG p lx l PR Z0 ZM h1 s1 (t + 1) (o + 1) P O dl (y + 3) g (d + 279) (by omega) J1 G2 (Or.inl f0) (by omega) (by omega) with B | B
  · left
    refine BN.up B RC (fun e h' hb => ?_)
    simp (config := {implicitDefEqProofs := false}) only [e_X11_operand, c_X11_operand_0, c_X11_operand_4, c_X11_operand_12, c_X11_operand_17, c_X11_operand_24, c_X11_operand_27, c_X11_operand_31, c_X11_operand_50, c_X11_operand_54, c_X11_operand_57, c_X11_operand_62, c_X11_operand_64, c_X11_operand_72, c_X11_operand_75, c_X11_operand_79, c_X11_operand_80, c_X11_operand_88, c_X11_operand_93, c_X11_operand_112, c_X11_operand_116, c_X11_operand_119, c_X11_operand_125, bnd_v, bnd_x, pu_s, pu_n, b01_T, b01_F, Int.reduceEq, Int.reduceLT, Int.reduceLE, Int.reduceNe, Nat.reduceEqDiff, Nat.reduceLeDiff, and_false, false_and, and_true, true_and, or_false, false_or, or_true, true_or, if_true, if_false, not_true_eq_false, not_false_eq_true, eq_self, ne_eq, reduceCtorEq, false_implies, true_implies, implies_true, inT, inA, rmO, rmA, rI_pI, rI_pJ, rI_pR, rI_qI, rI_qJ, rI_qR, rJ_pI, rJ_pJ, rJ_pR, rJ_qI, rJ_qJ, rJ_qR, rR_pI, rR_pJ, rR_pR, rR_qI, rR_qJ, rR_qR, sI_pI, sI_pJ, sI_pR, sI_qI, sI_qJ, sI_qR, sJ_pI, sJ_pJ, sJ_pR, sJ_qI, sJ_qJ, sJ_qR, sR_pI, sR_pJ, sR_pR, sR_qI, sR_qJ, sR_qR, hc_pI, hc_pJ, hc_pR, hc_qI, hc_qJ, hc_qR, hl_pI, hl_pJ, hl_pR, hl_qI, hl_qJ, hl_qR, hk_pI, hk_pJ, hk_pR, hk_qI, hk_qJ, hk_qR, hs_pI, hs_pJ, hs_pR, hs_qI, hs_qJ, hs_qR, hn_pI, hn_pJ, hn_pR, hn_qI, hn_qJ, hn_qR, hc_nO', hc_nA', hl_nO, hl_nA', hn_nO, hn_nA, hk_nO, hk_nA, hs_nO, hs_nA, rI_nO, rI_nA, rJ_nO, rJ_nA, rR_nO, rR_nA, Nat.le_refl, Y.1, fpl _ Y, fgt Y, fk0 _ Y, xk2 Y, xk3 Y, xk4 Y, im_op _ Y, tm_op _ Y, im_cp _ Y, tm_cp _ Y, im_ob _ Y, tm_ob _ Y, im_cb _ Y, tm_cb _ Y, im_co _ Y, tm_co _ Y, im_se _ Y, tm_se _ Y, im_cl _ Y, tm_cl _ Y, im_be _ Y, tm_be _ Y, iw_UPB _ Y, tw_UPB _ Y, iw_LWB _ Y, tw_LWB _ Y, f_isMonadic _ Y hxt, c1, c2, f_openY _ Y qo, w32_1 lt6, x1, x10, pn, i1, i3.1, X3.2.1.1, hb]
  · right
    obtain ⟨q2, i2', h3, s4, s2, t2, P2, O2, dl2, b1, ⟨b2, b2a, b2b, b2c⟩, b3, ⟨b4, b5⟩, b6, ⟨u3, b7⟩, b8, ⟨b9, b10⟩, ⟨b11, b12, b13, b14, b15⟩⟩ := B
    have M2 := JNX.m b3
    have cn2 := JNX.c b3
    have Y3 := JNX.x b3
    have hn3 : hn h1 ≤ hn h3 := b7.1.1
    have wq : ¬ Wp p (hn h) := fun z => by have := z.2; omega
    have wr : ¬ Wp p (hn h + 1) := fun z => by have := z.2; omega
    have al3 := b7.al X3.2.1.c wr (fun z => p0 (by have := z.1; omega)) i4
    have n3 := XU.nf i3 b7 X3.2.1.i wq (by decide)
    have nr : ¬ O2 (hn h + 1) := fun z => (b8.2.1 _ z).elim (fun w => by have := JNX.hi J w; omega) (fun w => by omega)
    have e6 := b6.2.2.1
    have ah2 : fI s2 2217432748 = fI s 2217432748 + 1 := by omega
    have at2 : aI s2 43 (fI s2 2217432748 - 1) = t := by
      rw [show fI s2 2217432748 - 1 = fI s 2217432748 by omega, ← at1]
      exact (b6.1.rk (c := 9) (by decide) k2 (by show _ < fI s1 2217432748; omega) (by decide) (by decide)).1
    have md2 := b6.2.2.2.1
    have posR : ∀ e, (R0 e ∨ Rg (fI s1 1915442860) (fI s2 1915442860) (hn h1) (hn h3) e) → fI s 1915442860 ≤ e.1 ∧ hn h + 3 ≤ e.2 ∧ e.1 < fI s2 1915442860 ∧ e.2 < hn h3 := fun e z => by
      rcases z with z | ⟨z1, z2, z3, z4⟩
      · exact z.elim
      · exact ⟨by omega, by omega, z2, z4⟩
    obtain ⟨h4, l1, l2, J5, K5, G5, E5, ⟨m1, m2, m3, m4, m5⟩, q5⟩ := pop_ok (d := d + 272) (k := 12) (a := 2) (tg := 0) (t0 := t) b3 b5 b4 (fun e z => by have := posR e z; refine ⟨?_, ?_, ?_⟩ <;> omega) (by omega) (by have := cn.2.2.1; omega) b6.2.1 n3 al3 (by omega) (by omega) (by omega) nr (by decide) (by decide) hxt rfl (fun h' s' a' n' => by obtain ⟨a1, a2, a3, a4, a5, a6, a7, a8⟩ := a'; obtain ⟨n1, n2, n3, n4, n5, n6⟩ := n'; have n7 := n4 923935819 (by decide); unfold APu; simp (config := {implicitDefEqProofs := false}) only [bnd_v, bnd_x, pu_s, pu_n, b01_T, b01_F, Int.reduceEq, Int.reduceLT, Int.reduceLE, Int.reduceNe, Nat.reduceEqDiff, Nat.reduceLeDiff, and_false, false_and, and_true, true_and, or_false, false_or, or_true, true_or, if_true, if_false, not_true_eq_false, not_false_eq_true, eq_self, ne_eq, reduceCtorEq, false_implies, true_implies, implies_true, a1, n1, pt, n7, a3]) (by unfold Ari; simp (config := {implicitDefEqProofs := false}) only [bnd_v, bnd_x, pu_s, pu_n, b01_T, b01_F, Int.reduceEq, Int.reduceLT, Int.reduceLE, Int.reduceNe, Nat.reduceEqDiff, Nat.reduceLeDiff, and_false, false_and, and_true, true_and, or_false, false_or, or_true, true_or, if_true, if_false, not_true_eq_false, not_false_eq_true, eq_self, ne_eq, reduceCtorEq, false_implies, true_implies, implies_true]) (by decide) (by decide) (fun f z => if_neg (fun w => z (by rw [w]; decide)))
    have hg2 : fI s2 2066437804 = g + 1 := b6.2.1
    have o2 : fI s2 1781225132 = ((o + 1 : Nat) : Int) := M2.2.1
    have mm2 : fI s2 1915442860 < 700 := by have := cn2.2.2.1; have := cn2.1; have := M2.1.a; have := M2.1.1.2.1; omega
    have EQ : Eqv g s2 (uI (uI (childS (vI' (vJ' (nodeS (uI s2 2217432748 (fI s2 2217432748 - 1)) 12 (t : Int)) 25 (fI s2 1915442860) (0)) 23 (fI s2 1915442860) 2) (fI s2 1915442860) (fI s2 2125158060)) 1781225132 (fI s2 1781225132 - 1)) 2125158060 (fI s2 1915442860)) := fun s5 H5 => oe_upb M2.1.1 g0 (by omega) (by omega) at2 (by omega) (by have := cn2.2.1; have := cn2.1; have := M2.1.a; have := M2.1.1.2.1; omega) (by rw [b14, f2]; omega) cn2.1.1 mm2 (by omega) (by omega) c1 (by rw [c2]; decide) H5
    have FR := (((NPr.rf (s := s) (v := -1) (w := -1)).fr (G1.1.mono Ln_Lk) (Or.inl rfl) (Or.inl rfl) : FrN (Ln s) (-1) (-1) s s1))
    have NR1 : NPr (-1) (-1) s s1 := ⟨FR, by have := G1.2.2.2.1; have := G1.2.1; omega, by have := G1.2.2.2.1; omega⟩
    have FR2 := NR1.fr b6.1 (Or.inl rfl) (Or.inl rfl)
    have gm := G1.2.2.2.1
    have gg := G1.2.1
    have NR2 : NPr (-1) (-1) s s2 := ⟨FR2, by omega, by have := b6.2.2.2; omega⟩
    have FR3 := NR2.fr (G5.1.mono Ln_Lk) (Or.inl rfl) (Or.inl rfl)
    have g5 := G5.2.2.2
    have g51 := G5.2.1
    have cl := f_close (d + 278) l2 (o' := o) rfl
    have p4 := l2.1
    have hn5 := E5.1.1
    have EE := (X3.1.mono (W' := Wp p) (fun x _ z => by rw [z]; exact ⟨Nat.le_refl _, by omega⟩) (Nat.le_refl _)).tr b7 (fun _ _ z => z)
    have EF := EE.tr E5 (fun x hx z => by
      rcases z with z | z
      · rw [z]; exact ⟨Nat.le_refl _, by omega⟩
      · omega)
    refine ⟨hn h, fI s2 1915442860, _, s4, (uI (uI (childS (vI' (vJ' (nodeS (uI s2 2217432748 (fI s2 2217432748 - 1)) 12 (t : Int)) 25 (fI s2 1915442860) (0)) 23 (fI s2 1915442860) 2) (fI s2 1915442860) (fI s2 2125158060)) 1781225132 (fI s2 1781225132 - 1)) 2125158060 (fI s2 1915442860)), t2, P2, _, dl2, ?_, ⟨RC.tr b2, b2a, b2b, b2c.tr EQ⟩, J5, ⟨K5.up (fun e z => ?_), m5⟩, ⟨FR3, g51, ?_, ?_⟩, ⟨_, EF⟩, b8.own (by omega) (Nat.le_refl _) (by omega), ⟨by omega, ?_⟩, ⟨?_, ?_, ?_, ?_, ?_⟩⟩
    · have n31 := n3.1
      simp (config := {implicitDefEqProofs := false}) only [e_X11_operand, c_X11_operand_0, c_X11_operand_4, c_X11_operand_12, c_X11_operand_17, c_X11_operand_24, c_X11_operand_27, c_X11_operand_31, c_X11_operand_50, c_X11_operand_54, c_X11_operand_57, c_X11_operand_62, c_X11_operand_64, c_X11_operand_72, c_X11_operand_75, c_X11_operand_79, c_X11_operand_80, c_X11_operand_88, c_X11_operand_93, c_X11_operand_112, c_X11_operand_116, c_X11_operand_119, c_X11_operand_125, bnd_v, bnd_x, pu_s, pu_n, b01_T, b01_F, Int.reduceEq, Int.reduceLT, Int.reduceLE, Int.reduceNe, Nat.reduceEqDiff, Nat.reduceLeDiff, and_false, false_and, and_true, true_and, or_false, false_or, or_true, true_or, if_true, if_false, not_true_eq_false, not_false_eq_true, eq_self, ne_eq, reduceCtorEq, false_implies, true_implies, implies_true, inT, inA, rmO, rmA, rI_pI, rI_pJ, rI_pR, rI_qI, rI_qJ, rI_qR, rJ_pI, rJ_pJ, rJ_pR, rJ_qI, rJ_qJ, rJ_qR, rR_pI, rR_pJ, rR_pR, rR_qI, rR_qJ, rR_qR, sI_pI, sI_pJ, sI_pR, sI_qI, sI_qJ, sI_qR, sJ_pI, sJ_pJ, sJ_pR, sJ_qI, sJ_qJ, sJ_qR, sR_pI, sR_pJ, sR_pR, sR_qI, sR_qJ, sR_qR, hc_pI, hc_pJ, hc_pR, hc_qI, hc_qJ, hc_qR, hl_pI, hl_pJ, hl_pR, hl_qI, hl_qJ, hl_qR, hk_pI, hk_pJ, hk_pR, hk_qI, hk_qJ, hk_qR, hs_pI, hs_pJ, hs_pR, hs_qI, hs_qJ, hs_qR, hn_pI, hn_pJ, hn_pR, hn_qI, hn_qJ, hn_qR, hc_nO', hc_nA', hl_nO, hl_nA', hn_nO, hn_nA, hk_nO, hk_nA, hs_nO, hs_nA, rI_nO, rI_nA, rJ_nO, rJ_nA, rR_nO, rR_nA, Nat.le_refl, Y.1, fpl _ Y, fgt Y, fk0 _ Y, xk2 Y, xk3 Y, xk4 Y, im_op _ Y, tm_op _ Y, im_cp _ Y, tm_cp _ Y, im_ob _ Y, tm_ob _ Y, im_cb _ Y, tm_cb _ Y, im_co _ Y, tm_co _ Y, im_se _ Y, tm_se _ Y, im_cl _ Y, tm_cl _ Y, im_be _ Y, tm_be _ Y, iw_UPB _ Y, tw_UPB _ Y, iw_LWB _ Y, tw_LWB _ Y, f_isMonadic _ Y hxt, c1, c2, f_openY _ Y qo, w32_1 lt6, x1, x10, pn, i1, i3.1, X3.2.1.1, b1, n31, dq_16, l1, cl, p4, Y3.1]
    · rcases z with z | z
      · right
        have := posR e z
        exact ⟨by omega, by rw [m1]; omega, by omega, by omega⟩
      · right
        rw [z]
        exact ⟨by show fI s 1915442860 ≤ fI s2 1915442860; omega, by rw [m1]; show fI s2 1915442860 < fI s2 1915442860 + 1; omega, Nat.le_refl _, by show hn h < _; omega⟩
    · rw [m2, m3, m4]; omega
    · rw [m1]; have := b6.2.2.2; omega
    · rw [m1]; omega
    · simp (config := {implicitDefEqProofs := false}) only [bnd_v, bnd_x, pu_s, pu_n, b01_T, b01_F, Int.reduceEq, Int.reduceLT, Int.reduceLE, Int.reduceNe, Nat.reduceEqDiff, Nat.reduceLeDiff, and_false, false_and, and_true, true_and, or_false, false_or, or_true, true_or, if_true, if_false, not_true_eq_false, not_false_eq_true, eq_self, ne_eq, reduceCtorEq, false_implies, true_implies, implies_true, fI_uI, fI_uJ, fI_vI, fI_vJ, fJ_uI, fJ_uJ, fJ_vI, fJ_vJ, aI_uI, aI_uJ, aI_vI, aI_vJ, aJ_uI, aJ_uJ, aJ_vI, aJ_vJ, fI_nodeS, aI_nodeS, aJ_nodeS, fI_modeS, aI_modeS, aJ_modeS, fI_pushS, aI_pushS, aJ_pushS, fI_giveS, aI_giveS, aJ_giveS, fI_gmodeS, aI_gmodeS, aJ_gmodeS, fI_childS, aI_childS, aJ_childS, b11]
    · simp (config := {implicitDefEqProofs := false}) only [bnd_v, bnd_x, pu_s, pu_n, b01_T, b01_F, Int.reduceEq, Int.reduceLT, Int.reduceLE, Int.reduceNe, Nat.reduceEqDiff, Nat.reduceLeDiff, and_false, false_and, and_true, true_and, or_false, false_or, or_true, true_or, if_true, if_false, not_true_eq_false, not_false_eq_true, eq_self, ne_eq, reduceCtorEq, false_implies, true_implies, implies_true, fI_uI, fI_uJ, fI_vI, fI_vJ, fJ_uI, fJ_uJ, fJ_vI, fJ_vJ, aI_uI, aI_uJ, aI_vI, aI_vJ, aJ_uI, aJ_uJ, aJ_vI, aJ_vJ, fI_nodeS, aI_nodeS, aJ_nodeS, fI_modeS, aI_modeS, aJ_modeS, fI_pushS, aI_pushS, aJ_pushS, fI_giveS, aI_giveS, aJ_giveS, fI_gmodeS, aI_gmodeS, aJ_gmodeS, fI_childS, aI_childS, aJ_childS, b12]
    · simp (config := {implicitDefEqProofs := false}) only [bnd_v, bnd_x, pu_s, pu_n, b01_T, b01_F, Int.reduceEq, Int.reduceLT, Int.reduceLE, Int.reduceNe, Nat.reduceEqDiff, Nat.reduceLeDiff, and_false, false_and, and_true, true_and, or_false, false_or, or_true, true_or, if_true, if_false, not_true_eq_false, not_false_eq_true, eq_self, ne_eq, reduceCtorEq, false_implies, true_implies, implies_true, fI_uI, fI_uJ, fI_vI, fI_vJ, fJ_uI, fJ_uJ, fJ_vI, fJ_vJ, aI_uI, aI_uJ, aI_vI, aI_vJ, aJ_uI, aJ_uJ, aJ_vI, aJ_vJ, fI_nodeS, aI_nodeS, aJ_nodeS, fI_modeS, aI_modeS, aJ_modeS, fI_pushS, aI_pushS, aJ_pushS, fI_giveS, aI_giveS, aJ_giveS, fI_gmodeS, aI_gmodeS, aJ_gmodeS, fI_childS, aI_childS, aJ_childS, b13, f1]
    · simp (config := {implicitDefEqProofs := false}) only [bnd_v, bnd_x, pu_s, pu_n, b01_T, b01_F, Int.reduceEq, Int.reduceLT, Int.reduceLE, Int.reduceNe, Nat.reduceEqDiff, Nat.reduceLeDiff, and_false, false_and, and_true, true_and, or_false, false_or, or_true, true_or, if_true, if_false, not_true_eq_false, not_false_eq_true, eq_self, ne_eq, reduceCtorEq, false_implies, true_implies, implies_true, fI_uI, fI_uJ, fI_vI, fI_vJ, fJ_uI, fJ_uJ, fJ_vI, fJ_vJ, aI_uI, aI_uJ, aI_vI, aI_vJ, aJ_uI, aJ_uJ, aJ_vI, aJ_vJ, fI_nodeS, aI_nodeS, aJ_nodeS, fI_modeS, aI_modeS, aJ_modeS, fI_pushS, aI_pushS, aJ_pushS, fI_giveS, aI_giveS, aJ_giveS, fI_gmodeS, aI_gmodeS, aJ_gmodeS, fI_childS, aI_childS, aJ_childS, b14, f2]
    · simp (config := {implicitDefEqProofs := false}) only [bnd_v, bnd_x, pu_s, pu_n, b01_T, b01_F, Int.reduceEq, Int.reduceLT, Int.reduceLE, Int.reduceNe, Nat.reduceEqDiff, Nat.reduceLeDiff, and_false, false_and, and_true, true_and, or_false, false_or, or_true, true_or, if_true, if_false, not_true_eq_false, not_false_eq_true, eq_self, ne_eq, reduceCtorEq, false_implies, true_implies, implies_true, fI_uI, fI_uJ, fI_vI, fI_vJ, fJ_uI, fJ_uJ, fJ_vI, fJ_vJ, aI_uI, aI_uJ, aI_vI, aI_vJ, aJ_uI, aJ_uJ, aJ_vI, aJ_vJ, fI_nodeS, aI_nodeS, aJ_nodeS, fI_modeS, aI_modeS, aJ_modeS, fI_pushS, aI_pushS, aJ_pushS, fI_giveS, aI_giveS, aJ_giveS, fI_gmodeS, aI_gmodeS, aJ_gmodeS, fI_childS, aI_childS, aJ_childS, b15, f3]
theorem opd_mon {k d : Nat} (I : OpdC 111747649 280 0 k) (J : JN hG sG p lx l PR Z0 ZM h s t o P O dl y) (G : FG s g 0) (hg : g ≤ 20 * o + 8) (hK : 24 ≤ o + (k + 1)) (hD : 60 * (24 - o) ≤ d) (c1 : ¬ kd l t = 1) (c2 : isMon l t) (qo : o < 24) : BN hG sG p l Z0 ZM (F (d + 280) 111747649 [vR p] h) s ∨ VOK R0 7 hG sG p lx l PR Z0 ZM (F (d + 280) 111747649 [vR p] h) h s t o P O y g (-1) := by
  have M := JNX.m J
  have Y := JNX.x J
  have F0 := JNX.f J
  have hp := JNX.hp J
  have p0 := JNX.p0 J
  have ho24 : o ≤ 24 := Y.2.2.2.2.2.1
  have hxt : t < xc l := M.1.2.2
  have xl : xc l ≤ l.length := M.1.1.x
  have hl2 := M.1.1.2.1
  have rm := JNX.room J
  have lt6 : t < 1000000 := by omega
  obtain ⟨⟨k1, k2, k3, k4⟩, k5, k6, k7⟩ := JNX.c J
  have cn := JNX.c J
  have x1 : hk h < cLim := by unfold Room at rm; omega
  have x2 : hs h + 20 ≤ sLim := by unfold Room at rm; omega
  have x8 : hs h + 8 ≤ sLim := by omega
  have x9 : hs h + 9 ≤ sLim := by omega
  have pn : ¬ (p = hn h) := by omega
  have hl1 : t + 1 < xc l := Y.next hxt (fun z => by have w := c2.1; rcases w with y | y <;> (have := y.1; omega)) (fun z => by have w := c2.1; rcases w with y | y <;> (have := y.1; omega))
  have g0 := G.1.2.1
  have hg1 := G.1.1
  have gb0 := G.2.2.1
  obtain ⟨s1, RC, G1, GP1, f0, f1, f2, f3, md, ah, sg, op, at1, cn1⟩ := mso_mon M cn ho24 G.1 (by omega) c1 c2 qo
  have x10 : hs h + 10 ≤ sLim := by omega
  have x11 : hs h + 11 ≤ sLim := by omega
  have X1 := ((XU.rf (W := (· = p)) Y F0).so rfl (o1 := o + 1) (by omega)).st rfl (t1 := t + 1) hl1
  have X2 := X1.mO (tg := 23) (n := 11) (by decide) (by decide)
  obtain ⟨h1, i1, i2, i3, i4, i5⟩ := x_newFormula (d + 271) X2.i (X2.rm rm (by omega)) (fz_nO) (pl l t) (xop l t)
  have i1 : F (d + 279) 133740915 [vR (hn h), vI (pl l t), vJ (xop l t)] (nO (pI (pI h 1294223504 p ((o + 1 : Nat) : Int)) 1285834896 p ((t + 1 : Nat) : Int)) 23 11) = some (.inl none, h1) := i1
  have i3 : NF h1 (hn h) 23 (hn h + 1) (pl l t) z0 (pt 999763549 (xop l t) z0) zr := i3
  have i4 : AL h1 (hn h + 1) [] := i4
  have i5 : hn h1 = hn h + 1 + 2 := i5
  have X3 := X2.tr i2 (fun x z => ⟨by have z : x = hn h := z; omega, Or.inr (by have z : x = hn h := z; omega)⟩)
  have J1 := JNX.stepW J X3.1 (fun _ z => Or.inr z) X3.2.1 X3.2.2 G1 (by omega) ((fun j a b z => c1 (by rw [show t = j by omega]; exact z.1))) (y1 := y + 3) (by omega) cn1
  have G2 : FG s1 g 0 := ⟨GP1, by rw [f1, sg]; exact G.2.1, by rw [f2, ah]; constructor <;> omega, by rw [f3, f1]; exact G.2.2.2⟩
  rcases I hG sG p lx l PR Z0 ZM h1 s1 (t + 1) (o + 1) P O dl (y + 3) g (d + 279) (by omega) J1 G2 (Or.inl f0) (by omega) (by omega) with B | B
  · left
    refine BN.up B RC (fun e h' hb => ?_)
    simp (config := {implicitDefEqProofs := false}) only [e_X11_operand, c_X11_operand_0, c_X11_operand_4, c_X11_operand_12, c_X11_operand_17, c_X11_operand_24, c_X11_operand_27, c_X11_operand_31, c_X11_operand_50, c_X11_operand_54, c_X11_operand_57, c_X11_operand_62, c_X11_operand_64, c_X11_operand_72, c_X11_operand_75, c_X11_operand_79, c_X11_operand_80, c_X11_operand_88, c_X11_operand_93, c_X11_operand_112, c_X11_operand_116, c_X11_operand_119, c_X11_operand_125, bnd_v, bnd_x, pu_s, pu_n, b01_T, b01_F, Int.reduceEq, Int.reduceLT, Int.reduceLE, Int.reduceNe, Nat.reduceEqDiff, Nat.reduceLeDiff, and_false, false_and, and_true, true_and, or_false, false_or, or_true, true_or, if_true, if_false, not_true_eq_false, not_false_eq_true, eq_self, ne_eq, reduceCtorEq, false_implies, true_implies, implies_true, inT, inA, rmO, rmA, rI_pI, rI_pJ, rI_pR, rI_qI, rI_qJ, rI_qR, rJ_pI, rJ_pJ, rJ_pR, rJ_qI, rJ_qJ, rJ_qR, rR_pI, rR_pJ, rR_pR, rR_qI, rR_qJ, rR_qR, sI_pI, sI_pJ, sI_pR, sI_qI, sI_qJ, sI_qR, sJ_pI, sJ_pJ, sJ_pR, sJ_qI, sJ_qJ, sJ_qR, sR_pI, sR_pJ, sR_pR, sR_qI, sR_qJ, sR_qR, hc_pI, hc_pJ, hc_pR, hc_qI, hc_qJ, hc_qR, hl_pI, hl_pJ, hl_pR, hl_qI, hl_qJ, hl_qR, hk_pI, hk_pJ, hk_pR, hk_qI, hk_qJ, hk_qR, hs_pI, hs_pJ, hs_pR, hs_qI, hs_qJ, hs_qR, hn_pI, hn_pJ, hn_pR, hn_qI, hn_qJ, hn_qR, hc_nO', hc_nA', hl_nO, hl_nA', hn_nO, hn_nA, hk_nO, hk_nA, hs_nO, hs_nA, rI_nO, rI_nA, rJ_nO, rJ_nA, rR_nO, rR_nA, Nat.le_refl, Y.1, fpl _ Y, fgt Y, fk0 _ Y, xk2 Y, xk3 Y, xk4 Y, im_op _ Y, tm_op _ Y, im_cp _ Y, tm_cp _ Y, im_ob _ Y, tm_ob _ Y, im_cb _ Y, tm_cb _ Y, im_co _ Y, tm_co _ Y, im_se _ Y, tm_se _ Y, im_cl _ Y, tm_cl _ Y, im_be _ Y, tm_be _ Y, iw_UPB _ Y, tw_UPB _ Y, iw_LWB _ Y, tw_LWB _ Y, f_isMonadic _ Y hxt, c1, b01_p c2, f_xsignk _ Y hxt c2.1, f_openY _ Y qo, w32_1 lt6, x1, x11, pn, i1, i3.1, X3.2.1.1, hb]
  · right
    obtain ⟨q2, i2', h3, s4, s2, t2, P2, O2, dl2, b1, ⟨b2, b2a, b2b, b2c⟩, b3, ⟨b4, b5⟩, b6, ⟨u3, b7⟩, b8, ⟨b9, b10⟩, ⟨b11, b12, b13, b14, b15⟩⟩ := B
    have M2 := JNX.m b3
    have cn2 := JNX.c b3
    have Y3 := JNX.x b3
    have hn3 : hn h1 ≤ hn h3 := b7.1.1
    have wq : ¬ Wp p (hn h) := fun z => by have := z.2; omega
    have wr : ¬ Wp p (hn h + 1) := fun z => by have := z.2; omega
    have al3 := b7.al X3.2.1.c wr (fun z => p0 (by have := z.1; omega)) i4
    have n3 := XU.nf i3 b7 X3.2.1.i wq (by decide)
    have nr : ¬ O2 (hn h + 1) := fun z => (b8.2.1 _ z).elim (fun w => by have := JNX.hi J w; omega) (fun w => by omega)
    have e6 := b6.2.2.1
    have ah2 : fI s2 2217432748 = fI s 2217432748 + 1 := by omega
    have at2 : aI s2 43 (fI s2 2217432748 - 1) = t := by
      rw [show fI s2 2217432748 - 1 = fI s 2217432748 by omega, ← at1]
      exact (b6.1.rk (c := 9) (by decide) k2 (by show _ < fI s1 2217432748; omega) (by decide) (by decide)).1
    have md2 := b6.2.2.2.1
    have posR : ∀ e, (R0 e ∨ Rg (fI s1 1915442860) (fI s2 1915442860) (hn h1) (hn h3) e) → fI s 1915442860 ≤ e.1 ∧ hn h + 3 ≤ e.2 ∧ e.1 < fI s2 1915442860 ∧ e.2 < hn h3 := fun e z => by
      rcases z with z | ⟨z1, z2, z3, z4⟩
      · exact z.elim
      · exact ⟨by omega, by omega, z2, z4⟩
    obtain ⟨h4, l1, l2, J5, K5, G5, E5, ⟨m1, m2, m3, m4, m5⟩, q5⟩ := pop_ok (d := d + 272) (k := 11) (a := 2) (tg := mop l t) (t0 := t) b3 b5 b4 (fun e z => by have := posR e z; refine ⟨?_, ?_, ?_⟩ <;> omega) (by omega) (by have := cn.2.2.1; omega) b6.2.1 n3 al3 (by omega) (by omega) (by omega) nr (by decide) (by decide) hxt rfl (fun h' s' a' n' => by obtain ⟨a1, a2, a3, a4, a5, a6, a7, a8⟩ := a'; obtain ⟨n1, n2, n3, n4, n5, n6⟩ := n'; have n8 := n5 999763549; unfold APu; simp (config := {implicitDefEqProofs := false}) only [bnd_v, bnd_x, pu_s, pu_n, b01_T, b01_F, Int.reduceEq, Int.reduceLT, Int.reduceLE, Int.reduceNe, Nat.reduceEqDiff, Nat.reduceLeDiff, and_false, false_and, and_true, true_and, or_false, false_or, or_true, true_or, if_true, if_false, not_true_eq_false, not_false_eq_true, eq_self, ne_eq, reduceCtorEq, false_implies, true_implies, implies_true, a1, n1, pt, n8, a7, c2.1]) (by unfold Ari; simp (config := {implicitDefEqProofs := false}) only [bnd_v, bnd_x, pu_s, pu_n, b01_T, b01_F, Int.reduceEq, Int.reduceLT, Int.reduceLE, Int.reduceNe, Nat.reduceEqDiff, Nat.reduceLeDiff, and_false, false_and, and_true, true_and, or_false, false_or, or_true, true_or, if_true, if_false, not_true_eq_false, not_false_eq_true, eq_self, ne_eq, reduceCtorEq, false_implies, true_implies, implies_true]) (by decide) (by decide) (fun f _ => rfl)
    have hg2 : fI s2 2066437804 = g + 1 := b6.2.1
    have o2 : fI s2 1781225132 = ((o + 1 : Nat) : Int) := M2.2.1
    have mm2 : fI s2 1915442860 < 700 := by have := cn2.2.2.1; have := cn2.1; have := M2.1.a; have := M2.1.1.2.1; omega
    have EQ : Eqv g s2 (uI (uI (childS (vI' (vJ' (nodeS (uI s2 2217432748 (fI s2 2217432748 - 1)) 11 (t : Int)) 25 (fI s2 1915442860) (mop l t)) 23 (fI s2 1915442860) 2) (fI s2 1915442860) (fI s2 2125158060)) 1781225132 (fI s2 1781225132 - 1)) 2125158060 (fI s2 1915442860)) := fun s5 H5 => oe_mon M2.1.1 g0 (by omega) (by omega) at2 (by omega) (by have := cn2.2.1; have := cn2.1; have := M2.1.a; have := M2.1.1.2.1; omega) (by rw [b14, f2]; omega) cn2.1.1 mm2 (by omega) (by omega) c1 (fun z => by have w := c2.2; have w1 := c2.1; rcases c2.1 with y | y <;> (have := y.1; omega)) H5
    have FR := (((NPr.rf (s := s) (v := -1) (w := -1)).fr (G1.1.mono Ln_Lk) (Or.inl rfl) (Or.inl rfl) : FrN (Ln s) (-1) (-1) s s1))
    have NR1 : NPr (-1) (-1) s s1 := ⟨FR, by have := G1.2.2.2.1; have := G1.2.1; omega, by have := G1.2.2.2.1; omega⟩
    have FR2 := NR1.fr b6.1 (Or.inl rfl) (Or.inl rfl)
    have gm := G1.2.2.2.1
    have gg := G1.2.1
    have NR2 : NPr (-1) (-1) s s2 := ⟨FR2, by omega, by have := b6.2.2.2; omega⟩
    have FR3 := NR2.fr (G5.1.mono Ln_Lk) (Or.inl rfl) (Or.inl rfl)
    have g5 := G5.2.2.2
    have g51 := G5.2.1
    have cl := f_close (d + 278) l2 (o' := o) rfl
    have p4 := l2.1
    have hn5 := E5.1.1
    have EE := (X3.1.mono (W' := Wp p) (fun x _ z => by rw [z]; exact ⟨Nat.le_refl _, by omega⟩) (Nat.le_refl _)).tr b7 (fun _ _ z => z)
    have EF := EE.tr E5 (fun x hx z => by
      rcases z with z | z
      · rw [z]; exact ⟨Nat.le_refl _, by omega⟩
      · omega)
    refine ⟨hn h, fI s2 1915442860, _, s4, (uI (uI (childS (vI' (vJ' (nodeS (uI s2 2217432748 (fI s2 2217432748 - 1)) 11 (t : Int)) 25 (fI s2 1915442860) (mop l t)) 23 (fI s2 1915442860) 2) (fI s2 1915442860) (fI s2 2125158060)) 1781225132 (fI s2 1781225132 - 1)) 2125158060 (fI s2 1915442860)), t2, P2, _, dl2, ?_, ⟨RC.tr b2, b2a, b2b, b2c.tr EQ⟩, J5, ⟨K5.up (fun e z => ?_), m5⟩, ⟨FR3, g51, ?_, ?_⟩, ⟨_, EF⟩, b8.own (by omega) (Nat.le_refl _) (by omega), ⟨by omega, ?_⟩, ⟨?_, ?_, ?_, ?_, ?_⟩⟩
    · have n31 := n3.1
      simp (config := {implicitDefEqProofs := false}) only [e_X11_operand, c_X11_operand_0, c_X11_operand_4, c_X11_operand_12, c_X11_operand_17, c_X11_operand_24, c_X11_operand_27, c_X11_operand_31, c_X11_operand_50, c_X11_operand_54, c_X11_operand_57, c_X11_operand_62, c_X11_operand_64, c_X11_operand_72, c_X11_operand_75, c_X11_operand_79, c_X11_operand_80, c_X11_operand_88, c_X11_operand_93, c_X11_operand_112, c_X11_operand_116, c_X11_operand_119, c_X11_operand_125, bnd_v, bnd_x, pu_s, pu_n, b01_T, b01_F, Int.reduceEq, Int.reduceLT, Int.reduceLE, Int.reduceNe, Nat.reduceEqDiff, Nat.reduceLeDiff, and_false, false_and, and_true, true_and, or_false, false_or, or_true, true_or, if_true, if_false, not_true_eq_false, not_false_eq_true, eq_self, ne_eq, reduceCtorEq, false_implies, true_implies, implies_true, inT, inA, rmO, rmA, rI_pI, rI_pJ, rI_pR, rI_qI, rI_qJ, rI_qR, rJ_pI, rJ_pJ, rJ_pR, rJ_qI, rJ_qJ, rJ_qR, rR_pI, rR_pJ, rR_pR, rR_qI, rR_qJ, rR_qR, sI_pI, sI_pJ, sI_pR, sI_qI, sI_qJ, sI_qR, sJ_pI, sJ_pJ, sJ_pR, sJ_qI, sJ_qJ, sJ_qR, sR_pI, sR_pJ, sR_pR, sR_qI, sR_qJ, sR_qR, hc_pI, hc_pJ, hc_pR, hc_qI, hc_qJ, hc_qR, hl_pI, hl_pJ, hl_pR, hl_qI, hl_qJ, hl_qR, hk_pI, hk_pJ, hk_pR, hk_qI, hk_qJ, hk_qR, hs_pI, hs_pJ, hs_pR, hs_qI, hs_qJ, hs_qR, hn_pI, hn_pJ, hn_pR, hn_qI, hn_qJ, hn_qR, hc_nO', hc_nA', hl_nO, hl_nA', hn_nO, hn_nA, hk_nO, hk_nA, hs_nO, hs_nA, rI_nO, rI_nA, rJ_nO, rJ_nA, rR_nO, rR_nA, Nat.le_refl, Y.1, fpl _ Y, fgt Y, fk0 _ Y, xk2 Y, xk3 Y, xk4 Y, im_op _ Y, tm_op _ Y, im_cp _ Y, tm_cp _ Y, im_ob _ Y, tm_ob _ Y, im_cb _ Y, tm_cb _ Y, im_co _ Y, tm_co _ Y, im_se _ Y, tm_se _ Y, im_cl _ Y, tm_cl _ Y, im_be _ Y, tm_be _ Y, iw_UPB _ Y, tw_UPB _ Y, iw_LWB _ Y, tw_LWB _ Y, f_isMonadic _ Y hxt, c1, b01_p c2, f_xsignk _ Y hxt c2.1, f_openY _ Y qo, w32_1 lt6, x1, x11, pn, i1, i3.1, X3.2.1.1, b1, n31, dq_15, l1, cl, p4, Y3.1]
    · rcases z with z | z
      · right
        have := posR e z
        exact ⟨by omega, by rw [m1]; omega, by omega, by omega⟩
      · right
        rw [z]
        exact ⟨by show fI s 1915442860 ≤ fI s2 1915442860; omega, by rw [m1]; show fI s2 1915442860 < fI s2 1915442860 + 1; omega, Nat.le_refl _, by show hn h < _; omega⟩
    · rw [m2, m3, m4]; omega
    · rw [m1]; have := b6.2.2.2; omega
    · rw [m1]; omega
    · simp (config := {implicitDefEqProofs := false}) only [bnd_v, bnd_x, pu_s, pu_n, b01_T, b01_F, Int.reduceEq, Int.reduceLT, Int.reduceLE, Int.reduceNe, Nat.reduceEqDiff, Nat.reduceLeDiff, and_false, false_and, and_true, true_and, or_false, false_or, or_true, true_or, if_true, if_false, not_true_eq_false, not_false_eq_true, eq_self, ne_eq, reduceCtorEq, false_implies, true_implies, implies_true, fI_uI, fI_uJ, fI_vI, fI_vJ, fJ_uI, fJ_uJ, fJ_vI, fJ_vJ, aI_uI, aI_uJ, aI_vI, aI_vJ, aJ_uI, aJ_uJ, aJ_vI, aJ_vJ, fI_nodeS, aI_nodeS, aJ_nodeS, fI_modeS, aI_modeS, aJ_modeS, fI_pushS, aI_pushS, aJ_pushS, fI_giveS, aI_giveS, aJ_giveS, fI_gmodeS, aI_gmodeS, aJ_gmodeS, fI_childS, aI_childS, aJ_childS, b11]
    · simp (config := {implicitDefEqProofs := false}) only [bnd_v, bnd_x, pu_s, pu_n, b01_T, b01_F, Int.reduceEq, Int.reduceLT, Int.reduceLE, Int.reduceNe, Nat.reduceEqDiff, Nat.reduceLeDiff, and_false, false_and, and_true, true_and, or_false, false_or, or_true, true_or, if_true, if_false, not_true_eq_false, not_false_eq_true, eq_self, ne_eq, reduceCtorEq, false_implies, true_implies, implies_true, fI_uI, fI_uJ, fI_vI, fI_vJ, fJ_uI, fJ_uJ, fJ_vI, fJ_vJ, aI_uI, aI_uJ, aI_vI, aI_vJ, aJ_uI, aJ_uJ, aJ_vI, aJ_vJ, fI_nodeS, aI_nodeS, aJ_nodeS, fI_modeS, aI_modeS, aJ_modeS, fI_pushS, aI_pushS, aJ_pushS, fI_giveS, aI_giveS, aJ_giveS, fI_gmodeS, aI_gmodeS, aJ_gmodeS, fI_childS, aI_childS, aJ_childS, b12]
    · simp (config := {implicitDefEqProofs := false}) only [bnd_v, bnd_x, pu_s, pu_n, b01_T, b01_F, Int.reduceEq, Int.reduceLT, Int.reduceLE, Int.reduceNe, Nat.reduceEqDiff, Nat.reduceLeDiff, and_false, false_and, and_true, true_and, or_false, false_or, or_true, true_or, if_true, if_false, not_true_eq_false, not_false_eq_true, eq_self, ne_eq, reduceCtorEq, false_implies, true_implies, implies_true, fI_uI, fI_uJ, fI_vI, fI_vJ, fJ_uI, fJ_uJ, fJ_vI, fJ_vJ, aI_uI, aI_uJ, aI_vI, aI_vJ, aJ_uI, aJ_uJ, aJ_vI, aJ_vJ, fI_nodeS, aI_nodeS, aJ_nodeS, fI_modeS, aI_modeS, aJ_modeS, fI_pushS, aI_pushS, aJ_pushS, fI_giveS, aI_giveS, aJ_giveS, fI_gmodeS, aI_gmodeS, aJ_gmodeS, fI_childS, aI_childS, aJ_childS, b13, f1]
    · simp (config := {implicitDefEqProofs := false}) only [bnd_v, bnd_x, pu_s, pu_n, b01_T, b01_F, Int.reduceEq, Int.reduceLT, Int.reduceLE, Int.reduceNe, Nat.reduceEqDiff, Nat.reduceLeDiff, and_false, false_and, and_true, true_and, or_false, false_or, or_true, true_or, if_true, if_false, not_true_eq_false, not_false_eq_true, eq_self, ne_eq, reduceCtorEq, false_implies, true_implies, implies_true, fI_uI, fI_uJ, fI_vI, fI_vJ, fJ_uI, fJ_uJ, fJ_vI, fJ_vJ, aI_uI, aI_uJ, aI_vI, aI_vJ, aJ_uI, aJ_uJ, aJ_vI, aJ_vJ, fI_nodeS, aI_nodeS, aJ_nodeS, fI_modeS, aI_modeS, aJ_modeS, fI_pushS, aI_pushS, aJ_pushS, fI_giveS, aI_giveS, aJ_giveS, fI_gmodeS, aI_gmodeS, aJ_gmodeS, fI_childS, aI_childS, aJ_childS, b14, f2]
    · simp (config := {implicitDefEqProofs := false}) only [bnd_v, bnd_x, pu_s, pu_n, b01_T, b01_F, Int.reduceEq, Int.reduceLT, Int.reduceLE, Int.reduceNe, Nat.reduceEqDiff, Nat.reduceLeDiff, and_false, false_and, and_true, true_and, or_false, false_or, or_true, true_or, if_true, if_false, not_true_eq_false, not_false_eq_true, eq_self, ne_eq, reduceCtorEq, false_implies, true_implies, implies_true, fI_uI, fI_uJ, fI_vI, fI_vJ, fJ_uI, fJ_uJ, fJ_vI, fJ_vJ, aI_uI, aI_uJ, aI_vI, aI_vJ, aJ_uI, aJ_uJ, aJ_vI, aJ_vJ, fI_nodeS, aI_nodeS, aJ_nodeS, fI_modeS, aI_modeS, aJ_modeS, fI_pushS, aI_pushS, aJ_pushS, fI_giveS, aI_giveS, aJ_giveS, fI_gmodeS, aI_gmodeS, aJ_gmodeS, fI_childS, aI_childS, aJ_childS, b15, f3]
end OPN
