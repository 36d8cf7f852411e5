/-! READING NODES: what stands behind a tertiary -/
set_option maxRecDepth 100000
set_option maxHeartbeats 1000000
section UB
variable {hG h h0 h1 : PH} {sG s s1 : MS} {p lx t o t1 o1 : Nat} {l : List TokE} {PR g : Int} {P P1 : List (Nat × Int)} {O O1 W W1 X : Nat → Prop} {Z0 ZM Z u u' y y1 : Nat} {v w : Int} {dl dl1 : List Nat} {R R1 : Int × Nat → Prop}
theorem ub_no {k d : Nat} {i : Int} {q : Nat} (J : JN hG sG p lx l PR Z0 ZM h s t o P O dl y) (G : GP s g 2 5) (hga : aI s 36 g = i) (K : KD h s l P (ON p O) PR R i q) (hR : ∀ e, R e → 0 ≤ e.1 ∧ e.1 < fI s 1915442860 ∧ e.2 < hn h) (hg : g ≤ 20 * o + 6) (c1 : ¬ (kd l t = 5 ∧ sI l t = 300)) (c2 : ¬ (kd l t = 1 ∧ sI l t = 7)) (c3 : ¬ (kd l t = 1 ∧ sI l t = 8)) : NOK 0 i R hG sG p lx l PR Z0 ZM (F (d + 290) 114893378 [vR p, vR q] h) h s t o P O y g := by
  have M := JNX.m J
  have Y := JNX.x J
  have F0 := JNX.f J
  have hp := JNX.hp J
  have p0 := JNX.p0 J
  have ho24 : o ≤ 24 := Y.2.2.2.2.2.1
  have hxt : t < xc l := M.1.2.2
  have xl : xc l ≤ l.length := M.1.1.x
  have hl2 := M.1.1.2.1
  have rm := JNX.room J
  have lt6 : t < 1000000 := by omega
  obtain ⟨⟨k1, k2, k3, k4⟩, k5, k6, k7⟩ := JNX.c J
  have cn := JNX.c J
  have x1 : hk h < cLim := by unfold Room at rm; omega
  have x2 : hs h + 20 ≤ sLim := by unfold Room at rm; omega
  have x8 : hs h + 8 ≤ sLim := by omega
  have x9 : hs h + 9 ≤ sLim := by omega
  have pn : ¬ (p = hn h) := by omega
  obtain ⟨s1, RC, G1, vl, md⟩ := ms5_give M cn ho24 G (by omega) hga c1 c2 c3
  have E0 : Ev (· = p) 0 h h := Ev.rf Y.i
  have J1 := JNX.step J E0 (fun _ z => Or.inr z) Y F0 G1 (Nat.le_refl _) nmp_rf (y1 := y) (by omega) (by omega)
  have K1 := K.go J E0 (w_p J (fun _ z => Or.inr z)) G1.po Gw.rf (ngR hR) (ngR hR)
  refine ⟨q, i, h, _, t, P, O, dl, ?_, RC, J1, ⟨K1.up (fun e z => Or.inl z), vl⟩, G1.po.vv, ⟨0, Ev.rf Y.i⟩, Gw.rf, Nat.le_refl _, by omega⟩
  simp (config := {implicitDefEqProofs := false}) only [e_X11_unitBehind, c_X11_unitBehind_0, c_X11_unitBehind_4, c_X11_unitBehind_12, c_X11_unitBehind_20, c_X11_unitBehind_23, c_X11_unitBehind_27, c_X11_unitBehind_45, c_X11_unitBehind_49, c_X11_unitBehind_53, c_X11_unitBehind_56, c_X11_unitBehind_61, c_X11_unitBehind_64, c_X11_unitBehind_71, c_X11_unitBehind_74, c_X11_unitBehind_78, c_X11_unitBehind_82, c_X11_unitBehind_101, c_X11_unitBehind_105, c_X11_unitBehind_109, c_X11_unitBehind_112, c_X11_unitBehind_117, bnd_v, bnd_x, pu_s, pu_n, b01_T, b01_F, Int.reduceEq, Int.reduceLT, Int.reduceLE, Int.reduceNe, Nat.reduceEqDiff, Nat.reduceLeDiff, and_false, false_and, and_true, true_and, or_false, false_or, or_true, true_or, if_true, if_false, not_true_eq_false, not_false_eq_true, eq_self, ne_eq, reduceCtorEq, false_implies, true_implies, implies_true, inT, inA, rmO, rmA, rI_pI, rI_pJ, rI_pR, rI_qI, rI_qJ, rI_qR, rJ_pI, rJ_pJ, rJ_pR, rJ_qI, rJ_qJ, rJ_qR, rR_pI, rR_pJ, rR_pR, rR_qI, rR_qJ, rR_qR, sI_pI, sI_pJ, sI_pR, sI_qI, sI_qJ, sI_qR, sJ_pI, sJ_pJ, sJ_pR, sJ_qI, sJ_qJ, sJ_qR, sR_pI, sR_pJ, sR_pR, sR_qI, sR_qJ, sR_qR, hc_pI, hc_pJ, hc_pR, hc_qI, hc_qJ, hc_qR, hl_pI, hl_pJ, hl_pR, hl_qI, hl_qJ, hl_qR, hk_pI, hk_pJ, hk_pR, hk_qI, hk_qJ, hk_qR, hs_pI, hs_pJ, hs_pR, hs_qI, hs_qJ, hs_qR, hn_pI, hn_pJ, hn_pR, hn_qI, hn_qJ, hn_qR, hc_nO', hc_nA', hl_nO, hl_nA', hn_nO, hn_nA, hk_nO, hk_nA, hs_nO, hs_nA, rI_nO, rI_nA, rJ_nO, rJ_nA, rR_nO, rR_nA, Nat.le_refl, Y.1, fpl _ Y, fgt Y, fk0 _ Y, xk2 Y, xk3 Y, xk4 Y, im_op _ Y, tm_op _ Y, im_cp _ Y, tm_cp _ Y, im_ob _ Y, tm_ob _ Y, im_cb _ Y, tm_cb _ Y, im_co _ Y, tm_co _ Y, im_se _ Y, tm_se _ Y, im_cl _ Y, tm_cl _ Y, im_be _ Y, tm_be _ Y, iw_IS _ Y, tw_IS _ Y, iw_ISNT _ Y, tw_ISNT _ Y, c1, c2, c3]
theorem ub_beF {k d : Nat} {i : Int} {q : Nat} (J : JN hG sG p lx l PR Z0 ZM h s t o P O dl y) (G : GP s g 2 5) (hga : aI s 36 g = i) (K : KD h s l P (ON p O) PR R i q) (hR : ∀ e, R e → 0 ≤ e.1 ∧ e.1 < fI s 1915442860 ∧ e.2 < hn h) (hg : g ≤ 20 * o + 6) (c1 : kd l t = 5) (c2 : sI l t = 300) (qo : o = 24) : BN hG sG p l Z0 ZM (F (d + 290) 114893378 [vR p, vR q] h) s := by
  have M := JNX.m J
  have Y := JNX.x J
  have F0 := JNX.f J
  have hp := JNX.hp J
  have p0 := JNX.p0 J
  have ho24 : o ≤ 24 := Y.2.2.2.2.2.1
  have hxt : t < xc l := M.1.2.2
  have xl : xc l ≤ l.length := M.1.1.x
  have hl2 := M.1.1.2.1
  have rm := JNX.room J
  have lt6 : t < 1000000 := by omega
  obtain ⟨⟨k1, k2, k3, k4⟩, k5, k6, k7⟩ := JNX.c J
  have cn := JNX.c J
  have x1 : hk h < cLim := by unfold Room at rm; omega
  have x2 : hs h + 20 ≤ sLim := by unfold Room at rm; omega
  have x8 : hs h + 8 ≤ sLim := by omega
  have x9 : hs h + 9 ≤ sLim := by omega
  have pn : ¬ (p = hn h) := by omega
  obtain ⟨hg1, g0, hgo, hz⟩ := G
  have RC : Reach s (uI s 1772836524 (pl l t)) := Reach.one (by rw [hg1]; omega) (by have := M.2.2.1; omega) (step_of hg1 ⟨g0, by omega⟩ hgo (by decide) (mu5_beF M cn ho24 hg1 g0 (by omega) hz c1 c2 qo))
  obtain ⟨e, h1, w1, w2, w3⟩ := f_openN (d + 283) Y (rm.le (by omega)) qo
  refine JNX.now J (Ev.rf (W := (· = p)) Y.i) (fun _ z => Or.inr z) (by omega) ⟨e, h1, ?_, w2, w3⟩ hxt RC (by simp (config := {implicitDefEqProofs := false}) only [bnd_v, bnd_x, pu_s, pu_n, b01_T, b01_F, Int.reduceEq, Int.reduceLT, Int.reduceLE, Int.reduceNe, Nat.reduceEqDiff, Nat.reduceLeDiff, and_false, false_and, and_true, true_and, or_false, false_or, or_true, true_or, if_true, if_false, not_true_eq_false, not_false_eq_true, eq_self, ne_eq, reduceCtorEq, false_implies, true_implies, implies_true, fI_uI, fI_uJ, fI_vI, fI_vJ, fJ_uI, fJ_uJ, fJ_vI, fJ_vJ, aI_uI, aI_uJ, aI_vI, aI_vJ, aJ_uI, aJ_uJ, aJ_vI, aJ_vJ, fI_nodeS, aI_nodeS, aJ_nodeS, fI_modeS, aI_modeS, aJ_modeS, fI_pushS, aI_pushS, aJ_pushS, fI_giveS, aI_giveS, aJ_giveS, fI_gmodeS, aI_gmodeS, aJ_gmodeS, fI_childS, aI_childS, aJ_childS]) ((Fr.uI (L := Lm s) (v := -1) Fr.rf (by decide)).w (by have := M.2.2.2; show _ ≤ fI s 1789613740; omega) (by have := M.2.2.2; show _ ≤ fI s 1848333996; omega) (by have := M.2.2.2; show _ ≤ fI s 2024494764; omega))
  simp (config := {implicitDefEqProofs := false}) only [e_X11_unitBehind, c_X11_unitBehind_0, c_X11_unitBehind_4, c_X11_unitBehind_12, c_X11_unitBehind_20, c_X11_unitBehind_23, c_X11_unitBehind_27, c_X11_unitBehind_45, c_X11_unitBehind_49, c_X11_unitBehind_53, c_X11_unitBehind_56, c_X11_unitBehind_61, c_X11_unitBehind_64, c_X11_unitBehind_71, c_X11_unitBehind_74, c_X11_unitBehind_78, c_X11_unitBehind_82, c_X11_unitBehind_101, c_X11_unitBehind_105, c_X11_unitBehind_109, c_X11_unitBehind_112, c_X11_unitBehind_117, bnd_v, bnd_x, pu_s, pu_n, b01_T, b01_F, Int.reduceEq, Int.reduceLT, Int.reduceLE, Int.reduceNe, Nat.reduceEqDiff, Nat.reduceLeDiff, and_false, false_and, and_true, true_and, or_false, false_or, or_true, true_or, if_true, if_false, not_true_eq_false, not_false_eq_true, eq_self, ne_eq, reduceCtorEq, false_implies, true_implies, implies_true, inT, inA, rmO, rmA, rI_pI, rI_pJ, rI_pR, rI_qI, rI_qJ, rI_qR, rJ_pI, rJ_pJ, rJ_pR, rJ_qI, rJ_qJ, rJ_qR, rR_pI, rR_pJ, rR_pR, rR_qI, rR_qJ, rR_qR, sI_pI, sI_pJ, sI_pR, sI_qI, sI_qJ, sI_qR, sJ_pI, sJ_pJ, sJ_pR, sJ_qI, sJ_qJ, sJ_qR, sR_pI, sR_pJ, sR_pR, sR_qI, sR_qJ, sR_qR, hc_pI, hc_pJ, hc_pR, hc_qI, hc_qJ, hc_qR, hl_pI, hl_pJ, hl_pR, hl_qI, hl_qJ, hl_qR, hk_pI, hk_pJ, hk_pR, hk_qI, hk_qJ, hk_qR, hs_pI, hs_pJ, hs_pR, hs_qI, hs_qJ, hs_qR, hn_pI, hn_pJ, hn_pR, hn_qI, hn_qJ, hn_qR, hc_nO', hc_nA', hl_nO, hl_nA', hn_nO, hn_nA, hk_nO, hk_nA, hs_nO, hs_nA, rI_nO, rI_nA, rJ_nO, rJ_nA, rR_nO, rR_nA, Nat.le_refl, Y.1, fpl _ Y, fgt Y, fk0 _ Y, xk2 Y, xk3 Y, xk4 Y, im_op _ Y, tm_op _ Y, im_cp _ Y, tm_cp _ Y, im_ob _ Y, tm_ob _ Y, im_cb _ Y, tm_cb _ Y, im_co _ Y, tm_co _ Y, im_se _ Y, tm_se _ Y, im_cl _ Y, tm_cl _ Y, im_be _ Y, tm_be _ Y, iw_IS _ Y, tw_IS _ Y, iw_ISNT _ Y, tw_ISNT _ Y, c1, c2, w1]
theorem ub_isF {k d : Nat} {i : Int} {q : Nat} (J : JN hG sG p lx l PR Z0 ZM h s t o P O dl y) (G : GP s g 2 5) (hga : aI s 36 g = i) (K : KD h s l P (ON p O) PR R i q) (hR : ∀ e, R e → 0 ≤ e.1 ∧ e.1 < fI s 1915442860 ∧ e.2 < hn h) (hg : g ≤ 20 * o + 6) (c1 : kd l t = 1) (c2 : sI l t = 7) (qo : o = 24) : BN hG sG p l Z0 ZM (F (d + 290) 114893378 [vR p, vR q] h) s := by
  have M := JNX.m J
  have Y := JNX.x J
  have F0 := JNX.f J
  have hp := JNX.hp J
  have p0 := JNX.p0 J
  have ho24 : o ≤ 24 := Y.2.2.2.2.2.1
  have hxt : t < xc l := M.1.2.2
  have xl : xc l ≤ l.length := M.1.1.x
  have hl2 := M.1.1.2.1
  have rm := JNX.room J
  have lt6 : t < 1000000 := by omega
  obtain ⟨⟨k1, k2, k3, k4⟩, k5, k6, k7⟩ := JNX.c J
  have cn := JNX.c J
  have x1 : hk h < cLim := by unfold Room at rm; omega
  have x2 : hs h + 20 ≤ sLim := by unfold Room at rm; omega
  have x8 : hs h + 8 ≤ sLim := by omega
  have x9 : hs h + 9 ≤ sLim := by omega
  have pn : ¬ (p = hn h) := by omega
  obtain ⟨hg1, g0, hgo, hz⟩ := G
  have RC : Reach s (uI s 1772836524 (pl l t)) := Reach.one (by rw [hg1]; omega) (by have := M.2.2.1; omega) (step_of hg1 ⟨g0, by omega⟩ hgo (by decide) (mu5_isF M cn ho24 hg1 g0 (by omega) hz c1 c2 qo))
  obtain ⟨e, h1, w1, w2, w3⟩ := f_openN (d + 283) Y (rm.le (by omega)) qo
  refine JNX.now J (Ev.rf (W := (· = p)) Y.i) (fun _ z => Or.inr z) (by omega) ⟨e, h1, ?_, w2, w3⟩ hxt RC (by simp (config := {implicitDefEqProofs := false}) only [bnd_v, bnd_x, pu_s, pu_n, b01_T, b01_F, Int.reduceEq, Int.reduceLT, Int.reduceLE, Int.reduceNe, Nat.reduceEqDiff, Nat.reduceLeDiff, and_false, false_and, and_true, true_and, or_false, false_or, or_true, true_or, if_true, if_false, not_true_eq_false, not_false_eq_true, eq_self, ne_eq, reduceCtorEq, false_implies, true_implies, implies_true, fI_uI, fI_uJ, fI_vI, fI_vJ, fJ_uI, fJ_uJ, fJ_vI, fJ_vJ, aI_uI, aI_uJ, aI_vI, aI_vJ, aJ_uI, aJ_uJ, aJ_vI, aJ_vJ, fI_nodeS, aI_nodeS, aJ_nodeS, fI_modeS, aI_modeS, aJ_modeS, fI_pushS, aI_pushS, aJ_pushS, fI_giveS, aI_giveS, aJ_giveS, fI_gmodeS, aI_gmodeS, aJ_gmodeS, fI_childS, aI_childS, aJ_childS]) ((Fr.uI (L := Lm s) (v := -1) Fr.rf (by decide)).w (by have := M.2.2.2; show _ ≤ fI s 1789613740; omega) (by have := M.2.2.2; show _ ≤ fI s 1848333996; omega) (by have := M.2.2.2; show _ ≤ fI s 2024494764; omega))
  simp (config := {implicitDefEqProofs := false}) only [e_X11_unitBehind, c_X11_unitBehind_0, c_X11_unitBehind_4, c_X11_unitBehind_12, c_X11_unitBehind_20, c_X11_unitBehind_23, c_X11_unitBehind_27, c_X11_unitBehind_45, c_X11_unitBehind_49, c_X11_unitBehind_53, c_X11_unitBehind_56, c_X11_unitBehind_61, c_X11_unitBehind_64, c_X11_unitBehind_71, c_X11_unitBehind_74, c_X11_unitBehind_78, c_X11_unitBehind_82, c_X11_unitBehind_101, c_X11_unitBehind_105, c_X11_unitBehind_109, c_X11_unitBehind_112, c_X11_unitBehind_117, bnd_v, bnd_x, pu_s, pu_n, b01_T, b01_F, Int.reduceEq, Int.reduceLT, Int.reduceLE, Int.reduceNe, Nat.reduceEqDiff, Nat.reduceLeDiff, and_false, false_and, and_true, true_and, or_false, false_or, or_true, true_or, if_true, if_false, not_true_eq_false, not_false_eq_true, eq_self, ne_eq, reduceCtorEq, false_implies, true_implies, implies_true, inT, inA, rmO, rmA, rI_pI, rI_pJ, rI_pR, rI_qI, rI_qJ, rI_qR, rJ_pI, rJ_pJ, rJ_pR, rJ_qI, rJ_qJ, rJ_qR, rR_pI, rR_pJ, rR_pR, rR_qI, rR_qJ, rR_qR, sI_pI, sI_pJ, sI_pR, sI_qI, sI_qJ, sI_qR, sJ_pI, sJ_pJ, sJ_pR, sJ_qI, sJ_qJ, sJ_qR, sR_pI, sR_pJ, sR_pR, sR_qI, sR_qJ, sR_qR, hc_pI, hc_pJ, hc_pR, hc_qI, hc_qJ, hc_qR, hl_pI, hl_pJ, hl_pR, hl_qI, hl_qJ, hl_qR, hk_pI, hk_pJ, hk_pR, hk_qI, hk_qJ, hk_qR, hs_pI, hs_pJ, hs_pR, hs_qI, hs_qJ, hs_qR, hn_pI, hn_pJ, hn_pR, hn_qI, hn_qJ, hn_qR, hc_nO', hc_nA', hl_nO, hl_nA', hn_nO, hn_nA, hk_nO, hk_nA, hs_nO, hs_nA, rI_nO, rI_nA, rJ_nO, rJ_nA, rR_nO, rR_nA, Nat.le_refl, Y.1, fpl _ Y, fgt Y, fk0 _ Y, xk2 Y, xk3 Y, xk4 Y, im_op _ Y, tm_op _ Y, im_cp _ Y, tm_cp _ Y, im_ob _ Y, tm_ob _ Y, im_cb _ Y, tm_cb _ Y, im_co _ Y, tm_co _ Y, im_se _ Y, tm_se _ Y, im_cl _ Y, tm_cl _ Y, im_be _ Y, tm_be _ Y, iw_IS _ Y, tw_IS _ Y, iw_ISNT _ Y, tw_ISNT _ Y, c1, c2, w1]
theorem ub_ntF {k d : Nat} {i : Int} {q : Nat} (J : JN hG sG p lx l PR Z0 ZM h s t o P O dl y) (G : GP s g 2 5) (hga : aI s 36 g = i) (K : KD h s l P (ON p O) PR R i q) (hR : ∀ e, R e → 0 ≤ e.1 ∧ e.1 < fI s 1915442860 ∧ e.2 < hn h) (hg : g ≤ 20 * o + 6) (c1 : kd l t = 1) (c2 : sI l t = 8) (qo : o = 24) : BN hG sG p l Z0 ZM (F (d + 290) 114893378 [vR p, vR q] h) s := by
  have M := JNX.m J
  have Y := JNX.x J
  have F0 := JNX.f J
  have hp := JNX.hp J
  have p0 := JNX.p0 J
  have ho24 : o ≤ 24 := Y.2.2.2.2.2.1
  have hxt : t < xc l := M.1.2.2
  have xl : xc l ≤ l.length := M.1.1.x
  have hl2 := M.1.1.2.1
  have rm := JNX.room J
  have lt6 : t < 1000000 := by omega
  obtain ⟨⟨k1, k2, k3, k4⟩, k5, k6, k7⟩ := JNX.c J
  have cn := JNX.c J
  have x1 : hk h < cLim := by unfold Room at rm; omega
  have x2 : hs h + 20 ≤ sLim := by unfold Room at rm; omega
  have x8 : hs h + 8 ≤ sLim := by omega
  have x9 : hs h + 9 ≤ sLim := by omega
  have pn : ¬ (p = hn h) := by omega
  obtain ⟨hg1, g0, hgo, hz⟩ := G
  have RC : Reach s (uI s 1772836524 (pl l t)) := Reach.one (by rw [hg1]; omega) (by have := M.2.2.1; omega) (step_of hg1 ⟨g0, by omega⟩ hgo (by decide) (mu5_ntF M cn ho24 hg1 g0 (by omega) hz c1 c2 qo))
  obtain ⟨e, h1, w1, w2, w3⟩ := f_openN (d + 283) Y (rm.le (by omega)) qo
  refine JNX.now J (Ev.rf (W := (· = p)) Y.i) (fun _ z => Or.inr z) (by omega) ⟨e, h1, ?_, w2, w3⟩ hxt RC (by simp (config := {implicitDefEqProofs := false}) only [bnd_v, bnd_x, pu_s, pu_n, b01_T, b01_F, Int.reduceEq, Int.reduceLT, Int.reduceLE, Int.reduceNe, Nat.reduceEqDiff, Nat.reduceLeDiff, and_false, false_and, and_true, true_and, or_false, false_or, or_true, true_or, if_true, if_false, not_true_eq_false, not_false_eq_true, eq_self, ne_eq, reduceCtorEq, false_implies, true_implies, implies_true, fI_uI, fI_uJ, fI_vI, fI_vJ, fJ_uI, fJ_uJ, fJ_vI, fJ_vJ, aI_uI, aI_uJ, aI_vI, aI_vJ, aJ_uI, aJ_uJ, aJ_vI, aJ_vJ, fI_nodeS, aI_nodeS, aJ_nodeS, fI_modeS, aI_modeS, aJ_modeS, fI_pushS, aI_pushS, aJ_pushS, fI_giveS, aI_giveS, aJ_giveS, fI_gmodeS, aI_gmodeS, aJ_gmodeS, fI_childS, aI_childS, aJ_childS]) ((Fr.uI (L := Lm s) (v := -1) Fr.rf (by decide)).w (by have := M.2.2.2; show _ ≤ fI s 1789613740; omega) (by have := M.2.2.2; show _ ≤ fI s 1848333996; omega) (by have := M.2.2.2; show _ ≤ fI s 2024494764; omega))
  simp (config := {implicitDefEqProofs := false}) only [e_X11_unitBehind, c_X11_unitBehind_0, c_X11_unitBehind_4, c_X11_unitBehind_12, c_X11_unitBehind_20, c_X11_unitBehind_23, c_X11_unitBehind_27, c_X11_unitBehind_45, c_X11_unitBehind_49, c_X11_unitBehind_53, c_X11_unitBehind_56, c_X11_unitBehind_61, c_X11_unitBehind_64, c_X11_unitBehind_71, c_X11_unitBehind_74, c_X11_unitBehind_78, c_X11_unitBehind_82, c_X11_unitBehind_101, c_X11_unitBehind_105, c_X11_unitBehind_109, c_X11_unitBehind_112, c_X11_unitBehind_117, bnd_v, bnd_x, pu_s, pu_n, b01_T, b01_F, Int.reduceEq, Int.reduceLT, Int.reduceLE, Int.reduceNe, Nat.reduceEqDiff, Nat.reduceLeDiff, and_false, false_and, and_true, true_and, or_false, false_or, or_true, true_or, if_true, if_false, not_true_eq_false, not_false_eq_true, eq_self, ne_eq, reduceCtorEq, false_implies, true_implies, implies_true, inT, inA, rmO, rmA, rI_pI, rI_pJ, rI_pR, rI_qI, rI_qJ, rI_qR, rJ_pI, rJ_pJ, rJ_pR, rJ_qI, rJ_qJ, rJ_qR, rR_pI, rR_pJ, rR_pR, rR_qI, rR_qJ, rR_qR, sI_pI, sI_pJ, sI_pR, sI_qI, sI_qJ, sI_qR, sJ_pI, sJ_pJ, sJ_pR, sJ_qI, sJ_qJ, sJ_qR, sR_pI, sR_pJ, sR_pR, sR_qI, sR_qJ, sR_qR, hc_pI, hc_pJ, hc_pR, hc_qI, hc_qJ, hc_qR, hl_pI, hl_pJ, hl_pR, hl_qI, hl_qJ, hl_qR, hk_pI, hk_pJ, hk_pR, hk_qI, hk_qJ, hk_qR, hs_pI, hs_pJ, hs_pR, hs_qI, hs_qJ, hs_qR, hn_pI, hn_pJ, hn_pR, hn_qI, hn_qJ, hn_qR, hc_nO', hc_nA', hl_nO, hl_nA', hn_nO, hn_nA, hk_nO, hk_nA, hs_nO, hs_nA, rI_nO, rI_nA, rJ_nO, rJ_nA, rR_nO, rR_nA, Nat.le_refl, Y.1, fpl _ Y, fgt Y, fk0 _ Y, xk2 Y, xk3 Y, xk4 Y, im_op _ Y, tm_op _ Y, im_cp _ Y, tm_cp _ Y, im_ob _ Y, tm_ob _ Y, im_cb _ Y, tm_cb _ Y, im_co _ Y, tm_co _ Y, im_se _ Y, tm_se _ Y, im_cl _ Y, tm_cl _ Y, im_be _ Y, tm_be _ Y, iw_IS _ Y, tw_IS _ Y, iw_ISNT _ Y, tw_ISNT _ Y, c1, c2, w1]
theorem ub_be {k d : Nat} {i : Int} {q : Nat} (U : UnitC k) (J : JN hG sG p lx l PR Z0 ZM h s t o P O dl y) (G : GP s g 2 5) (hga : aI s 36 g = i) (K : KD h s l P (ON p O) PR R i q) (hR : ∀ e, R e → 0 ≤ e.1 ∧ e.1 < fI s 1915442860 ∧ e.2 < hn h) (hg : g ≤ 20 * o + 6) (hK : 24 ≤ o + (k + 1)) (hD : 60 * (24 - o) ≤ d) (c1 : kd l t = 5) (c2 : sI l t = 300) (qo : o < 24) : BN hG sG p l Z0 ZM (F (d + 290) 114893378 [vR p, vR q] h) s ∨ NOK 0 i R hG sG p lx l PR Z0 ZM (F (d + 290) 114893378 [vR p, vR q] h) h s t o P O y g := by
  have M := JNX.m J
  have Y := JNX.x J
  have F0 := JNX.f J
  have hp := JNX.hp J
  have p0 := JNX.p0 J
  have ho24 : o ≤ 24 := Y.2.2.2.2.2.1
  have hxt : t < xc l := M.1.2.2
  have xl : xc l ≤ l.length := M.1.1.x
  have hl2 := M.1.1.2.1
  have rm := JNX.room J
  have lt6 : t < 1000000 := by omega
  obtain ⟨⟨k1, k2, k3, k4⟩, k5, k6, k7⟩ := JNX.c J
  have cn := JNX.c J
  have x1 : hk h < cLim := by unfold Room at rm; omega
  have x2 : hs h + 20 ≤ sLim := by unfold Room at rm; omega
  have x8 : hs h + 8 ≤ sLim := by omega
  have x9 : hs h + 9 ≤ sLim := by omega
  have pn : ¬ (p = hn h) := by omega
  have hl1 : t + 1 < xc l := Y.next hxt (by rw [c1]; decide) (by rw [c1]; decide)
  have i0 := K.2.1
  have g0 := G.2.1
  have hg1 := G.1
  obtain ⟨s1, RC, G1, mk1, U1, A1, r1, r2, r3, Pre1⟩ := ms5_be M cn ho24 G (by omega) hga i0 K.2.2.2.1 c1 c2 qo (by omega)
  have X1 := ((XU.rf (W := (· = p)) Y F0).so rfl (o1 := o + 1) (by omega)).st rfl (t1 := t + 1) hl1
  have X2 := X1.mO (tg := 11) (n := 8) (by decide) (by decide)
  obtain ⟨h1, i1, i2, i3, i4, i5⟩ := x_newAssignation (d + 281) X2.i (X2.rm rm (by omega)) (fz_nO) (pl l t)
  have i1 : F (d + 289) 153901234 [vR (hn h), vI (pl l t)] (nO (pI (pI h 1294223504 p ((o + 1 : Nat) : Int)) 1285834896 p ((t + 1 : Nat) : Int)) 11 8) = some (.inl none, h1) := i1
  have i3 : NF h1 (hn h) 11 (hn h + 1) (pl l t) z0 z0 zr := i3
  have i4 : AL h1 (hn h + 1) [] := i4
  have i5 : hn h1 = hn h + 1 + 2 := i5
  have X3 := X2.tr i2 (fun x z => ⟨by have z : x = hn h := z; omega, Or.inr (by have z : x = hn h := z; omega)⟩)
  have wp0 : ∀ x, x = p → ¬ O x ∨ Wp p x := fun x z => Or.inr (by rw [z]; exact ⟨Nat.le_refl _, by omega⟩)
  have kq := K.ok J X3.1 wp0
  obtain ⟨h2, j1, j2, j3⟩ := f_with' (d + 282) X3.i (q := hn h) (r := hn h + 1) (v := q) (by rw [i3.1]; decide) i3.2.1 i4 kq.1 (by decide) (X3.rm rm (by omega))
  have X4 := X3.tr j2 (fun x z => ⟨by omega, Or.inr (by omega)⟩)
  have hn2 : hn h1 ≤ hn h2 := j2.1.1
  have n2 := XU.nf i3 j2 X3.i (by omega) (by decide)
  have J1 := JNX.step J X4.1 (fun _ z => Or.inr z) X4.2.1 X4.2.2 G1 (by omega) (nmp_k c1 (by decide)) (y1 := y + 3) (by omega) (by rw [mk1]; omega)
  have K1 := K.go J X4.1 wp0 G1.po Gw.rf (ngR hR) (ngR hR)
  have t1' := i3.1
  rcases U hG sG p lx l PR Z0 ZM h2 s1 (t + 1) (o + 1) P O dl (y + 3) (g + 1) (d + 289) (by omega) J1 Pre1 (by omega) (by omega) with B | B
  · left
    refine BN.up B RC (fun e h' hb => ?_)
    simp (config := {implicitDefEqProofs := false}) only [e_X11_unitBehind, c_X11_unitBehind_0, c_X11_unitBehind_4, c_X11_unitBehind_12, c_X11_unitBehind_20, c_X11_unitBehind_23, c_X11_unitBehind_27, c_X11_unitBehind_45, c_X11_unitBehind_49, c_X11_unitBehind_53, c_X11_unitBehind_56, c_X11_unitBehind_61, c_X11_unitBehind_64, c_X11_unitBehind_71, c_X11_unitBehind_74, c_X11_unitBehind_78, c_X11_unitBehind_82, c_X11_unitBehind_101, c_X11_unitBehind_105, c_X11_unitBehind_109, c_X11_unitBehind_112, c_X11_unitBehind_117, bnd_v, bnd_x, pu_s, pu_n, b01_T, b01_F, Int.reduceEq, Int.reduceLT, Int.reduceLE, Int.reduceNe, Nat.reduceEqDiff, Nat.reduceLeDiff, and_false, false_and, and_true, true_and, or_false, false_or, or_true, true_or, if_true, if_false, not_true_eq_false, not_false_eq_true, eq_self, ne_eq, reduceCtorEq, false_implies, true_implies, implies_true, inT, inA, rmO, rmA, rI_pI, rI_pJ, rI_pR, rI_qI, rI_qJ, rI_qR, rJ_pI, rJ_pJ, rJ_pR, rJ_qI, rJ_qJ, rJ_qR, rR_pI, rR_pJ, rR_pR, rR_qI, rR_qJ, rR_qR, sI_pI, sI_pJ, sI_pR, sI_qI, sI_qJ, sI_qR, sJ_pI, sJ_pJ, sJ_pR, sJ_qI, sJ_qJ, sJ_qR, sR_pI, sR_pJ, sR_pR, sR_qI, sR_qJ, sR_qR, hc_pI, hc_pJ, hc_pR, hc_qI, hc_qJ, hc_qR, hl_pI, hl_pJ, hl_pR, hl_qI, hl_qJ, hl_qR, hk_pI, hk_pJ, hk_pR, hk_qI, hk_qJ, hk_qR, hs_pI, hs_pJ, hs_pR, hs_qI, hs_qJ, hs_qR, hn_pI, hn_pJ, hn_pR, hn_qI, hn_qJ, hn_qR, hc_nO', hc_nA', hl_nO, hl_nA', hn_nO, hn_nA, hk_nO, hk_nA, hs_nO, hs_nA, rI_nO, rI_nA, rJ_nO, rJ_nA, rR_nO, rR_nA, Nat.le_refl, Y.1, fpl _ Y, fgt Y, fk0 _ Y, xk2 Y, xk3 Y, xk4 Y, im_op _ Y, tm_op _ Y, im_cp _ Y, tm_cp _ Y, im_ob _ Y, tm_ob _ Y, im_cb _ Y, tm_cb _ Y, im_co _ Y, tm_co _ Y, im_se _ Y, tm_se _ Y, im_cl _ Y, tm_cl _ Y, im_be _ Y, tm_be _ Y, iw_IS _ Y, tw_IS _ Y, iw_ISNT _ Y, tw_ISNT _ Y, c1, c2, f_openY _ Y qo, w32_1 lt6, x1, x8, pn, i1, dq_23, t1', j1, X4.2.1.1, hb]
  · right
    obtain ⟨q2, i2', h3, s3, t2, P2, O2, dl2, b1, b2, b3, ⟨b4, b5⟩, b6, ⟨u3, b7⟩, b8, b9, b10⟩ := B
    have M3 := JNX.m b3
    have cn3 := JNX.c b3
    have Y3 := JNX.x b3
    have hn3 : hn h2 ≤ hn h3 := b7.1.1
    have gg1 : fI s1 2066437804 = g + 2 := G1.2.1
    have e1 : aI s3 39 g = fI s 1915442860 := (b6.gl (by decide) g0 (by omega)).1.trans r1
    have e2 : aI s3 35 g = 6 := (b6.gl (by decide) g0 (by omega)).1.trans r2
    have e3 : aI s3 34 g = 2 := (b6.gl (by decide) g0 (by omega)).1.trans r3
    have hg3 : fI s3 2066437804 = g + 1 := b6.2.1
    have md3 : fI s1 1915442860 ≤ fI s3 1915442860 := b6.2.2.2.1
    have U3 : UN s3 (fI s 1915442860) [i] := U1.go b6 (fun z => by have := List.mem_singleton.mp z; omega) (by omega)
    have A3 : AtM s3 (fI s 1915442860) 5 t 0 0 0 (-1) 0 := A1.go b6 k1 (by omega) (by omega) (by omega)
    have K3 := K1.go J1 b7 (fun x z => Or.inr z) b6 b8 (ngR hR) (ngR hR)
    have mL : aI s3 21 (fI s 1915442860) = i := U3.2.2.1 i rfl
    have hm3 : fI s3 1915442860 + fI s3 2217432748 + fI s3 2192266924 ≤ t2 + (o + 1 : Nat) + 1 := cn3.2.2.1
    have ok3 := U3.ok (by have := cn3.1; have := M3.1.a; have := Y3.2.2.2.2.2.1; omega)
    have RC3 := Reach.one (by rw [hg3]; omega) (by have := M3.2.2.1; omega) (step_of hg3 ⟨g0, by omega⟩ e3 (by decide) (mu6 M3 cn3 (by omega) hg3 g0 (by omega) e2 (by rw [e1]; exact ok3.1.1) (by rw [e1]; exact ok3.1.2) (by rw [e1]; exact ok3.2)))
    rw [e1] at RC3
    have wq : ¬ Wp p (hn h) := fun z => by have := z.2; omega
    have wr : ¬ Wp p (hn h + 1) := fun z => by have := z.2; omega
    have al3 := b7.al X4.2.1.c wr (fun z => p0 (by have := z.1; omega)) j3
    have n3 := XU.nf n2 b7 X4.2.1.i wq (by decide)
    have nr : ¬ O2 (hn h + 1) := fun z => (b8.2.1 _ z).elim (fun w => by have := JNX.hi J w; omega) (fun w => by omega)
    have posR : ∀ e, (R0 e ∨ Rg (fI s1 1915442860) (fI s3 1915442860) (hn h2) (hn h3) e) → fI s 1915442860 + 1 ≤ e.1 ∧ hn h + 3 ≤ e.2 ∧ e.1 < fI s3 1915442860 ∧ e.2 < hn h3 := fun e z => by
      rcases z with z | ⟨z1, z2, z3, z4⟩
      · exact z.elim
      · exact ⟨by omega, by omega, z2, z4⟩
    obtain ⟨h4, l1, l2, J5, K5, N5, E5, m5, q5⟩ := end1 (d := d + 282) (rr := 0) b3 hg3 b5 K3.kf b4 (fun e e' z z' => by have := hR e z; have := posR e' z'; constructor <;> omega) U3 (fun e z => by have := hR e z; constructor <;> omega) (fun e z => by have := posR e z; refine ⟨?_, ?_, ?_⟩ <;> omega) A3 n3 al3 (by show 1 < 50; decide) (by omega) (by omega) (by omega) nr (by decide) (by decide) hxt rfl rfl (fun h' s' a' n' => by obtain ⟨a1, a2, a3, a4, a5, a6, a7, a8⟩ := a'; obtain ⟨n1, n2, n3, n4, n5, n6⟩ := n'; unfold APu; simp (config := {implicitDefEqProofs := false}) only [bnd_v, bnd_x, pu_s, pu_n, b01_T, b01_F, Int.reduceEq, Int.reduceLT, Int.reduceLE, Int.reduceNe, Nat.reduceEqDiff, Nat.reduceLeDiff, and_false, false_and, and_true, true_and, or_false, false_or, or_true, true_or, if_true, if_false, not_true_eq_false, not_false_eq_true, eq_self, ne_eq, reduceCtorEq, false_implies, true_implies, implies_true, a1, n1]) (by unfold Ari; simp (config := {implicitDefEqProofs := false}) only [bnd_v, bnd_x, pu_s, pu_n, b01_T, b01_F, Int.reduceEq, Int.reduceLT, Int.reduceLE, Int.reduceNe, Nat.reduceEqDiff, Nat.reduceLeDiff, and_false, false_and, and_true, true_and, or_false, false_or, or_true, true_or, if_true, if_false, not_true_eq_false, not_false_eq_true, eq_self, ne_eq, reduceCtorEq, false_implies, true_implies, implies_true]; rfl) (by decide) (by decide) (fun f _ => rfl) (fun f _ => rfl) (by have := b6.2.2.1; have := G1.2.2.2.1; omega)
    have EE := (X4.1.mono (W' := Wp p) (fun x _ z => by rw [z]; exact ⟨Nat.le_refl _, by omega⟩) (Nat.le_refl _)).tr b7 (fun _ _ z => z)
    have EF := EE.tr E5 (fun x hx z => by
      rcases z with z | z
      · rw [z]; exact ⟨Nat.le_refl _, by omega⟩
      · omega)
    have cl := f_close (d + 288) l2 (o' := o) rfl
    have p4 := l2.1
    refine ⟨hn h, fI s 1915442860, _, _, t2, P2, _, dl2, ?_, (RC.tr b2).tr RC3, J5, ⟨K5.up (fun e z => ?_), rfl⟩, ((G1.po.vv (v := i)).seq (by omega) b6 (Or.inr (Or.inr (by decide))) (Or.inl rfl)).seq (by omega) N5 (Or.inl mL) (Or.inr (Or.inl (Int.le_refl _))), ⟨_, EF⟩, b8.own (by omega) (Nat.le_refl _) (by omega), by omega, by rw [m5]; omega⟩
    · have n31 := n3.1
      simp (config := {implicitDefEqProofs := false}) only [e_X11_unitBehind, c_X11_unitBehind_0, c_X11_unitBehind_4, c_X11_unitBehind_12, c_X11_unitBehind_20, c_X11_unitBehind_23, c_X11_unitBehind_27, c_X11_unitBehind_45, c_X11_unitBehind_49, c_X11_unitBehind_53, c_X11_unitBehind_56, c_X11_unitBehind_61, c_X11_unitBehind_64, c_X11_unitBehind_71, c_X11_unitBehind_74, c_X11_unitBehind_78, c_X11_unitBehind_82, c_X11_unitBehind_101, c_X11_unitBehind_105, c_X11_unitBehind_109, c_X11_unitBehind_112, c_X11_unitBehind_117, bnd_v, bnd_x, pu_s, pu_n, b01_T, b01_F, Int.reduceEq, Int.reduceLT, Int.reduceLE, Int.reduceNe, Nat.reduceEqDiff, Nat.reduceLeDiff, and_false, false_and, and_true, true_and, or_false, false_or, or_true, true_or, if_true, if_false, not_true_eq_false, not_false_eq_true, eq_self, ne_eq, reduceCtorEq, false_implies, true_implies, implies_true, inT, inA, rmO, rmA, rI_pI, rI_pJ, rI_pR, rI_qI, rI_qJ, rI_qR, rJ_pI, rJ_pJ, rJ_pR, rJ_qI, rJ_qJ, rJ_qR, rR_pI, rR_pJ, rR_pR, rR_qI, rR_qJ, rR_qR, sI_pI, sI_pJ, sI_pR, sI_qI, sI_qJ, sI_qR, sJ_pI, sJ_pJ, sJ_pR, sJ_qI, sJ_qJ, sJ_qR, sR_pI, sR_pJ, sR_pR, sR_qI, sR_qJ, sR_qR, hc_pI, hc_pJ, hc_pR, hc_qI, hc_qJ, hc_qR, hl_pI, hl_pJ, hl_pR, hl_qI, hl_qJ, hl_qR, hk_pI, hk_pJ, hk_pR, hk_qI, hk_qJ, hk_qR, hs_pI, hs_pJ, hs_pR, hs_qI, hs_qJ, hs_qR, hn_pI, hn_pJ, hn_pR, hn_qI, hn_qJ, hn_qR, hc_nO', hc_nA', hl_nO, hl_nA', hn_nO, hn_nA, hk_nO, hk_nA, hs_nO, hs_nA, rI_nO, rI_nA, rJ_nO, rJ_nA, rR_nO, rR_nA, Nat.le_refl, Y.1, fpl _ Y, fgt Y, fk0 _ Y, xk2 Y, xk3 Y, xk4 Y, im_op _ Y, tm_op _ Y, im_cp _ Y, tm_cp _ Y, im_ob _ Y, tm_ob _ Y, im_cb _ Y, tm_cb _ Y, im_co _ Y, tm_co _ Y, im_se _ Y, tm_se _ Y, im_cl _ Y, tm_cl _ Y, im_be _ Y, tm_be _ Y, iw_IS _ Y, tw_IS _ Y, iw_ISNT _ Y, tw_ISNT _ Y, c1, c2, f_openY _ Y qo, w32_1 lt6, x1, x8, pn, i1, dq_23, t1', j1, X4.2.1.1, b1, n31, l1, cl, p4, Y3.1]
    · have hn5 := E5.1.1
      rcases z with (z | z) | z
      · exact Or.inl z
      · right
        have := posR e z
        exact ⟨by omega, by rw [m5]; omega, by omega, by omega⟩
      · right
        rw [z]
        exact ⟨Int.le_refl _, by rw [m5]; show fI s 1915442860 < fI s3 1915442860; omega, Nat.le_refl _, by show hn h < _; omega⟩
theorem ub_is {k d : Nat} {i : Int} {q : Nat} (U : TerC k) (J : JN hG sG p lx l PR Z0 ZM h s t o P O dl y) (G : GP s g 2 5) (hga : aI s 36 g = i) (K : KD h s l P (ON p O) PR R i q) (hR : ∀ e, R e → 0 ≤ e.1 ∧ e.1 < fI s 1915442860 ∧ e.2 < hn h) (hg : g ≤ 20 * o + 6) (hK : 24 ≤ o + (k + 1)) (hD : 60 * (24 - o) ≤ d) (c1 : kd l t = 1) (c2 : sI l t = 7) (qo : o < 24) (q1 : ¬ (kd l (t + 1) = 1 ∧ sI l (t + 1) = 6)) : BN hG sG p l Z0 ZM (F (d + 290) 114893378 [vR p, vR q] h) s ∨ NOK 0 i R hG sG p lx l PR Z0 ZM (F (d + 290) 114893378 [vR p, vR q] h) h s t o P O y g := by
  have M := JNX.m J
  have Y := JNX.x J
  have F0 := JNX.f J
  have hp := JNX.hp J
  have p0 := JNX.p0 J
  have ho24 : o ≤ 24 := Y.2.2.2.2.2.1
  have hxt : t < xc l := M.1.2.2
  have xl : xc l ≤ l.length := M.1.1.x
  have hl2 := M.1.1.2.1
  have rm := JNX.room J
  have lt6 : t < 1000000 := by omega
  obtain ⟨⟨k1, k2, k3, k4⟩, k5, k6, k7⟩ := JNX.c J
  have cn := JNX.c J
  have x1 : hk h < cLim := by unfold Room at rm; omega
  have x2 : hs h + 20 ≤ sLim := by unfold Room at rm; omega
  have x8 : hs h + 8 ≤ sLim := by omega
  have x9 : hs h + 9 ≤ sLim := by omega
  have pn : ¬ (p = hn h) := by omega
  have hl1 : t + 1 < xc l := Y.next hxt (by rw [c1]; decide) (by rw [c1]; decide)
  have i0 := K.2.1
  have g0 := G.2.1
  have hg1 := G.1
  obtain ⟨s1, RC, G1, mk1, U1, A1, r1, r2, r3, Pre1, Pre2, Pre3, Pre4⟩ := ms5_is M cn ho24 G (by omega) hga i0 K.2.2.2.1 c1 c2 qo (by omega) q1
  have X1 := ((XU.rf (W := (· = p)) Y F0).so rfl (o1 := o + 1) (by omega)).st rfl (t1 := t + 1) hl1
  have X2 := X1.mO (tg := 25) (n := 9) (by decide) (by decide)
  obtain ⟨h1, i1, i2, i3, i4, i5⟩ := x_newIs (d + 281) X2.i (X2.rm rm (by omega)) (fz_nO) (pl l t) 0 (by decide)
  have i1 : F (d + 289) 154978707 [vR (hn h), vI (pl l t), vI 0] (nO (pI (pI h 1294223504 p ((o + 1 : Nat) : Int)) 1285834896 p ((t + 1 : Nat) : Int)) 25 9) = some (.inl none, h1) := i1
  have i3 : NF h1 (hn h) 25 (hn h + 1) (pl l t) (pt 1041838695 0 z0) z0 zr := i3
  have i4 : AL h1 (hn h + 1) [] := i4
  have i5 : hn h1 = hn h + 1 + 2 := i5
  have X3 := X2.tr i2 (fun x z => ⟨by have z : x = hn h := z; omega, Or.inr (by have z : x = hn h := z; omega)⟩)
  have wp0 : ∀ x, x = p → ¬ O x ∨ Wp p x := fun x z => Or.inr (by rw [z]; exact ⟨Nat.le_refl _, by omega⟩)
  have kq := K.ok J X3.1 wp0
  obtain ⟨h2, j1, j2, j3⟩ := f_with' (d + 282) X3.i (q := hn h) (r := hn h + 1) (v := q) (by rw [i3.1]; decide) i3.2.1 i4 kq.1 (by decide) (X3.rm rm (by omega))
  have X4 := X3.tr j2 (fun x z => ⟨by omega, Or.inr (by omega)⟩)
  have hn2 : hn h1 ≤ hn h2 := j2.1.1
  have n2 := XU.nf i3 j2 X3.i (by omega) (by decide)
  have J1 := JNX.step J X4.1 (fun _ z => Or.inr z) X4.2.1 X4.2.2 G1 (by omega) (nmp_w c2 (by decide) (by decide)) (y1 := y + 3) (by omega) (by rw [mk1]; omega)
  have K1 := K.go J X4.1 wp0 G1.po Gw.rf (ngR hR) (ngR hR)
  have t1' := i3.1
  rcases U hG sG p lx l PR Z0 ZM h2 s1 (t + 1) (o + 1) P O dl (y + 3) (g + 1) (d + 289) (by omega) J1 Pre1 Pre2 Pre3 (Or.inl Pre4) q1 (by omega) (by omega) with B | B
  · left
    refine BN.up B RC (fun e h' hb => ?_)
    simp (config := {implicitDefEqProofs := false}) only [e_X11_unitBehind, c_X11_unitBehind_0, c_X11_unitBehind_4, c_X11_unitBehind_12, c_X11_unitBehind_20, c_X11_unitBehind_23, c_X11_unitBehind_27, c_X11_unitBehind_45, c_X11_unitBehind_49, c_X11_unitBehind_53, c_X11_unitBehind_56, c_X11_unitBehind_61, c_X11_unitBehind_64, c_X11_unitBehind_71, c_X11_unitBehind_74, c_X11_unitBehind_78, c_X11_unitBehind_82, c_X11_unitBehind_101, c_X11_unitBehind_105, c_X11_unitBehind_109, c_X11_unitBehind_112, c_X11_unitBehind_117, bnd_v, bnd_x, pu_s, pu_n, b01_T, b01_F, Int.reduceEq, Int.reduceLT, Int.reduceLE, Int.reduceNe, Nat.reduceEqDiff, Nat.reduceLeDiff, and_false, false_and, and_true, true_and, or_false, false_or, or_true, true_or, if_true, if_false, not_true_eq_false, not_false_eq_true, eq_self, ne_eq, reduceCtorEq, false_implies, true_implies, implies_true, inT, inA, rmO, rmA, rI_pI, rI_pJ, rI_pR, rI_qI, rI_qJ, rI_qR, rJ_pI, rJ_pJ, rJ_pR, rJ_qI, rJ_qJ, rJ_qR, rR_pI, rR_pJ, rR_pR, rR_qI, rR_qJ, rR_qR, sI_pI, sI_pJ, sI_pR, sI_qI, sI_qJ, sI_qR, sJ_pI, sJ_pJ, sJ_pR, sJ_qI, sJ_qJ, sJ_qR, sR_pI, sR_pJ, sR_pR, sR_qI, sR_qJ, sR_qR, hc_pI, hc_pJ, hc_pR, hc_qI, hc_qJ, hc_qR, hl_pI, hl_pJ, hl_pR, hl_qI, hl_qJ, hl_qR, hk_pI, hk_pJ, hk_pR, hk_qI, hk_qJ, hk_qR, hs_pI, hs_pJ, hs_pR, hs_qI, hs_qJ, hs_qR, hn_pI, hn_pJ, hn_pR, hn_qI, hn_qJ, hn_qR, hc_nO', hc_nA', hl_nO, hl_nA', hn_nO, hn_nA, hk_nO, hk_nA, hs_nO, hs_nA, rI_nO, rI_nA, rJ_nO, rJ_nA, rR_nO, rR_nA, Nat.le_refl, Y.1, fpl _ Y, fgt Y, fk0 _ Y, xk2 Y, xk3 Y, xk4 Y, im_op _ Y, tm_op _ Y, im_cp _ Y, tm_cp _ Y, im_ob _ Y, tm_ob _ Y, im_cb _ Y, tm_cb _ Y, im_co _ Y, tm_co _ Y, im_se _ Y, tm_se _ Y, im_cl _ Y, tm_cl _ Y, im_be _ Y, tm_be _ Y, iw_IS _ Y, tw_IS _ Y, iw_ISNT _ Y, tw_ISNT _ Y, c1, c2, f_openY _ Y qo, w32_1 lt6, x1, x9, pn, i1, dq_24, t1', j1, X4.2.1.1, hb]
  · right
    obtain ⟨q2, i2', h3, s3, t2, P2, O2, dl2, b1, b2, b3, ⟨b4, b5⟩, b6, ⟨u3, b7⟩, b8, b9, b10⟩ := B
    have M3 := JNX.m b3
    have cn3 := JNX.c b3
    have Y3 := JNX.x b3
    have hn3 : hn h2 ≤ hn h3 := b7.1.1
    have gg1 : fI s1 2066437804 = g + 2 := G1.2.1
    have e1 : aI s3 39 g = fI s 1915442860 := (b6.gl (by decide) g0 (by omega)).1.trans r1
    have e2 : aI s3 35 g = 6 := (b6.gl (by decide) g0 (by omega)).1.trans r2
    have e3 : aI s3 34 g = 2 := (b6.gl (by decide) g0 (by omega)).1.trans r3
    have hg3 : fI s3 2066437804 = g + 1 := b6.2.1
    have md3 : fI s1 1915442860 ≤ fI s3 1915442860 := b6.2.2.2.1
    have U3 : UN s3 (fI s 1915442860) [i] := U1.go b6 (fun z => by have := List.mem_singleton.mp z; omega) (by omega)
    have A3 : AtM s3 (fI s 1915442860) 6 t 1 0 0 (-1) 0 := A1.go b6 k1 (by omega) (by omega) (by omega)
    have K3 := K1.go J1 b7 (fun x z => Or.inr z) b6 b8 (ngR hR) (ngR hR)
    have mL : aI s3 21 (fI s 1915442860) = i := U3.2.2.1 i rfl
    have hm3 : fI s3 1915442860 + fI s3 2217432748 + fI s3 2192266924 ≤ t2 + (o + 1 : Nat) + 1 := cn3.2.2.1
    have ok3 := U3.ok (by have := cn3.1; have := M3.1.a; have := Y3.2.2.2.2.2.1; omega)
    have RC3 := Reach.one (by rw [hg3]; omega) (by have := M3.2.2.1; omega) (step_of hg3 ⟨g0, by omega⟩ e3 (by decide) (mu6 M3 cn3 (by omega) hg3 g0 (by omega) e2 (by rw [e1]; exact ok3.1.1) (by rw [e1]; exact ok3.1.2) (by rw [e1]; exact ok3.2)))
    rw [e1] at RC3
    have wq : ¬ Wp p (hn h) := fun z => by have := z.2; omega
    have wr : ¬ Wp p (hn h + 1) := fun z => by have := z.2; omega
    have al3 := b7.al X4.2.1.c wr (fun z => p0 (by have := z.1; omega)) j3
    have n3 := XU.nf n2 b7 X4.2.1.i wq (by decide)
    have nr : ¬ O2 (hn h + 1) := fun z => (b8.2.1 _ z).elim (fun w => by have := JNX.hi J w; omega) (fun w => by omega)
    have posR : ∀ e, (R0 e ∨ Rg (fI s1 1915442860) (fI s3 1915442860) (hn h2) (hn h3) e) → fI s 1915442860 + 1 ≤ e.1 ∧ hn h + 3 ≤ e.2 ∧ e.1 < fI s3 1915442860 ∧ e.2 < hn h3 := fun e z => by
      rcases z with z | ⟨z1, z2, z3, z4⟩
      · exact z.elim
      · exact ⟨by omega, by omega, z2, z4⟩
    obtain ⟨h4, l1, l2, J5, K5, N5, E5, m5, q5⟩ := end1 (d := d + 282) (rr := 0) b3 hg3 b5 K3.kf b4 (fun e e' z z' => by have := hR e z; have := posR e' z'; constructor <;> omega) U3 (fun e z => by have := hR e z; constructor <;> omega) (fun e z => by have := posR e z; refine ⟨?_, ?_, ?_⟩ <;> omega) A3 n3 al3 (by show 1 < 50; decide) (by omega) (by omega) (by omega) nr (by decide) (by decide) hxt rfl rfl (fun h' s' a' n' => by obtain ⟨a1, a2, a3, a4, a5, a6, a7, a8⟩ := a'; obtain ⟨n1, n2, n3, n4, n5, n6⟩ := n'; have n7 := n4 1041838695 (by decide); unfold APu; simp (config := {implicitDefEqProofs := false}) only [bnd_v, bnd_x, pu_s, pu_n, b01_T, b01_F, Int.reduceEq, Int.reduceLT, Int.reduceLE, Int.reduceNe, Nat.reduceEqDiff, Nat.reduceLeDiff, and_false, false_and, and_true, true_and, or_false, false_or, or_true, true_or, if_true, if_false, not_true_eq_false, not_false_eq_true, eq_self, ne_eq, reduceCtorEq, false_implies, true_implies, implies_true, a1, n1, n7, a3, pt, Int.reduceSub]) (by unfold Ari; simp (config := {implicitDefEqProofs := false}) only [bnd_v, bnd_x, pu_s, pu_n, b01_T, b01_F, Int.reduceEq, Int.reduceLT, Int.reduceLE, Int.reduceNe, Nat.reduceEqDiff, Nat.reduceLeDiff, and_false, false_and, and_true, true_and, or_false, false_or, or_true, true_or, if_true, if_false, not_true_eq_false, not_false_eq_true, eq_self, ne_eq, reduceCtorEq, false_implies, true_implies, implies_true]; rfl) (by decide) (by decide) (fun f z => if_neg (fun w => z (by rw [w]; decide))) (fun f _ => rfl) (by have := b6.2.2.1; have := G1.2.2.2.1; omega)
    have EE := (X4.1.mono (W' := Wp p) (fun x _ z => by rw [z]; exact ⟨Nat.le_refl _, by omega⟩) (Nat.le_refl _)).tr b7 (fun _ _ z => z)
    have EF := EE.tr E5 (fun x hx z => by
      rcases z with z | z
      · rw [z]; exact ⟨Nat.le_refl _, by omega⟩
      · omega)
    have cl := f_close (d + 288) l2 (o' := o) rfl
    have p4 := l2.1
    refine ⟨hn h, fI s 1915442860, _, _, t2, P2, _, dl2, ?_, (RC.tr b2).tr RC3, J5, ⟨K5.up (fun e z => ?_), rfl⟩, ((G1.po.vv (v := i)).seq (by omega) b6 (Or.inr (Or.inr (by decide))) (Or.inl rfl)).seq (by omega) N5 (Or.inl mL) (Or.inr (Or.inl (Int.le_refl _))), ⟨_, EF⟩, b8.own (by omega) (Nat.le_refl _) (by omega), by omega, by rw [m5]; omega⟩
    · have n31 := n3.1
      simp (config := {implicitDefEqProofs := false}) only [e_X11_unitBehind, c_X11_unitBehind_0, c_X11_unitBehind_4, c_X11_unitBehind_12, c_X11_unitBehind_20, c_X11_unitBehind_23, c_X11_unitBehind_27, c_X11_unitBehind_45, c_X11_unitBehind_49, c_X11_unitBehind_53, c_X11_unitBehind_56, c_X11_unitBehind_61, c_X11_unitBehind_64, c_X11_unitBehind_71, c_X11_unitBehind_74, c_X11_unitBehind_78, c_X11_unitBehind_82, c_X11_unitBehind_101, c_X11_unitBehind_105, c_X11_unitBehind_109, c_X11_unitBehind_112, c_X11_unitBehind_117, bnd_v, bnd_x, pu_s, pu_n, b01_T, b01_F, Int.reduceEq, Int.reduceLT, Int.reduceLE, Int.reduceNe, Nat.reduceEqDiff, Nat.reduceLeDiff, and_false, false_and, and_true, true_and, or_false, false_or, or_true, true_or, if_true, if_false, not_true_eq_false, not_false_eq_true, eq_self, ne_eq, reduceCtorEq, false_implies, true_implies, implies_true, inT, inA, rmO, rmA, rI_pI, rI_pJ, rI_pR, rI_qI, rI_qJ, rI_qR, rJ_pI, rJ_pJ, rJ_pR, rJ_qI, rJ_qJ, rJ_qR, rR_pI, rR_pJ, rR_pR, rR_qI, rR_qJ, rR_qR, sI_pI, sI_pJ, sI_pR, sI_qI, sI_qJ, sI_qR, sJ_pI, sJ_pJ, sJ_pR, sJ_qI, sJ_qJ, sJ_qR, sR_pI, sR_pJ, sR_pR, sR_qI, sR_qJ, sR_qR, hc_pI, hc_pJ, hc_pR, hc_qI, hc_qJ, hc_qR, hl_pI, hl_pJ, hl_pR, hl_qI, hl_qJ, hl_qR, hk_pI, hk_pJ, hk_pR, hk_qI, hk_qJ, hk_qR, hs_pI, hs_pJ, hs_pR, hs_qI, hs_qJ, hs_qR, hn_pI, hn_pJ, hn_pR, hn_qI, hn_qJ, hn_qR, hc_nO', hc_nA', hl_nO, hl_nA', hn_nO, hn_nA, hk_nO, hk_nA, hs_nO, hs_nA, rI_nO, rI_nA, rJ_nO, rJ_nA, rR_nO, rR_nA, Nat.le_refl, Y.1, fpl _ Y, fgt Y, fk0 _ Y, xk2 Y, xk3 Y, xk4 Y, im_op _ Y, tm_op _ Y, im_cp _ Y, tm_cp _ Y, im_ob _ Y, tm_ob _ Y, im_cb _ Y, tm_cb _ Y, im_co _ Y, tm_co _ Y, im_se _ Y, tm_se _ Y, im_cl _ Y, tm_cl _ Y, im_be _ Y, tm_be _ Y, iw_IS _ Y, tw_IS _ Y, iw_ISNT _ Y, tw_ISNT _ Y, c1, c2, f_openY _ Y qo, w32_1 lt6, x1, x9, pn, i1, dq_24, t1', j1, X4.2.1.1, b1, n31, l1, cl, p4, Y3.1]
    · have hn5 := E5.1.1
      rcases z with (z | z) | z
      · exact Or.inl z
      · right
        have := posR e z
        exact ⟨by omega, by rw [m5]; omega, by omega, by omega⟩
      · right
        rw [z]
        exact ⟨Int.le_refl _, by rw [m5]; show fI s 1915442860 < fI s3 1915442860; omega, Nat.le_refl _, by show hn h < _; omega⟩
theorem ub_nt {k d : Nat} {i : Int} {q : Nat} (U : TerC k) (J : JN hG sG p lx l PR Z0 ZM h s t o P O dl y) (G : GP s g 2 5) (hga : aI s 36 g = i) (K : KD h s l P (ON p O) PR R i q) (hR : ∀ e, R e → 0 ≤ e.1 ∧ e.1 < fI s 1915442860 ∧ e.2 < hn h) (hg : g ≤ 20 * o + 6) (hK : 24 ≤ o + (k + 1)) (hD : 60 * (24 - o) ≤ d) (c1 : kd l t = 1) (c2 : sI l t = 8) (qo : o < 24) (q1 : ¬ (kd l (t + 1) = 1 ∧ sI l (t + 1) = 6)) : BN hG sG p l Z0 ZM (F (d + 290) 114893378 [vR p, vR q] h) s ∨ NOK 0 i R hG sG p lx l PR Z0 ZM (F (d + 290) 114893378 [vR p, vR q] h) h s t o P O y g := by
  have M := JNX.m J
  have Y := JNX.x J
  have F0 := JNX.f J
  have hp := JNX.hp J
  have p0 := JNX.p0 J
  have ho24 : o ≤ 24 := Y.2.2.2.2.2.1
  have hxt : t < xc l := M.1.2.2
  have xl : xc l ≤ l.length := M.1.1.x
  have hl2 := M.1.1.2.1
  have rm := JNX.room J
  have lt6 : t < 1000000 := by omega
  obtain ⟨⟨k1, k2, k3, k4⟩, k5, k6, k7⟩ := JNX.c J
  have cn := JNX.c J
  have x1 : hk h < cLim := by unfold Room at rm; omega
  have x2 : hs h + 20 ≤ sLim := by unfold Room at rm; omega
  have x8 : hs h + 8 ≤ sLim := by omega
  have x9 : hs h + 9 ≤ sLim := by omega
  have pn : ¬ (p = hn h) := by omega
  have hl1 : t + 1 < xc l := Y.next hxt (by rw [c1]; decide) (by rw [c1]; decide)
  have i0 := K.2.1
  have g0 := G.2.1
  have hg1 := G.1
  obtain ⟨s1, RC, G1, mk1, U1, A1, r1, r2, r3, Pre1, Pre2, Pre3, Pre4⟩ := ms5_nt M cn ho24 G (by omega) hga i0 K.2.2.2.1 c1 c2 qo (by omega) q1
  have X1 := ((XU.rf (W := (· = p)) Y F0).so rfl (o1 := o + 1) (by omega)).st rfl (t1 := t + 1) hl1
  have X2 := X1.mO (tg := 25) (n := 9) (by decide) (by decide)
  obtain ⟨h1, i1, i2, i3, i4, i5⟩ := x_newIs (d + 281) X2.i (X2.rm rm (by omega)) (fz_nO) (pl l t) 1 (by decide)
  have i1 : F (d + 289) 154978707 [vR (hn h), vI (pl l t), vI 1] (nO (pI (pI h 1294223504 p ((o + 1 : Nat) : Int)) 1285834896 p ((t + 1 : Nat) : Int)) 25 9) = some (.inl none, h1) := i1
  have i3 : NF h1 (hn h) 25 (hn h + 1) (pl l t) (pt 1041838695 1 z0) z0 zr := i3
  have i4 : AL h1 (hn h + 1) [] := i4
  have i5 : hn h1 = hn h + 1 + 2 := i5
  have X3 := X2.tr i2 (fun x z => ⟨by have z : x = hn h := z; omega, Or.inr (by have z : x = hn h := z; omega)⟩)
  have wp0 : ∀ x, x = p → ¬ O x ∨ Wp p x := fun x z => Or.inr (by rw [z]; exact ⟨Nat.le_refl _, by omega⟩)
  have kq := K.ok J X3.1 wp0
  obtain ⟨h2, j1, j2, j3⟩ := f_with' (d + 282) X3.i (q := hn h) (r := hn h + 1) (v := q) (by rw [i3.1]; decide) i3.2.1 i4 kq.1 (by decide) (X3.rm rm (by omega))
  have X4 := X3.tr j2 (fun x z => ⟨by omega, Or.inr (by omega)⟩)
  have hn2 : hn h1 ≤ hn h2 := j2.1.1
  have n2 := XU.nf i3 j2 X3.i (by omega) (by decide)
  have J1 := JNX.step J X4.1 (fun _ z => Or.inr z) X4.2.1 X4.2.2 G1 (by omega) (nmp_w c2 (by decide) (by decide)) (y1 := y + 3) (by omega) (by rw [mk1]; omega)
  have K1 := K.go J X4.1 wp0 G1.po Gw.rf (ngR hR) (ngR hR)
  have t1' := i3.1
  rcases U hG sG p lx l PR Z0 ZM h2 s1 (t + 1) (o + 1) P O dl (y + 3) (g + 1) (d + 289) (by omega) J1 Pre1 Pre2 Pre3 (Or.inl Pre4) q1 (by omega) (by omega) with B | B
  · left
    refine BN.up B RC (fun e h' hb => ?_)
    simp (config := {implicitDefEqProofs := false}) only [e_X11_unitBehind, c_X11_unitBehind_0, c_X11_unitBehind_4, c_X11_unitBehind_12, c_X11_unitBehind_20, c_X11_unitBehind_23, c_X11_unitBehind_27, c_X11_unitBehind_45, c_X11_unitBehind_49, c_X11_unitBehind_53, c_X11_unitBehind_56, c_X11_unitBehind_61, c_X11_unitBehind_64, c_X11_unitBehind_71, c_X11_unitBehind_74, c_X11_unitBehind_78, c_X11_unitBehind_82, c_X11_unitBehind_101, c_X11_unitBehind_105, c_X11_unitBehind_109, c_X11_unitBehind_112, c_X11_unitBehind_117, bnd_v, bnd_x, pu_s, pu_n, b01_T, b01_F, Int.reduceEq, Int.reduceLT, Int.reduceLE, Int.reduceNe, Nat.reduceEqDiff, Nat.reduceLeDiff, and_false, false_and, and_true, true_and, or_false, false_or, or_true, true_or, if_true, if_false, not_true_eq_false, not_false_eq_true, eq_self, ne_eq, reduceCtorEq, false_implies, true_implies, implies_true, inT, inA, rmO, rmA, rI_pI, rI_pJ, rI_pR, rI_qI, rI_qJ, rI_qR, rJ_pI, rJ_pJ, rJ_pR, rJ_qI, rJ_qJ, rJ_qR, rR_pI, rR_pJ, rR_pR, rR_qI, rR_qJ, rR_qR, sI_pI, sI_pJ, sI_pR, sI_qI, sI_qJ, sI_qR, sJ_pI, sJ_pJ, sJ_pR, sJ_qI, sJ_qJ, sJ_qR, sR_pI, sR_pJ, sR_pR, sR_qI, sR_qJ, sR_qR, hc_pI, hc_pJ, hc_pR, hc_qI, hc_qJ, hc_qR, hl_pI, hl_pJ, hl_pR, hl_qI, hl_qJ, hl_qR, hk_pI, hk_pJ, hk_pR, hk_qI, hk_qJ, hk_qR, hs_pI, hs_pJ, hs_pR, hs_qI, hs_qJ, hs_qR, hn_pI, hn_pJ, hn_pR, hn_qI, hn_qJ, hn_qR, hc_nO', hc_nA', hl_nO, hl_nA', hn_nO, hn_nA, hk_nO, hk_nA, hs_nO, hs_nA, rI_nO, rI_nA, rJ_nO, rJ_nA, rR_nO, rR_nA, Nat.le_refl, Y.1, fpl _ Y, fgt Y, fk0 _ Y, xk2 Y, xk3 Y, xk4 Y, im_op _ Y, tm_op _ Y, im_cp _ Y, tm_cp _ Y, im_ob _ Y, tm_ob _ Y, im_cb _ Y, tm_cb _ Y, im_co _ Y, tm_co _ Y, im_se _ Y, tm_se _ Y, im_cl _ Y, tm_cl _ Y, im_be _ Y, tm_be _ Y, iw_IS _ Y, tw_IS _ Y, iw_ISNT _ Y, tw_ISNT _ Y, c1, c2, f_openY _ Y qo, w32_1 lt6, x1, x9, pn, i1, dq_24, t1', j1, X4.2.1.1, hb]
  · right
    obtain ⟨q2, i2', h3, s3, t2, P2, O2, dl2, b1, b2, b3, ⟨b4, b5⟩, b6, ⟨u3, b7⟩, b8, b9, b10⟩ := B
    have M3 := JNX.m b3
    have cn3 := JNX.c b3
    have Y3 := JNX.x b3
    have hn3 : hn h2 ≤ hn h3 := b7.1.1
    have gg1 : fI s1 2066437804 = g + 2 := G1.2.1
    have e1 : aI s3 39 g = fI s 1915442860 := (b6.gl (by decide) g0 (by omega)).1.trans r1
    have e2 : aI s3 35 g = 6 := (b6.gl (by decide) g0 (by omega)).1.trans r2
    have e3 : aI s3 34 g = 2 := (b6.gl (by decide) g0 (by omega)).1.trans r3
    have hg3 : fI s3 2066437804 = g + 1 := b6.2.1
    have md3 : fI s1 1915442860 ≤ fI s3 1915442860 := b6.2.2.2.1
    have U3 : UN s3 (fI s 1915442860) [i] := U1.go b6 (fun z => by have := List.mem_singleton.mp z; omega) (by omega)
    have A3 : AtM s3 (fI s 1915442860) 6 t 0 0 0 (-1) 0 := A1.go b6 k1 (by omega) (by omega) (by omega)
    have K3 := K1.go J1 b7 (fun x z => Or.inr z) b6 b8 (ngR hR) (ngR hR)
    have mL : aI s3 21 (fI s 1915442860) = i := U3.2.2.1 i rfl
    have hm3 : fI s3 1915442860 + fI s3 2217432748 + fI s3 2192266924 ≤ t2 + (o + 1 : Nat) + 1 := cn3.2.2.1
    have ok3 := U3.ok (by have := cn3.1; have := M3.1.a; have := Y3.2.2.2.2.2.1; omega)
    have RC3 := Reach.one (by rw [hg3]; omega) (by have := M3.2.2.1; omega) (step_of hg3 ⟨g0, by omega⟩ e3 (by decide) (mu6 M3 cn3 (by omega) hg3 g0 (by omega) e2 (by rw [e1]; exact ok3.1.1) (by rw [e1]; exact ok3.1.2) (by rw [e1]; exact ok3.2)))
    rw [e1] at RC3
    have wq : ¬ Wp p (hn h) := fun z => by have := z.2; omega
    have wr : ¬ Wp p (hn h + 1) := fun z => by have := z.2; omega
    have al3 := b7.al X4.2.1.c wr (fun z => p0 (by have := z.1; omega)) j3
    have n3 := XU.nf n2 b7 X4.2.1.i wq (by decide)
    have nr : ¬ O2 (hn h + 1) := fun z => (b8.2.1 _ z).elim (fun w => by have := JNX.hi J w; omega) (fun w => by omega)
    have posR : ∀ e, (R0 e ∨ Rg (fI s1 1915442860) (fI s3 1915442860) (hn h2) (hn h3) e) → fI s 1915442860 + 1 ≤ e.1 ∧ hn h + 3 ≤ e.2 ∧ e.1 < fI s3 1915442860 ∧ e.2 < hn h3 := fun e z => by
      rcases z with z | ⟨z1, z2, z3, z4⟩
      · exact z.elim
      · exact ⟨by omega, by omega, z2, z4⟩
    obtain ⟨h4, l1, l2, J5, K5, N5, E5, m5, q5⟩ := end1 (d := d + 282) (rr := 0) b3 hg3 b5 K3.kf b4 (fun e e' z z' => by have := hR e z; have := posR e' z'; constructor <;> omega) U3 (fun e z => by have := hR e z; constructor <;> omega) (fun e z => by have := posR e z; refine ⟨?_, ?_, ?_⟩ <;> omega) A3 n3 al3 (by show 1 < 50; decide) (by omega) (by omega) (by omega) nr (by decide) (by decide) hxt rfl rfl (fun h' s' a' n' => by obtain ⟨a1, a2, a3, a4, a5, a6, a7, a8⟩ := a'; obtain ⟨n1, n2, n3, n4, n5, n6⟩ := n'; have n7 := n4 1041838695 (by decide); unfold APu; simp (config := {implicitDefEqProofs := false}) only [bnd_v, bnd_x, pu_s, pu_n, b01_T, b01_F, Int.reduceEq, Int.reduceLT, Int.reduceLE, Int.reduceNe, Nat.reduceEqDiff, Nat.reduceLeDiff, and_false, false_and, and_true, true_and, or_false, false_or, or_true, true_or, if_true, if_false, not_true_eq_false, not_false_eq_true, eq_self, ne_eq, reduceCtorEq, false_implies, true_implies, implies_true, a1, n1, n7, a3, pt, Int.reduceSub]) (by unfold Ari; simp (config := {implicitDefEqProofs := false}) only [bnd_v, bnd_x, pu_s, pu_n, b01_T, b01_F, Int.reduceEq, Int.reduceLT, Int.reduceLE, Int.reduceNe, Nat.reduceEqDiff, Nat.reduceLeDiff, and_false, false_and, and_true, true_and, or_false, false_or, or_true, true_or, if_true, if_false, not_true_eq_false, not_false_eq_true, eq_self, ne_eq, reduceCtorEq, false_implies, true_implies, implies_true]; rfl) (by decide) (by decide) (fun f z => if_neg (fun w => z (by rw [w]; decide))) (fun f _ => rfl) (by have := b6.2.2.1; have := G1.2.2.2.1; omega)
    have EE := (X4.1.mono (W' := Wp p) (fun x _ z => by rw [z]; exact ⟨Nat.le_refl _, by omega⟩) (Nat.le_refl _)).tr b7 (fun _ _ z => z)
    have EF := EE.tr E5 (fun x hx z => by
      rcases z with z | z
      · rw [z]; exact ⟨Nat.le_refl _, by omega⟩
      · omega)
    have cl := f_close (d + 288) l2 (o' := o) rfl
    have p4 := l2.1
    refine ⟨hn h, fI s 1915442860, _, _, t2, P2, _, dl2, ?_, (RC.tr b2).tr RC3, J5, ⟨K5.up (fun e z => ?_), rfl⟩, ((G1.po.vv (v := i)).seq (by omega) b6 (Or.inr (Or.inr (by decide))) (Or.inl rfl)).seq (by omega) N5 (Or.inl mL) (Or.inr (Or.inl (Int.le_refl _))), ⟨_, EF⟩, b8.own (by omega) (Nat.le_refl _) (by omega), by omega, by rw [m5]; omega⟩
    · have n31 := n3.1
      simp (config := {implicitDefEqProofs := false}) only [e_X11_unitBehind, c_X11_unitBehind_0, c_X11_unitBehind_4, c_X11_unitBehind_12, c_X11_unitBehind_20, c_X11_unitBehind_23, c_X11_unitBehind_27, c_X11_unitBehind_45, c_X11_unitBehind_49, c_X11_unitBehind_53, c_X11_unitBehind_56, c_X11_unitBehind_61, c_X11_unitBehind_64, c_X11_unitBehind_71, c_X11_unitBehind_74, c_X11_unitBehind_78, c_X11_unitBehind_82, c_X11_unitBehind_101, c_X11_unitBehind_105, c_X11_unitBehind_109, c_X11_unitBehind_112, c_X11_unitBehind_117, bnd_v, bnd_x, pu_s, pu_n, b01_T, b01_F, Int.reduceEq, Int.reduceLT, Int.reduceLE, Int.reduceNe, Nat.reduceEqDiff, Nat.reduceLeDiff, and_false, false_and, and_true, true_and, or_false, false_or, or_true, true_or, if_true, if_false, not_true_eq_false, not_false_eq_true, eq_self, ne_eq, reduceCtorEq, false_implies, true_implies, implies_true, inT, inA, rmO, rmA, rI_pI, rI_pJ, rI_pR, rI_qI, rI_qJ, rI_qR, rJ_pI, rJ_pJ, rJ_pR, rJ_qI, rJ_qJ, rJ_qR, rR_pI, rR_pJ, rR_pR, rR_qI, rR_qJ, rR_qR, sI_pI, sI_pJ, sI_pR, sI_qI, sI_qJ, sI_qR, sJ_pI, sJ_pJ, sJ_pR, sJ_qI, sJ_qJ, sJ_qR, sR_pI, sR_pJ, sR_pR, sR_qI, sR_qJ, sR_qR, hc_pI, hc_pJ, hc_pR, hc_qI, hc_qJ, hc_qR, hl_pI, hl_pJ, hl_pR, hl_qI, hl_qJ, hl_qR, hk_pI, hk_pJ, hk_pR, hk_qI, hk_qJ, hk_qR, hs_pI, hs_pJ, hs_pR, hs_qI, hs_qJ, hs_qR, hn_pI, hn_pJ, hn_pR, hn_qI, hn_qJ, hn_qR, hc_nO', hc_nA', hl_nO, hl_nA', hn_nO, hn_nA, hk_nO, hk_nA, hs_nO, hs_nA, rI_nO, rI_nA, rJ_nO, rJ_nA, rR_nO, rR_nA, Nat.le_refl, Y.1, fpl _ Y, fgt Y, fk0 _ Y, xk2 Y, xk3 Y, xk4 Y, im_op _ Y, tm_op _ Y, im_cp _ Y, tm_cp _ Y, im_ob _ Y, tm_ob _ Y, im_cb _ Y, tm_cb _ Y, im_co _ Y, tm_co _ Y, im_se _ Y, tm_se _ Y, im_cl _ Y, tm_cl _ Y, im_be _ Y, tm_be _ Y, iw_IS _ Y, tw_IS _ Y, iw_ISNT _ Y, tw_ISNT _ Y, c1, c2, f_openY _ Y qo, w32_1 lt6, x1, x9, pn, i1, dq_24, t1', j1, X4.2.1.1, b1, n31, l1, cl, p4, Y3.1]
    · have hn5 := E5.1.1
      rcases z with (z | z) | z
      · exact Or.inl z
      · right
        have := posR e z
        exact ⟨by omega, by rw [m5]; omega, by omega, by omega⟩
      · right
        rw [z]
        exact ⟨Int.le_refl _, by rw [m5]; show fI s 1915442860 < fI s3 1915442860; omega, Nat.le_refl _, by show hn h < _; omega⟩
end UB
