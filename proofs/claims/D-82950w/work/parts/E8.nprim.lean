/-! READING NODES: all that stands behind a primary -/
set_option maxRecDepth 100000
set_option maxHeartbeats 1000000
section PBL
variable {hG h h0 h1 : PH} {sG s s1 : MS} {p lx t o t1 o1 : Nat} {l : List TokE} {PR g : Int} {P P1 : List (Nat × Int)} {O O1 W W1 X : Nat → Prop} {Z0 ZM Z u u' y y1 : Nat} {v w : Int} {dl dl1 : List Nat} {R R1 : Int × Nat → Prop}
theorem pb_callF {d : Nat} {q : Nat} {a2 a3 : PV} (J : JN hG sG p lx l PR Z0 ZM h s t o P O dl y) (G : FG s g 6) (hg : g ≤ 20 * o + 8) (c1 : kd l t = 5) (c2 : sI l t = 40) (qo : o = 24) : BN hG sG p l Z0 ZM (FA (F (d + 302)) 109650498 0 [vR p, vR q, a2, a3] [] h) s := by
  have M := JNX.m J
  have Y := JNX.x J
  have F0 := JNX.f J
  have hp := JNX.hp J
  have p0 := JNX.p0 J
  have ho24 : o ≤ 24 := Y.2.2.2.2.2.1
  have hxt : t < xc l := M.1.2.2
  have xl : xc l ≤ l.length := M.1.1.x
  have hl2 := M.1.1.2.1
  have rm := JNX.room J
  have lt6 : t < 1000000 := by omega
  obtain ⟨⟨k1, k2, k3, k4⟩, k5, k6, k7⟩ := JNX.c J
  have cn := JNX.c J
  have x1 : hk h < cLim := by unfold Room at rm; omega
  have x2 : hs h + 20 ≤ sLim := by unfold Room at rm; omega
  have x8 : hs h + 8 ≤ sLim := by omega
  have x9 : hs h + 9 ≤ sLim := by omega
  have pn : ¬ (p = hn h) := by omega
  obtain ⟨hg1, g0, hgo, hz⟩ := G.1
  have x10 : hs h + 10 ≤ sLim := by omega
  have RC : Reach s (uI s 1772836524 (pl l t)) := Reach.one (by rw [hg1]; omega) (by have := M.2.2.1; omega) (step_of hg1 ⟨g0, by omega⟩ hgo (by decide) (m6_callF M cn ho24 hg1 g0 (by omega) hz c1 c2 qo))
  have X1 := (XU.rf (W := (· = p)) Y F0).mO (tg := 12) (n := 9) (by decide) (by decide)
  obtain ⟨h1, i1, i2, i3, i4, i5⟩ := x_newCall (d + 294) X1.i (X1.rm rm (by omega)) (fz_nO) (pl l t)
  have i1 : F (d + 302) 130572482 [vR (hn h), vI (pl l t)] (nO h 12 9) = some (.inl none, h1) := i1
  have X2 := X1.tr i2 (fun x z => ⟨by have z : x = hn h := z; omega, Or.inr (by have z : x = hn h := z; omega)⟩)
  obtain ⟨e, h3, w1, w2, w3⟩ := f_openN (d + 296) X2.2.1 (X2.rm rm (by omega)) qo
  refine JNX.now J X2.1 (fun _ z => Or.inr z) (by omega) ⟨e, h3, ?_, w2, w3⟩ hxt RC (by simp (config := {implicitDefEqProofs := false}) only [bnd_v, bnd_x, pu_s, pu_n, b01_T, b01_F, Int.reduceEq, Int.reduceLT, Int.reduceLE, Int.reduceNe, Nat.reduceEqDiff, Nat.reduceLeDiff, and_false, false_and, and_true, true_and, or_false, false_or, or_true, true_or, if_true, if_false, not_true_eq_false, not_false_eq_true, eq_self, ne_eq, reduceCtorEq, false_implies, true_implies, implies_true, fI_uI, fI_uJ, fI_vI, fI_vJ, fJ_uI, fJ_uJ, fJ_vI, fJ_vJ, aI_uI, aI_uJ, aI_vI, aI_vJ, aJ_uI, aJ_uJ, aJ_vI, aJ_vJ, fI_nodeS, aI_nodeS, aJ_nodeS, fI_modeS, aI_modeS, aJ_modeS, fI_pushS, aI_pushS, aJ_pushS, fI_giveS, aI_giveS, aJ_giveS, fI_gmodeS, aI_gmodeS, aJ_gmodeS, fI_childS, aI_childS, aJ_childS]) ((Fr.uI (L := Lm s) (v := -1) Fr.rf (by decide)).w (by have := M.2.2.2; show _ ≤ fI s 1789613740; omega) (by have := M.2.2.2; show _ ≤ fI s 1848333996; omega) (by have := M.2.2.2; show _ ≤ fI s 2024494764; omega))
  simp (config := {implicitDefEqProofs := false}) only [e_X11_primaryBehind, c_X11_primaryBehind_0, c_X11_primaryBehind_7, c_X11_primaryBehind_10, c_X11_primaryBehind_17, c_X11_primaryBehind_20, c_X11_primaryBehind_27, c_X11_primaryBehind_32, c_X11_primaryBehind_40, c_X11_primaryBehind_43, c_X11_primaryBehind_46, c_X11_primaryBehind_54, c_X11_primaryBehind_57, c_X11_primaryBehind_62, c_X11_primaryBehind_77, c_X11_primaryBehind_83, c_X11_primaryBehind_86, c_X11_primaryBehind_91, c_X11_primaryBehind_97, c_X11_primaryBehind_100, c_X11_primaryBehind_107, c_X11_primaryBehind_110, c_X11_primaryBehind_115, c_X11_primaryBehind_118, c_X11_primaryBehind_119, c_X11_primaryBehind_124, c_X11_primaryBehind_130, c_X11_primaryBehind_133, c_X11_primaryBehind_136, c_X11_primaryBehind_140, c_X11_primaryBehind_145, bnd_v, bnd_x, pu_s, pu_n, b01_T, b01_F, Int.reduceEq, Int.reduceLT, Int.reduceLE, Int.reduceNe, Nat.reduceEqDiff, Nat.reduceLeDiff, and_false, false_and, and_true, true_and, or_false, false_or, or_true, true_or, if_true, if_false, not_true_eq_false, not_false_eq_true, eq_self, ne_eq, reduceCtorEq, false_implies, true_implies, implies_true, inT, inA, rmO, rmA, rI_pI, rI_pJ, rI_pR, rI_qI, rI_qJ, rI_qR, rJ_pI, rJ_pJ, rJ_pR, rJ_qI, rJ_qJ, rJ_qR, rR_pI, rR_pJ, rR_pR, rR_qI, rR_qJ, rR_qR, sI_pI, sI_pJ, sI_pR, sI_qI, sI_qJ, sI_qR, sJ_pI, sJ_pJ, sJ_pR, sJ_qI, sJ_qJ, sJ_qR, sR_pI, sR_pJ, sR_pR, sR_qI, sR_qJ, sR_qR, hc_pI, hc_pJ, hc_pR, hc_qI, hc_qJ, hc_qR, hl_pI, hl_pJ, hl_pR, hl_qI, hl_qJ, hl_qR, hk_pI, hk_pJ, hk_pR, hk_qI, hk_qJ, hk_qR, hs_pI, hs_pJ, hs_pR, hs_qI, hs_qJ, hs_qR, hn_pI, hn_pJ, hn_pR, hn_qI, hn_qJ, hn_qR, hc_nO', hc_nA', hl_nO, hl_nA', hn_nO, hn_nA, hk_nO, hk_nA, hs_nO, hs_nA, rI_nO, rI_nA, rJ_nO, rJ_nA, rR_nO, rR_nA, Nat.le_refl, Y.1, fpl _ Y, fgt Y, fk0 _ Y, xk2 Y, xk3 Y, xk4 Y, im_op _ Y, tm_op _ Y, im_cp _ Y, tm_cp _ Y, im_ob _ Y, tm_ob _ Y, im_cb _ Y, tm_cb _ Y, im_co _ Y, tm_co _ Y, im_se _ Y, tm_se _ Y, im_cl _ Y, tm_cl _ Y, im_be _ Y, tm_be _ Y, iw_LONG _ Y, tw_LONG _ Y, c1, c2, fpl _ X1.2.1, x1, x9, x10, pn, i1, X2.2.1.1, w1]
theorem pb_idxF {d : Nat} {q : Nat} {a2 a3 : PV} (J : JN hG sG p lx l PR Z0 ZM h s t o P O dl y) (G : FG s g 6) (hg : g ≤ 20 * o + 8) (c1 : kd l t = 5) (c2 : sI l t = 91) (qo : o = 24) : BN hG sG p l Z0 ZM (FA (F (d + 302)) 109650498 0 [vR p, vR q, a2, a3] [] h) s := by
  have M := JNX.m J
  have Y := JNX.x J
  have F0 := JNX.f J
  have hp := JNX.hp J
  have p0 := JNX.p0 J
  have ho24 : o ≤ 24 := Y.2.2.2.2.2.1
  have hxt : t < xc l := M.1.2.2
  have xl : xc l ≤ l.length := M.1.1.x
  have hl2 := M.1.1.2.1
  have rm := JNX.room J
  have lt6 : t < 1000000 := by omega
  obtain ⟨⟨k1, k2, k3, k4⟩, k5, k6, k7⟩ := JNX.c J
  have cn := JNX.c J
  have x1 : hk h < cLim := by unfold Room at rm; omega
  have x2 : hs h + 20 ≤ sLim := by unfold Room at rm; omega
  have x8 : hs h + 8 ≤ sLim := by omega
  have x9 : hs h + 9 ≤ sLim := by omega
  have pn : ¬ (p = hn h) := by omega
  obtain ⟨hg1, g0, hgo, hz⟩ := G.1
  have x10 : hs h + 10 ≤ sLim := by omega
  have RC : Reach s (uI s 1772836524 (pl l t)) := Reach.one (by rw [hg1]; omega) (by have := M.2.2.1; omega) (step_of hg1 ⟨g0, by omega⟩ hgo (by decide) (m6_idxF M cn ho24 hg1 g0 (by omega) hz c1 c2 qo))
  have X1 := (XU.rf (W := (· = p)) Y F0).mO (tg := 33) (n := 10) (by decide) (by decide)
  obtain ⟨h1, i1, i2, i3, i4, i5⟩ := x_newSlice (d + 294) X1.i (X1.rm rm (by omega)) (fz_nO) (pl l t)
  have i1 : F (d + 302) 131926546 [vR (hn h), vI (pl l t)] (nO h 33 10) = some (.inl none, h1) := i1
  have X2 := X1.tr i2 (fun x z => ⟨by have z : x = hn h := z; omega, Or.inr (by have z : x = hn h := z; omega)⟩)
  obtain ⟨e, h3, w1, w2, w3⟩ := f_openN (d + 296) X2.2.1 (X2.rm rm (by omega)) qo
  refine JNX.now J X2.1 (fun _ z => Or.inr z) (by omega) ⟨e, h3, ?_, w2, w3⟩ hxt RC (by simp (config := {implicitDefEqProofs := false}) only [bnd_v, bnd_x, pu_s, pu_n, b01_T, b01_F, Int.reduceEq, Int.reduceLT, Int.reduceLE, Int.reduceNe, Nat.reduceEqDiff, Nat.reduceLeDiff, and_false, false_and, and_true, true_and, or_false, false_or, or_true, true_or, if_true, if_false, not_true_eq_false, not_false_eq_true, eq_self, ne_eq, reduceCtorEq, false_implies, true_implies, implies_true, fI_uI, fI_uJ, fI_vI, fI_vJ, fJ_uI, fJ_uJ, fJ_vI, fJ_vJ, aI_uI, aI_uJ, aI_vI, aI_vJ, aJ_uI, aJ_uJ, aJ_vI, aJ_vJ, fI_nodeS, aI_nodeS, aJ_nodeS, fI_modeS, aI_modeS, aJ_modeS, fI_pushS, aI_pushS, aJ_pushS, fI_giveS, aI_giveS, aJ_giveS, fI_gmodeS, aI_gmodeS, aJ_gmodeS, fI_childS, aI_childS, aJ_childS]) ((Fr.uI (L := Lm s) (v := -1) Fr.rf (by decide)).w (by have := M.2.2.2; show _ ≤ fI s 1789613740; omega) (by have := M.2.2.2; show _ ≤ fI s 1848333996; omega) (by have := M.2.2.2; show _ ≤ fI s 2024494764; omega))
  simp (config := {implicitDefEqProofs := false}) only [e_X11_primaryBehind, c_X11_primaryBehind_0, c_X11_primaryBehind_7, c_X11_primaryBehind_10, c_X11_primaryBehind_17, c_X11_primaryBehind_20, c_X11_primaryBehind_27, c_X11_primaryBehind_32, c_X11_primaryBehind_40, c_X11_primaryBehind_43, c_X11_primaryBehind_46, c_X11_primaryBehind_54, c_X11_primaryBehind_57, c_X11_primaryBehind_62, c_X11_primaryBehind_77, c_X11_primaryBehind_83, c_X11_primaryBehind_86, c_X11_primaryBehind_91, c_X11_primaryBehind_97, c_X11_primaryBehind_100, c_X11_primaryBehind_107, c_X11_primaryBehind_110, c_X11_primaryBehind_115, c_X11_primaryBehind_118, c_X11_primaryBehind_119, c_X11_primaryBehind_124, c_X11_primaryBehind_130, c_X11_primaryBehind_133, c_X11_primaryBehind_136, c_X11_primaryBehind_140, c_X11_primaryBehind_145, bnd_v, bnd_x, pu_s, pu_n, b01_T, b01_F, Int.reduceEq, Int.reduceLT, Int.reduceLE, Int.reduceNe, Nat.reduceEqDiff, Nat.reduceLeDiff, and_false, false_and, and_true, true_and, or_false, false_or, or_true, true_or, if_true, if_false, not_true_eq_false, not_false_eq_true, eq_self, ne_eq, reduceCtorEq, false_implies, true_implies, implies_true, inT, inA, rmO, rmA, rI_pI, rI_pJ, rI_pR, rI_qI, rI_qJ, rI_qR, rJ_pI, rJ_pJ, rJ_pR, rJ_qI, rJ_qJ, rJ_qR, rR_pI, rR_pJ, rR_pR, rR_qI, rR_qJ, rR_qR, sI_pI, sI_pJ, sI_pR, sI_qI, sI_qJ, sI_qR, sJ_pI, sJ_pJ, sJ_pR, sJ_qI, sJ_qJ, sJ_qR, sR_pI, sR_pJ, sR_pR, sR_qI, sR_qJ, sR_qR, hc_pI, hc_pJ, hc_pR, hc_qI, hc_qJ, hc_qR, hl_pI, hl_pJ, hl_pR, hl_qI, hl_qJ, hl_qR, hk_pI, hk_pJ, hk_pR, hk_qI, hk_qJ, hk_qR, hs_pI, hs_pJ, hs_pR, hs_qI, hs_qJ, hs_qR, hn_pI, hn_pJ, hn_pR, hn_qI, hn_qJ, hn_qR, hc_nO', hc_nA', hl_nO, hl_nA', hn_nO, hn_nA, hk_nO, hk_nA, hs_nO, hs_nA, rI_nO, rI_nA, rJ_nO, rJ_nA, rR_nO, rR_nA, Nat.le_refl, Y.1, fpl _ Y, fgt Y, fk0 _ Y, xk2 Y, xk3 Y, xk4 Y, im_op _ Y, tm_op _ Y, im_cp _ Y, tm_cp _ Y, im_ob _ Y, tm_ob _ Y, im_cb _ Y, tm_cb _ Y, im_co _ Y, tm_co _ Y, im_se _ Y, tm_se _ Y, im_cl _ Y, tm_cl _ Y, im_be _ Y, tm_be _ Y, iw_LONG _ Y, tw_LONG _ Y, c1, c2, fpl _ X1.2.1, x1, x9, x10, pn, i1, X2.2.1.1, w1]
theorem pb_end {d : Nat} {i : Int} {q : Nat} {a2 a3 : PV} (J : JN hG sG p lx l PR Z0 ZM h s t o P O dl y) (G : FG s g 6) (vl : fI s 2125158060 = i) (K : KD h s l P (ON p O) PR R i q) (hR : ∀ e, R e → 0 ≤ e.1 ∧ e.1 < fI s 1915442860 ∧ e.2 < hn h) (hg : g ≤ 20 * o + 8) (c1 : ¬ (kd l t = 5 ∧ sI l t = 40)) (c2 : ¬ (kd l t = 5 ∧ sI l t = 91)) : VOK R 7 hG sG p lx l PR Z0 ZM (FA (F (d + 302)) 109650498 0 [vR p, vR q, a2, a3] [] h) h s t o P O y g i := by
  have M := JNX.m J
  have Y := JNX.x J
  have F0 := JNX.f J
  have hp := JNX.hp J
  have p0 := JNX.p0 J
  have ho24 : o ≤ 24 := Y.2.2.2.2.2.1
  have hxt : t < xc l := M.1.2.2
  have xl : xc l ≤ l.length := M.1.1.x
  have hl2 := M.1.1.2.1
  have rm := JNX.room J
  have lt6 : t < 1000000 := by omega
  obtain ⟨⟨k1, k2, k3, k4⟩, k5, k6, k7⟩ := JNX.c J
  have cn := JNX.c J
  have x1 : hk h < cLim := by unfold Room at rm; omega
  have x2 : hs h + 20 ≤ sLim := by unfold Room at rm; omega
  have x8 : hs h + 8 ≤ sLim := by omega
  have x9 : hs h + 9 ≤ sLim := by omega
  have pn : ¬ (p = hn h) := by omega
  obtain ⟨s1, RC, G1, GP1, f1, f2, f3, md, v1⟩ := ms6_end M cn ho24 G.1 (by omega) c1 c2
  have E0 : Ev (· = p) 0 h h := Ev.rf Y.i
  have J1 := JNX.step J E0 (fun _ z => Or.inr z) Y F0 G1 (Nat.le_refl _) nmp_rf (y1 := y) (by omega) (by omega)
  have K1 := K.go J E0 (w_p J (fun _ z => Or.inr z)) G1.po Gw.rf (ngR hR) (ngR hR)
  refine ⟨q, i, h, s1, s1, t, P, O, dl, ?_, ⟨RC, GP1, G1.2.2.1.2.2, Eqv.rf⟩, J1, ⟨K1.up (fun e z => Or.inl z), v1.trans vl⟩, G1.po.vv, ⟨0, Ev.rf Y.i⟩, Gw.rf, ⟨Nat.le_refl _, by omega⟩, ⟨GP1.2.2.1, GP1.2.2.2, f1, f2, f3⟩⟩
  simp (config := {implicitDefEqProofs := false}) only [e_X11_primaryBehind, c_X11_primaryBehind_0, c_X11_primaryBehind_7, c_X11_primaryBehind_10, c_X11_primaryBehind_17, c_X11_primaryBehind_20, c_X11_primaryBehind_27, c_X11_primaryBehind_32, c_X11_primaryBehind_40, c_X11_primaryBehind_43, c_X11_primaryBehind_46, c_X11_primaryBehind_54, c_X11_primaryBehind_57, c_X11_primaryBehind_62, c_X11_primaryBehind_77, c_X11_primaryBehind_83, c_X11_primaryBehind_86, c_X11_primaryBehind_91, c_X11_primaryBehind_97, c_X11_primaryBehind_100, c_X11_primaryBehind_107, c_X11_primaryBehind_110, c_X11_primaryBehind_115, c_X11_primaryBehind_118, c_X11_primaryBehind_119, c_X11_primaryBehind_124, c_X11_primaryBehind_130, c_X11_primaryBehind_133, c_X11_primaryBehind_136, c_X11_primaryBehind_140, c_X11_primaryBehind_145, bnd_v, bnd_x, pu_s, pu_n, b01_T, b01_F, Int.reduceEq, Int.reduceLT, Int.reduceLE, Int.reduceNe, Nat.reduceEqDiff, Nat.reduceLeDiff, and_false, false_and, and_true, true_and, or_false, false_or, or_true, true_or, if_true, if_false, not_true_eq_false, not_false_eq_true, eq_self, ne_eq, reduceCtorEq, false_implies, true_implies, implies_true, inT, inA, rmO, rmA, rI_pI, rI_pJ, rI_pR, rI_qI, rI_qJ, rI_qR, rJ_pI, rJ_pJ, rJ_pR, rJ_qI, rJ_qJ, rJ_qR, rR_pI, rR_pJ, rR_pR, rR_qI, rR_qJ, rR_qR, sI_pI, sI_pJ, sI_pR, sI_qI, sI_qJ, sI_qR, sJ_pI, sJ_pJ, sJ_pR, sJ_qI, sJ_qJ, sJ_qR, sR_pI, sR_pJ, sR_pR, sR_qI, sR_qJ, sR_qR, hc_pI, hc_pJ, hc_pR, hc_qI, hc_qJ, hc_qR, hl_pI, hl_pJ, hl_pR, hl_qI, hl_qJ, hl_qR, hk_pI, hk_pJ, hk_pR, hk_qI, hk_qJ, hk_qR, hs_pI, hs_pJ, hs_pR, hs_qI, hs_qJ, hs_qR, hn_pI, hn_pJ, hn_pR, hn_qI, hn_qJ, hn_qR, hc_nO', hc_nA', hl_nO, hl_nA', hn_nO, hn_nA, hk_nO, hk_nA, hs_nO, hs_nA, rI_nO, rI_nA, rJ_nO, rJ_nA, rR_nO, rR_nA, Nat.le_refl, Y.1, fpl _ Y, fgt Y, fk0 _ Y, xk2 Y, xk3 Y, xk4 Y, im_op _ Y, tm_op _ Y, im_cp _ Y, tm_cp _ Y, im_ob _ Y, tm_ob _ Y, im_cb _ Y, tm_cb _ Y, im_co _ Y, tm_co _ Y, im_se _ Y, tm_se _ Y, im_cl _ Y, tm_cl _ Y, im_be _ Y, tm_be _ Y, iw_LONG _ Y, tw_LONG _ Y, c1, c2]
theorem pb_all {k d : Nat} (U : UnitC k) (hK : 24 ≤ o + 1 + k) (hD : 60 * (24 - (o + 1)) ≤ d) (hg : g ≤ 20 * o + 8) : ∀ (N : Nat) (h : PH) (s : MS) (t : Nat) (P : List (Nat × Int)) (O : Nat → Prop) (dl : List Nat) (i : Int) (q : Nat) (R : Int × Nat → Prop) (a2 a3 : PV), xc l - t ≤ N → JN hG sG p lx l PR Z0 ZM h s t o P O dl y → FG s g 6 → fI s 2125158060 = i → KD h s l P (ON p O) PR R i q → (∀ e, R e → 0 ≤ e.1 ∧ e.1 < fI s 1915442860 ∧ e.2 < hn h) → BN hG sG p l Z0 ZM (FA (F (d + 302)) 109650498 0 [vR p, vR q, a2, a3] [] h) s ∨ VOK R 7 hG sG p lx l PR Z0 ZM (FA (F (d + 302)) 109650498 0 [vR p, vR q, a2, a3] [] h) h s t o P O y g i
  | 0, h, s, t, P, O, dl, i, q, R, a2, a3, hN, J, _, _, _, _ => by
    have := (JNX.m J).1.2.2
    omega
  | N + 1, h, s, t, P, O, dl, i, q, R, a2, a3, hN, J, G, vl, K, hR => by
    have ho24 : o ≤ 24 := (JNX.x J).2.2.2.2.2.1
    have hxt : t < xc l := (JNX.m J).1.2.2
    have k1 := (JNX.c J).1.1
    have key : PBK i q R hG sG p lx l PR Z0 ZM d a2 a3 h s t o P O y g → BN hG sG p l Z0 ZM (FA (F (d + 302)) 109650498 0 [vR p, vR q, a2, a3] [] h) s ∨ VOK R 7 hG sG p lx l PR Z0 ZM (FA (F (d + 302)) 109650498 0 [vR p, vR q, a2, a3] [] h) h s t o P O y g i := fun B => by
      obtain ⟨n, q0, h', s', t', P', O', dl', b2, b3, w1, w2, w3, w4, ⟨w5, w6, w6'⟩, w7, ⟨u8, w8⟩, w9, ⟨w10, w10'⟩, w11, w12, w13⟩ := B
      have hn8 : hn h ≤ hn h' := w8.1.1
      have e7 := w7.2.2.1
      have m7 := w7.2.2.2.1
      have G' : FG s' g 6 := ⟨w4, by rw [w11]; have := G.2.1; omega, by rw [w12]; have := G.2.2.1; omega, by rw [w13, w11]; exact G.2.2.2⟩
      have hR' : ∀ e, (R e ∨ Rg (fI s 1915442860) (fI s' 1915442860) (hn h) (hn h') e) → 0 ≤ e.1 ∧ e.1 < fI s' 1915442860 ∧ e.2 < hn h' := fun e z => by
        rcases z with z | ⟨z1, z2, z3, z4⟩
        · have := hR e z; exact ⟨this.1, by omega, by omega⟩
        · exact ⟨by omega, z2, z4⟩
      rw [w1]
      rcases pb_all U hK hD hg N h' s' t' P' O' dl' n q0 _ b2 b3 (by omega) w3 G' w6 w5 hR' with B | B
      · exact Or.inl (BN.up B w2 (fun _ _ z => z))
      · right
        obtain ⟨q4, i4, h4, s4, s5, t4, P4, O4, dl4, v1, ⟨v2, v3⟩, v4, ⟨v5, v6⟩, v7, ⟨u9, v8⟩, v9, ⟨v10, v11⟩, v12, v13, v14, v15, v16⟩ := B
        have hn9 : hn h' ≤ hn h4 := v8.1.1
        have m9 := v7.2.2.2.1
        refine ⟨q4, i4, h4, s4, s5, t4, P4, O4, dl4, v1, ⟨w2.tr v2, v3⟩, v4, ⟨v5.up (fun e z => ?_), v6⟩, w7.seq (by have := G.1.1; omega) v7 (Or.inr (Or.inl w6')) (Or.inl rfl), ⟨_, w8.tr v8 (fun _ _ z => z)⟩, w9.tr v9 hn8, ⟨by omega, by omega⟩, v12, v13, v14.trans w11, v15.trans w12, v16.trans w13⟩
        rcases z with (z | ⟨z1, z2, z3, z4⟩) | ⟨z1, z2, z3, z4⟩
        · exact Or.inl z
        · exact Or.inr ⟨z1, by omega, z3, by omega⟩
        · exact Or.inr ⟨by omega, z2, by omega, z4⟩
    by_cases c1 : kd l t = 5 ∧ sI l t = 40
    · by_cases qo : o < 24
      · rcases pb_call (a2 := a2) (a3 := a3) U hK hD J G vl K hR hg c1.1 c1.2 qo with B | B
        · exact Or.inl B
        · exact key B
      · exact Or.inl (pb_callF J G hg c1.1 c1.2 (by omega))
    · by_cases c2 : kd l t = 5 ∧ sI l t = 91
      · by_cases qo : o < 24
        · rcases pb_idx (a2 := a2) (a3 := a3) U hK hD J G vl K hR hg c2.1 c2.2 qo with B | B
          · exact Or.inl B
          · exact key B
        · exact Or.inl (pb_idxF J G hg c2.1 c2.2 (by omega))
      · exact Or.inr (pb_end J G vl K hR hg c1 c2)
end PBL
