/-! READING NODES: IF, opened is full -/
set_option maxRecDepth 100000
set_option maxHeartbeats 1000000
section BSL2
variable {hG h h0 h1 : PH} {sG s s1 : MS} {p lx t o t1 o1 : Nat} {l : List TokE} {PR g : Int} {P P1 : List (Nat × Int)} {O O1 W W1 X : Nat → Prop} {Z0 ZM Z u u' y y1 : Nat} {v w : Int} {dl dl1 : List Nat} {R R1 : Int × Nat → Prop}
theorem bs_ifF {d : Nat} (J : JN hG sG p lx l PR Z0 ZM h s t o P O dl y) (G : FG s g 1) (hg : g ≤ 20 * o + 8) (c1 : kd l t = 1) (c2 : sI l t = 17) (nd : ¬ isDec l t) (qo : o = 24) : BN hG sG p l Z0 ZM (F (d + 270) 112796225 [vR p] h) s := by
  have M := JNX.m J
  have Y := JNX.x J
  have F0 := JNX.f J
  have hp := JNX.hp J
  have p0 := JNX.p0 J
  have ho24 : o ≤ 24 := Y.2.2.2.2.2.1
  have hxt : t < xc l := M.1.2.2
  have xl : xc l ≤ l.length := M.1.1.x
  have hl2 := M.1.1.2.1
  have rm := JNX.room J
  have lt6 : t < 1000000 := by omega
  obtain ⟨⟨k1, k2, k3, k4⟩, k5, k6, k7⟩ := JNX.c J
  have cn := JNX.c J
  have x1 : hk h < cLim := by unfold Room at rm; omega
  have x2 : hs h + 20 ≤ sLim := by unfold Room at rm; omega
  have x8 : hs h + 8 ≤ sLim := by omega
  have x9 : hs h + 9 ≤ sLim := by omega
  have pn : ¬ (p = hn h) := by omega
  have hl1 : t + 1 < xc l := Y.next hxt (by rw [c1]; decide) (by rw [c1]; decide)
  obtain ⟨s1, RC1, G1, GP1, st1, go1, f1, f2, f3, md1⟩ := msf1_if M cn ho24 G.1 (by omega) c1 c2 nd (by omega)
  have M1 := M.sg G1 (Nat.le_refl _) hxt
  have cn1 := cn.sg G1 (Nat.le_refl _) (by omega)
  obtain ⟨hg1, g0, hgo, hz⟩ := GP1
  have RC : Reach s1 (uI (vI' (nodeS s1 24 (t)) 36 (g + 1) (fI s1 1915442860)) 1772836524 (pl l t)) := Reach.one (by rw [hg1]; omega) (by have := M1.2.2.1; omega) (step_of hg1 ⟨g0, by omega⟩ hgo (by decide) (mif0F M1 cn1 ho24 hg1 g0 (by omega) hz qo))
  obtain ⟨e, h1, w1, w2, w3⟩ := f_openN (d + 262) Y (rm.le (by omega)) qo
  have fw : FrW s1 (uI (vI' (nodeS s1 24 (t)) 36 (g + 1) (fI s1 1915442860)) 1772836524 (pl l t)) := (Fr.uI (Fr.vI (Fr.node (Fr.rf (L := Lm s1) (v := -1)) (Int.le_refl _) (Int.le_refl _)) (by decide) (Or.inl (show fI s1 2066437804 - 1 ≤ g + 1 by omega))) (by decide)).w (by have := M1.2.2.2; show _ ≤ fI s1 1789613740; omega) (by have := M1.2.2.2; show _ ≤ fI s1 1848333996; omega) (by have := M1.2.2.2; show _ ≤ fI s1 2024494764; omega)
  refine JNX.now J (Ev.rf (W := (· = p)) Y.i) (fun _ z => Or.inr z) (by omega) ⟨e, h1, ?_, w2, w3⟩ hxt (RC1.tr RC) (by simp (config := {implicitDefEqProofs := false}) only [bnd_v, bnd_x, pu_s, pu_n, b01_T, b01_F, Int.reduceEq, Int.reduceLT, Int.reduceLE, Int.reduceNe, Nat.reduceEqDiff, Nat.reduceLeDiff, and_false, false_and, and_true, true_and, or_false, false_or, or_true, true_or, if_true, if_false, not_true_eq_false, not_false_eq_true, eq_self, ne_eq, reduceCtorEq, false_implies, true_implies, implies_true, fI_uI, fI_uJ, fI_vI, fI_vJ, fJ_uI, fJ_uJ, fJ_vI, fJ_vJ, aI_uI, aI_uJ, aI_vI, aI_vJ, aJ_uI, aJ_uJ, aJ_vI, aJ_vJ, fI_nodeS, aI_nodeS, aJ_nodeS, fI_modeS, aI_modeS, aJ_modeS, fI_pushS, aI_pushS, aJ_pushS, fI_giveS, aI_giveS, aJ_giveS, fI_gmodeS, aI_gmodeS, aJ_gmodeS, fI_childS, aI_childS, aJ_childS]) ((G1.fw M).tr fw)
  simp (config := {implicitDefEqProofs := false}) only [e_X11_base, c_X11_base_0, c_X11_base_4, c_X11_base_13, c_X11_base_19, c_X11_base_48, c_X11_base_49, c_X11_base_55, c_X11_base_58, c_X11_base_68, c_X11_base_74, c_X11_base_108, c_X11_base_109, c_X11_base_116, c_X11_base_119, c_X11_base_130, c_X11_base_131, c_X11_base_138, c_X11_base_141, c_X11_base_152, c_X11_base_153, c_X11_base_161, c_X11_base_167, c_X11_base_176, c_X11_base_179, c_X11_base_180, c_X11_base_188, c_X11_base_191, c_X11_base_198, c_X11_base_201, c_X11_base_202, c_X11_base_209, c_X11_base_212, c_X11_base_217, c_X11_base_218, c_X11_base_225, c_X11_base_228, c_X11_base_232, c_X11_base_246, c_X11_base_254, c_X11_base_258, c_X11_base_260, c_X11_base_267, c_X11_base_270, c_X11_base_275, c_X11_base_276, c_X11_base_283, c_X11_base_286, c_X11_base_291, c_X11_base_292, c_X11_base_299, c_X11_base_302, c_X11_base_319, c_X11_base_322, c_X11_base_326, c_X11_base_327, c_X11_base_331, c_X11_base_349, c_X11_base_353, c_X11_base_356, c_X11_base_364, c_X11_base_368, c_X11_base_370, c_X11_base_375, e_X11_choice, c_X11_choice_0, c_X11_choice_4, c_X11_choice_22, c_X11_choice_26, c_X11_choice_29, c_X11_choice_37, c_X11_choice_42, c_X11_choice_45, c_X11_choice_53, c_X11_choice_56, c_X11_choice_61, c_X11_choice_64, c_X11_choice_65, c_X11_choice_72, c_X11_choice_76, bnd_v, bnd_x, pu_s, pu_n, b01_T, b01_F, Int.reduceEq, Int.reduceLT, Int.reduceLE, Int.reduceNe, Nat.reduceEqDiff, Nat.reduceLeDiff, and_false, false_and, and_true, true_and, or_false, false_or, or_true, true_or, if_true, if_false, not_true_eq_false, not_false_eq_true, eq_self, ne_eq, reduceCtorEq, false_implies, true_implies, implies_true, inT, inA, rmO, rmA, rI_pI, rI_pJ, rI_pR, rI_qI, rI_qJ, rI_qR, rJ_pI, rJ_pJ, rJ_pR, rJ_qI, rJ_qJ, rJ_qR, rR_pI, rR_pJ, rR_pR, rR_qI, rR_qJ, rR_qR, sI_pI, sI_pJ, sI_pR, sI_qI, sI_qJ, sI_qR, sJ_pI, sJ_pJ, sJ_pR, sJ_qI, sJ_qJ, sJ_qR, sR_pI, sR_pJ, sR_pR, sR_qI, sR_qJ, sR_qR, hc_pI, hc_pJ, hc_pR, hc_qI, hc_qJ, hc_qR, hl_pI, hl_pJ, hl_pR, hl_qI, hl_qJ, hl_qR, hk_pI, hk_pJ, hk_pR, hk_qI, hk_qJ, hk_qR, hs_pI, hs_pJ, hs_pR, hs_qI, hs_qJ, hs_qR, hn_pI, hn_pJ, hn_pR, hn_qI, hn_qJ, hn_qR, hc_nO', hc_nA', hl_nO, hl_nA', hn_nO, hn_nA, hk_nO, hk_nA, hs_nO, hs_nA, rI_nO, rI_nA, rJ_nO, rJ_nA, rR_nO, rR_nA, Nat.le_refl, Y.1, fpl _ Y, fgt Y, fk0 _ Y, xk2 Y, xk3 Y, xk4 Y, im_op _ Y, tm_op _ Y, im_cp _ Y, tm_cp _ Y, im_ob _ Y, tm_ob _ Y, im_cb _ Y, tm_cb _ Y, im_co _ Y, tm_co _ Y, im_se _ Y, tm_se _ Y, im_cl _ Y, tm_cl _ Y, im_be _ Y, tm_be _ Y, iw_LONG _ Y, tw_LONG _ Y, iw_TRUE _ Y, tw_TRUE _ Y, iw_FALSE _ Y, tw_FALSE _ Y, iw_BEGIN _ Y, tw_BEGIN _ Y, iw_IF _ Y, tw_IF _ Y, f_isDeclarer _ Y hxt, b01_n nd, c1, c2, w32_1 lt6, w1]
end BSL2
