/-! READING NODES: bases without parts -/
set_option maxRecDepth 100000
set_option maxHeartbeats 1000000
theorem w32_t2 {n : Nat} (h : n < 1000000) : w32 ((n : Int) + 2) = ((n + 2 : Nat) : Int) := by rw [w32_id (by omega) (by omega)]; omega
theorem w32_m1 {n : Nat} (h : n < 1000000) : w32 (((n + 2 : Nat) : Int) - 1) = ((n + 1 : Nat) : Int) := by rw [w32_id (by omega) (by omega)]; omega
section BSL
variable {hG h h0 h1 : PH} {sG s s1 : MS} {p lx t o t1 o1 : Nat} {l : List TokE} {PR g : Int} {P P1 : List (Nat × Int)} {O O1 W W1 X : Nat → Prop} {Z0 ZM Z u u' y y1 : Nat} {v w : Int} {dl dl1 : List Nat} {R R1 : Int × Nat → Prop}
theorem bs_num {d : Nat} (J : JN hG sG p lx l PR Z0 ZM h s t o P O dl y) (G : FG s g 1) (hg : g ≤ 20 * o + 8) (q : kd l t = 4) : VOK R0 6 hG sG p lx l PR Z0 ZM (F (d + 270) 112796225 [vR p] h) h s t o P O y g (-1) := by
  have M := JNX.m J
  have Y := JNX.x J
  have F0 := JNX.f J
  have hp := JNX.hp J
  have p0 := JNX.p0 J
  have ho24 : o ≤ 24 := Y.2.2.2.2.2.1
  have hxt : t < xc l := M.1.2.2
  have xl : xc l ≤ l.length := M.1.1.x
  have hl2 := M.1.1.2.1
  have rm := JNX.room J
  have lt6 : t < 1000000 := by omega
  obtain ⟨⟨k1, k2, k3, k4⟩, k5, k6, k7⟩ := JNX.c J
  have cn := JNX.c J
  have x1 : hk h < cLim := by unfold Room at rm; omega
  have x2 : hs h + 20 ≤ sLim := by unfold Room at rm; omega
  have x8 : hs h + 8 ≤ sLim := by omega
  have x9 : hs h + 9 ≤ sLim := by omega
  have pn : ¬ (p = hn h) := by omega
  have wt1 : hc h (gR h 335874582 lx) = 66 := Y.x.2.2.2.1.1
  have wt2 : hl h (gR h 335874582 lx) = 482 := Y.x.2.2.2.1.2
  have wt3 : ∀ k : Nat, k < xc l → eJ h (gR h 335874582 lx) (k : Int) = xwo (kd l k) (sI l k) (wd l k) := fun k hk => by
    have := (Y.x.2.2.2.2.2.1 k hk).2.2
    rw [Int.zero_add] at this
    exact this
  have wt4 : lx < p ∧ gR h 335874582 lx < p := ⟨Y.2.2.2.2.2.2.2.2.1, Y.2.2.2.2.2.2.2.2.2.2.2⟩
  have nl : ¬ (lx = hn h) := by omega
  have nw : ¬ (gR h 335874582 lx = hn h) := by omega
  have n482 : (t : Int) < 482 := by omega
  have n0t : (0 : Int) ≤ t := by omega
  have hl1 : t + 1 < xc l := Y.next hxt (by rw [q]; decide) (by rw [q]; decide)
  have X2 := ((XU.rf (W := (· = p)) Y F0).mO (tg := 28) (n := 10) (by decide) (by decide)).st rfl (t1 := t + 1) hl1
  obtain ⟨s1, RC, G1, mk1, U1, A1, vl, GP1, f1, f2, f3⟩ := msb_num M cn ho24 G.1 (by omega) q (by omega)
  have x10 : hs h + 10 ≤ sLim := by omega
  obtain ⟨h1, i1, i2, i3, i4, i5⟩ := x_newPlain (d + 261) X2.i (X2.rm rm (by omega)) (fz_nO.pI (by omega)) (pl l t) 15 (sI l t)
  have i1 : F (d + 269) 142139844 [vR (hn h), vI (pl l t), vI 15, vJ (sI l t)] (pI (nO h 28 10) 1285834896 p ((t + 1 : Nat) : Int)) = some (.inl none, h1) := i1
  have i3 : NF h1 (hn h) 28 (hn h + 1) (pl l t) (pt 1092368496 15 z0) (pt 1100757105 (sI l t) z0) zr := i3
  have i4 : AL h1 (hn h + 1) [] := i4
  have i5 : hn h1 = hn h + 1 + 2 := i5
  have X3 := X2.tr i2 (fun x z => ⟨by have z : x = hn h := z; omega, Or.inr (by have z : x = hn h := z; omega)⟩)
  have J1 := JNX.step J X3.1 (fun _ z => Or.inr z) X3.2.1 X3.2.2 G1 (by omega) (nmp_k q (by decide)) (y1 := y) (by omega) (by rw [mk1]; omega)
  obtain ⟨J2, K2⟩ := fin J1 (KF.nil (R := R0)) U1 A1 i3 i4 (fun e z => z.elim) (by omega) (by omega) (by decide) (by decide) hxt rfl rfl ((fun a' n' => by obtain ⟨a1, a2, a3, a4, a5, a6, a7, a8⟩ := a'; obtain ⟨n1, n2, n3, n4, n5, n6⟩ := n'; have n7 := n4 1092368496 (by decide); have n8 := n5 1100757105; unfold APu; simp (config := {implicitDefEqProofs := false}) only [bnd_v, bnd_x, pu_s, pu_n, b01_T, b01_F, Int.reduceEq, Int.reduceLT, Int.reduceLE, Int.reduceNe, Nat.reduceEqDiff, Nat.reduceLeDiff, and_false, false_and, and_true, true_and, or_false, false_or, or_true, true_or, if_true, if_false, not_true_eq_false, not_false_eq_true, eq_self, ne_eq, reduceCtorEq, false_implies, true_implies, implies_true, a1, n1, a3, a7, pt, n7, n8] : AtM s1 _ _ _ _ _ _ _ _ → NF h1 _ _ _ _ _ _ _ → _) A1 i3) (by unfold Ari; simp (config := {implicitDefEqProofs := false}) only [bnd_v, bnd_x, pu_s, pu_n, b01_T, b01_F, Int.reduceEq, Int.reduceLT, Int.reduceLE, Int.reduceNe, Nat.reduceEqDiff, Nat.reduceLeDiff, and_false, false_and, and_true, true_and, or_false, false_or, or_true, true_or, if_true, if_false, not_true_eq_false, not_false_eq_true, eq_self, ne_eq, reduceCtorEq, false_implies, true_implies, implies_true]; rfl) (by decide) (by decide) (fun f z => if_neg (fun w => z (by rw [w]; decide))) (fun f _ => rfl)
  refine ⟨hn h, fI s 1915442860, h1, s1, s1, t + 1, P, _, dl, ?_, ⟨RC, GP1, G1.2.2.1.2.2, Eqv.rf⟩, J2, ⟨K2.up (fun e z => ?_), vl⟩, G1.po, ⟨_, X3.1.mono (W' := Wp p) (fun x _ z => by rw [z]; exact ⟨Nat.le_refl _, by omega⟩) (Nat.le_refl _)⟩, Gw.rf.own (Nat.le_refl _) (Nat.le_refl _) (by omega), ⟨by omega, by omega⟩, ⟨GP1.2.2.1, GP1.2.2.2, f1, f2, f3⟩⟩
  · simp (config := {implicitDefEqProofs := false}) only [e_X11_base, c_X11_base_0, c_X11_base_4, c_X11_base_13, c_X11_base_19, c_X11_base_48, c_X11_base_49, c_X11_base_55, c_X11_base_58, c_X11_base_68, c_X11_base_74, c_X11_base_108, c_X11_base_109, c_X11_base_116, c_X11_base_119, c_X11_base_130, c_X11_base_131, c_X11_base_138, c_X11_base_141, c_X11_base_152, c_X11_base_153, c_X11_base_161, c_X11_base_167, c_X11_base_176, c_X11_base_179, c_X11_base_180, c_X11_base_188, c_X11_base_191, c_X11_base_198, c_X11_base_201, c_X11_base_202, c_X11_base_209, c_X11_base_212, c_X11_base_217, c_X11_base_218, c_X11_base_225, c_X11_base_228, c_X11_base_232, c_X11_base_246, c_X11_base_254, c_X11_base_258, c_X11_base_260, c_X11_base_267, c_X11_base_270, c_X11_base_275, c_X11_base_276, c_X11_base_283, c_X11_base_286, c_X11_base_291, c_X11_base_292, c_X11_base_299, c_X11_base_302, c_X11_base_319, c_X11_base_322, c_X11_base_326, c_X11_base_327, c_X11_base_331, c_X11_base_349, c_X11_base_353, c_X11_base_356, c_X11_base_364, c_X11_base_368, c_X11_base_370, c_X11_base_375, bnd_v, bnd_x, pu_s, pu_n, b01_T, b01_F, Int.reduceEq, Int.reduceLT, Int.reduceLE, Int.reduceNe, Nat.reduceEqDiff, Nat.reduceLeDiff, and_false, false_and, and_true, true_and, or_false, false_or, or_true, true_or, if_true, if_false, not_true_eq_false, not_false_eq_true, eq_self, ne_eq, reduceCtorEq, false_implies, true_implies, implies_true, inT, inA, rmO, rmA, rI_pI, rI_pJ, rI_pR, rI_qI, rI_qJ, rI_qR, rJ_pI, rJ_pJ, rJ_pR, rJ_qI, rJ_qJ, rJ_qR, rR_pI, rR_pJ, rR_pR, rR_qI, rR_qJ, rR_qR, sI_pI, sI_pJ, sI_pR, sI_qI, sI_qJ, sI_qR, sJ_pI, sJ_pJ, sJ_pR, sJ_qI, sJ_qJ, sJ_qR, sR_pI, sR_pJ, sR_pR, sR_qI, sR_qJ, sR_qR, hc_pI, hc_pJ, hc_pR, hc_qI, hc_qJ, hc_qR, hl_pI, hl_pJ, hl_pR, hl_qI, hl_qJ, hl_qR, hk_pI, hk_pJ, hk_pR, hk_qI, hk_qJ, hk_qR, hs_pI, hs_pJ, hs_pR, hs_qI, hs_qJ, hs_qR, hn_pI, hn_pJ, hn_pR, hn_qI, hn_qJ, hn_qR, hc_nO', hc_nA', hl_nO, hl_nA', hn_nO, hn_nA, hk_nO, hk_nA, hs_nO, hs_nA, rI_nO, rI_nA, rJ_nO, rJ_nA, rR_nO, rR_nA, Nat.le_refl, Y.1, fpl _ Y, fgt Y, fk0 _ Y, xk2 Y, xk3 Y, xk4 Y, im_op _ Y, tm_op _ Y, im_cp _ Y, tm_cp _ Y, im_ob _ Y, tm_ob _ Y, im_cb _ Y, tm_cb _ Y, im_co _ Y, tm_co _ Y, im_se _ Y, tm_se _ Y, im_cl _ Y, tm_cl _ Y, im_be _ Y, tm_be _ Y, iw_LONG _ Y, tw_LONG _ Y, Y.2.1, Y.x.1, wt1, wt2, wt3, nl, nw, pn, n482, n0t, x1, x10, hxt, w32_1 lt6, i1, q, xwo]
  · rcases z with z | z
    · exact z.elim
    · right
      rw [z]
      exact ⟨Int.le_refl _, by show fI s 1915442860 < fI s1 1915442860; omega, Nat.le_refl _, by show hn h < hn h1; omega⟩
theorem bs_lnum {d : Nat} (J : JN hG sG p lx l PR Z0 ZM h s t o P O dl y) (G : FG s g 1) (hg : g ≤ 20 * o + 8) (q : kd l t = 1) (r : sI l t = 12) (q' : kd l (t + 1) = 4) : VOK R0 6 hG sG p lx l PR Z0 ZM (F (d + 270) 112796225 [vR p] h) h s t o P O y g (-1) := by
  have M := JNX.m J
  have Y := JNX.x J
  have F0 := JNX.f J
  have hp := JNX.hp J
  have p0 := JNX.p0 J
  have ho24 : o ≤ 24 := Y.2.2.2.2.2.1
  have hxt : t < xc l := M.1.2.2
  have xl : xc l ≤ l.length := M.1.1.x
  have hl2 := M.1.1.2.1
  have rm := JNX.room J
  have lt6 : t < 1000000 := by omega
  obtain ⟨⟨k1, k2, k3, k4⟩, k5, k6, k7⟩ := JNX.c J
  have cn := JNX.c J
  have x1 : hk h < cLim := by unfold Room at rm; omega
  have x2 : hs h + 20 ≤ sLim := by unfold Room at rm; omega
  have x8 : hs h + 8 ≤ sLim := by omega
  have x9 : hs h + 9 ≤ sLim := by omega
  have pn : ¬ (p = hn h) := by omega
  have wt1 : hc h (gR h 335874582 lx) = 66 := Y.x.2.2.2.1.1
  have wt2 : hl h (gR h 335874582 lx) = 482 := Y.x.2.2.2.1.2
  have wt3 : ∀ k : Nat, k < xc l → eJ h (gR h 335874582 lx) (k : Int) = xwo (kd l k) (sI l k) (wd l k) := fun k hk => by
    have := (Y.x.2.2.2.2.2.1 k hk).2.2
    rw [Int.zero_add] at this
    exact this
  have wt4 : lx < p ∧ gR h 335874582 lx < p := ⟨Y.2.2.2.2.2.2.2.2.1, Y.2.2.2.2.2.2.2.2.2.2.2⟩
  have nl : ¬ (lx = hn h) := by omega
  have nw : ¬ (gR h 335874582 lx = hn h) := by omega
  have n482 : (t : Int) < 482 := by omega
  have n0t : (0 : Int) ≤ t := by omega
  have hl1 : t + 1 < xc l := Y.next hxt (by rw [q]; decide) (by rw [q]; decide)
  have hl3 : t + 2 < xc l := Y.next hl1 (by rw [q']; decide) (by rw [q']; decide)
  have m482 : ((t + 1 : Nat) : Int) < 482 := by omega
  have m0t : (0 : Int) ≤ ((t + 1 : Nat) : Int) := by omega
  have X2 := ((XU.rf (W := (· = p)) Y F0).st rfl (t1 := t + 2) hl3).mO (tg := 28) (n := 10) (by decide) (by decide)
  obtain ⟨s1, RC, G1, mk1, U1, A1, vl, GP1, f1, f2, f3⟩ := msb_lnum M cn ho24 G.1 (by omega) q r q' (by omega)
  have x10 : hs h + 10 ≤ sLim := by omega
  obtain ⟨h1, i1, i2, i3, i4, i5⟩ := x_newPlain (d + 261) X2.i (X2.rm rm (by omega)) (fz_nO) (pl l t) 16 (sI l (t + 1))
  have i1 : F (d + 269) 142139844 [vR (hn h), vI (pl l t), vI 16, vJ (sI l (t + 1))] (nO (pI h 1285834896 p ((t + 2 : Nat) : Int)) 28 10) = some (.inl none, h1) := i1
  have i3 : NF h1 (hn h) 28 (hn h + 1) (pl l t) (pt 1092368496 16 z0) (pt 1100757105 (sI l (t + 1)) z0) zr := i3
  have i4 : AL h1 (hn h + 1) [] := i4
  have i5 : hn h1 = hn h + 1 + 2 := i5
  have X3 := X2.tr i2 (fun x z => ⟨by have z : x = hn h := z; omega, Or.inr (by have z : x = hn h := z; omega)⟩)
  have J1 := JNX.step J X3.1 (fun _ z => Or.inr z) X3.2.1 X3.2.2 G1 (by omega) ((nmp_w r (by decide) (by decide)).tr (nmp_k q' (by decide))) (y1 := y) (by omega) (by rw [mk1]; omega)
  obtain ⟨J2, K2⟩ := fin J1 (KF.nil (R := R0)) U1 A1 i3 i4 (fun e z => z.elim) (by omega) (by omega) (by decide) (by decide) hxt rfl rfl ((fun a' n' => by obtain ⟨a1, a2, a3, a4, a5, a6, a7, a8⟩ := a'; obtain ⟨n1, n2, n3, n4, n5, n6⟩ := n'; have n7 := n4 1092368496 (by decide); have n8 := n5 1100757105; unfold APu; simp (config := {implicitDefEqProofs := false}) only [bnd_v, bnd_x, pu_s, pu_n, b01_T, b01_F, Int.reduceEq, Int.reduceLT, Int.reduceLE, Int.reduceNe, Nat.reduceEqDiff, Nat.reduceLeDiff, and_false, false_and, and_true, true_and, or_false, false_or, or_true, true_or, if_true, if_false, not_true_eq_false, not_false_eq_true, eq_self, ne_eq, reduceCtorEq, false_implies, true_implies, implies_true, a1, n1, a3, a7, pt, n7, n8] : AtM s1 _ _ _ _ _ _ _ _ → NF h1 _ _ _ _ _ _ _ → _) A1 i3) (by unfold Ari; simp (config := {implicitDefEqProofs := false}) only [bnd_v, bnd_x, pu_s, pu_n, b01_T, b01_F, Int.reduceEq, Int.reduceLT, Int.reduceLE, Int.reduceNe, Nat.reduceEqDiff, Nat.reduceLeDiff, and_false, false_and, and_true, true_and, or_false, false_or, or_true, true_or, if_true, if_false, not_true_eq_false, not_false_eq_true, eq_self, ne_eq, reduceCtorEq, false_implies, true_implies, implies_true]; rfl) (by decide) (by decide) (fun f z => if_neg (fun w => z (by rw [w]; decide))) (fun f _ => rfl)
  refine ⟨hn h, fI s 1915442860, h1, s1, s1, t + 2, P, _, dl, ?_, ⟨RC, GP1, G1.2.2.1.2.2, Eqv.rf⟩, J2, ⟨K2.up (fun e z => ?_), vl⟩, G1.po, ⟨_, X3.1.mono (W' := Wp p) (fun x _ z => by rw [z]; exact ⟨Nat.le_refl _, by omega⟩) (Nat.le_refl _)⟩, Gw.rf.own (Nat.le_refl _) (Nat.le_refl _) (by omega), ⟨by omega, by omega⟩, ⟨GP1.2.2.1, GP1.2.2.2, f1, f2, f3⟩⟩
  · simp (config := {implicitDefEqProofs := false}) only [e_X11_base, c_X11_base_0, c_X11_base_4, c_X11_base_13, c_X11_base_19, c_X11_base_48, c_X11_base_49, c_X11_base_55, c_X11_base_58, c_X11_base_68, c_X11_base_74, c_X11_base_108, c_X11_base_109, c_X11_base_116, c_X11_base_119, c_X11_base_130, c_X11_base_131, c_X11_base_138, c_X11_base_141, c_X11_base_152, c_X11_base_153, c_X11_base_161, c_X11_base_167, c_X11_base_176, c_X11_base_179, c_X11_base_180, c_X11_base_188, c_X11_base_191, c_X11_base_198, c_X11_base_201, c_X11_base_202, c_X11_base_209, c_X11_base_212, c_X11_base_217, c_X11_base_218, c_X11_base_225, c_X11_base_228, c_X11_base_232, c_X11_base_246, c_X11_base_254, c_X11_base_258, c_X11_base_260, c_X11_base_267, c_X11_base_270, c_X11_base_275, c_X11_base_276, c_X11_base_283, c_X11_base_286, c_X11_base_291, c_X11_base_292, c_X11_base_299, c_X11_base_302, c_X11_base_319, c_X11_base_322, c_X11_base_326, c_X11_base_327, c_X11_base_331, c_X11_base_349, c_X11_base_353, c_X11_base_356, c_X11_base_364, c_X11_base_368, c_X11_base_370, c_X11_base_375, bnd_v, bnd_x, pu_s, pu_n, b01_T, b01_F, Int.reduceEq, Int.reduceLT, Int.reduceLE, Int.reduceNe, Nat.reduceEqDiff, Nat.reduceLeDiff, and_false, false_and, and_true, true_and, or_false, false_or, or_true, true_or, if_true, if_false, not_true_eq_false, not_false_eq_true, eq_self, ne_eq, reduceCtorEq, false_implies, true_implies, implies_true, inT, inA, rmO, rmA, rI_pI, rI_pJ, rI_pR, rI_qI, rI_qJ, rI_qR, rJ_pI, rJ_pJ, rJ_pR, rJ_qI, rJ_qJ, rJ_qR, rR_pI, rR_pJ, rR_pR, rR_qI, rR_qJ, rR_qR, sI_pI, sI_pJ, sI_pR, sI_qI, sI_qJ, sI_qR, sJ_pI, sJ_pJ, sJ_pR, sJ_qI, sJ_qJ, sJ_qR, sR_pI, sR_pJ, sR_pR, sR_qI, sR_qJ, sR_qR, hc_pI, hc_pJ, hc_pR, hc_qI, hc_qJ, hc_qR, hl_pI, hl_pJ, hl_pR, hl_qI, hl_qJ, hl_qR, hk_pI, hk_pJ, hk_pR, hk_qI, hk_qJ, hk_qR, hs_pI, hs_pJ, hs_pR, hs_qI, hs_qJ, hs_qR, hn_pI, hn_pJ, hn_pR, hn_qI, hn_qJ, hn_qR, hc_nO', hc_nA', hl_nO, hl_nA', hn_nO, hn_nA, hk_nO, hk_nA, hs_nO, hs_nA, rI_nO, rI_nA, rJ_nO, rJ_nA, rR_nO, rR_nA, Nat.le_refl, Y.1, fpl _ Y, fgt Y, fk0 _ Y, xk2 Y, xk3 Y, xk4 Y, im_op _ Y, tm_op _ Y, im_cp _ Y, tm_cp _ Y, im_ob _ Y, tm_ob _ Y, im_cb _ Y, tm_cb _ Y, im_co _ Y, tm_co _ Y, im_se _ Y, tm_se _ Y, im_cl _ Y, tm_cl _ Y, im_be _ Y, tm_be _ Y, iw_LONG _ Y, tw_LONG _ Y, Y.2.1, Y.x.1, wt1, wt2, wt3, nl, nw, pn, n482, n0t, x1, x10, hxt, w32_1 lt6, i1, q, r, q', xwo, fk _ Y hl1, xk4 Y, w32_t2 lt6, w32_m1 lt6, m482, m0t, hl1]
  · rcases z with z | z
    · exact z.elim
    · right
      rw [z]
      exact ⟨Int.le_refl _, by show fI s 1915442860 < fI s1 1915442860; omega, Nat.le_refl _, by show hn h < hn h1; omega⟩
theorem bs_true {d : Nat} (J : JN hG sG p lx l PR Z0 ZM h s t o P O dl y) (G : FG s g 1) (hg : g ≤ 20 * o + 8) (q : kd l t = 1) (r : sI l t = 13) : VOK R0 6 hG sG p lx l PR Z0 ZM (F (d + 270) 112796225 [vR p] h) h s t o P O y g (-1) := by
  have M := JNX.m J
  have Y := JNX.x J
  have F0 := JNX.f J
  have hp := JNX.hp J
  have p0 := JNX.p0 J
  have ho24 : o ≤ 24 := Y.2.2.2.2.2.1
  have hxt : t < xc l := M.1.2.2
  have xl : xc l ≤ l.length := M.1.1.x
  have hl2 := M.1.1.2.1
  have rm := JNX.room J
  have lt6 : t < 1000000 := by omega
  obtain ⟨⟨k1, k2, k3, k4⟩, k5, k6, k7⟩ := JNX.c J
  have cn := JNX.c J
  have x1 : hk h < cLim := by unfold Room at rm; omega
  have x2 : hs h + 20 ≤ sLim := by unfold Room at rm; omega
  have x8 : hs h + 8 ≤ sLim := by omega
  have x9 : hs h + 9 ≤ sLim := by omega
  have pn : ¬ (p = hn h) := by omega
  have wt1 : hc h (gR h 335874582 lx) = 66 := Y.x.2.2.2.1.1
  have wt2 : hl h (gR h 335874582 lx) = 482 := Y.x.2.2.2.1.2
  have wt3 : ∀ k : Nat, k < xc l → eJ h (gR h 335874582 lx) (k : Int) = xwo (kd l k) (sI l k) (wd l k) := fun k hk => by
    have := (Y.x.2.2.2.2.2.1 k hk).2.2
    rw [Int.zero_add] at this
    exact this
  have wt4 : lx < p ∧ gR h 335874582 lx < p := ⟨Y.2.2.2.2.2.2.2.2.1, Y.2.2.2.2.2.2.2.2.2.2.2⟩
  have nl : ¬ (lx = hn h) := by omega
  have nw : ¬ (gR h 335874582 lx = hn h) := by omega
  have n482 : (t : Int) < 482 := by omega
  have n0t : (0 : Int) ≤ t := by omega
  have hl1 : t + 1 < xc l := Y.next hxt (by rw [q]; decide) (by rw [q]; decide)
  have X2 := ((XU.rf (W := (· = p)) Y F0).st rfl (t1 := t + 1) hl1).mO (tg := 28) (n := 10) (by decide) (by decide)
  obtain ⟨s1, RC, G1, mk1, U1, A1, vl, GP1, f1, f2, f3⟩ := msb_true M cn ho24 G.1 (by omega) q r (by omega)
  have x10 : hs h + 10 ≤ sLim := by omega
  obtain ⟨h1, i1, i2, i3, i4, i5⟩ := x_newPlain (d + 261) X2.i (X2.rm rm (by omega)) (fz_nO) (pl l t) 17 (1)
  have i1 : F (d + 269) 142139844 [vR (hn h), vI (pl l t), vI 17, vJ 1] (nO (pI h 1285834896 p ((t + 1 : Nat) : Int)) 28 10) = some (.inl none, h1) := i1
  have i3 : NF h1 (hn h) 28 (hn h + 1) (pl l t) (pt 1092368496 17 z0) (pt 1100757105 (1) z0) zr := i3
  have i4 : AL h1 (hn h + 1) [] := i4
  have i5 : hn h1 = hn h + 1 + 2 := i5
  have X3 := X2.tr i2 (fun x z => ⟨by have z : x = hn h := z; omega, Or.inr (by have z : x = hn h := z; omega)⟩)
  have J1 := JNX.step J X3.1 (fun _ z => Or.inr z) X3.2.1 X3.2.2 G1 (by omega) (nmp_w r (by decide) (by decide)) (y1 := y) (by omega) (by rw [mk1]; omega)
  obtain ⟨J2, K2⟩ := fin J1 (KF.nil (R := R0)) U1 A1 i3 i4 (fun e z => z.elim) (by omega) (by omega) (by decide) (by decide) hxt rfl rfl ((fun a' n' => by obtain ⟨a1, a2, a3, a4, a5, a6, a7, a8⟩ := a'; obtain ⟨n1, n2, n3, n4, n5, n6⟩ := n'; have n7 := n4 1092368496 (by decide); have n8 := n5 1100757105; unfold APu; simp (config := {implicitDefEqProofs := false}) only [bnd_v, bnd_x, pu_s, pu_n, b01_T, b01_F, Int.reduceEq, Int.reduceLT, Int.reduceLE, Int.reduceNe, Nat.reduceEqDiff, Nat.reduceLeDiff, and_false, false_and, and_true, true_and, or_false, false_or, or_true, true_or, if_true, if_false, not_true_eq_false, not_false_eq_true, eq_self, ne_eq, reduceCtorEq, false_implies, true_implies, implies_true, a1, n1, a3, a7, pt, n7, n8] : AtM s1 _ _ _ _ _ _ _ _ → NF h1 _ _ _ _ _ _ _ → _) A1 i3) (by unfold Ari; simp (config := {implicitDefEqProofs := false}) only [bnd_v, bnd_x, pu_s, pu_n, b01_T, b01_F, Int.reduceEq, Int.reduceLT, Int.reduceLE, Int.reduceNe, Nat.reduceEqDiff, Nat.reduceLeDiff, and_false, false_and, and_true, true_and, or_false, false_or, or_true, true_or, if_true, if_false, not_true_eq_false, not_false_eq_true, eq_self, ne_eq, reduceCtorEq, false_implies, true_implies, implies_true]; rfl) (by decide) (by decide) (fun f z => if_neg (fun w => z (by rw [w]; decide))) (fun f _ => rfl)
  refine ⟨hn h, fI s 1915442860, h1, s1, s1, t + 1, P, _, dl, ?_, ⟨RC, GP1, G1.2.2.1.2.2, Eqv.rf⟩, J2, ⟨K2.up (fun e z => ?_), vl⟩, G1.po, ⟨_, X3.1.mono (W' := Wp p) (fun x _ z => by rw [z]; exact ⟨Nat.le_refl _, by omega⟩) (Nat.le_refl _)⟩, Gw.rf.own (Nat.le_refl _) (Nat.le_refl _) (by omega), ⟨by omega, by omega⟩, ⟨GP1.2.2.1, GP1.2.2.2, f1, f2, f3⟩⟩
  · simp (config := {implicitDefEqProofs := false}) only [e_X11_base, c_X11_base_0, c_X11_base_4, c_X11_base_13, c_X11_base_19, c_X11_base_48, c_X11_base_49, c_X11_base_55, c_X11_base_58, c_X11_base_68, c_X11_base_74, c_X11_base_108, c_X11_base_109, c_X11_base_116, c_X11_base_119, c_X11_base_130, c_X11_base_131, c_X11_base_138, c_X11_base_141, c_X11_base_152, c_X11_base_153, c_X11_base_161, c_X11_base_167, c_X11_base_176, c_X11_base_179, c_X11_base_180, c_X11_base_188, c_X11_base_191, c_X11_base_198, c_X11_base_201, c_X11_base_202, c_X11_base_209, c_X11_base_212, c_X11_base_217, c_X11_base_218, c_X11_base_225, c_X11_base_228, c_X11_base_232, c_X11_base_246, c_X11_base_254, c_X11_base_258, c_X11_base_260, c_X11_base_267, c_X11_base_270, c_X11_base_275, c_X11_base_276, c_X11_base_283, c_X11_base_286, c_X11_base_291, c_X11_base_292, c_X11_base_299, c_X11_base_302, c_X11_base_319, c_X11_base_322, c_X11_base_326, c_X11_base_327, c_X11_base_331, c_X11_base_349, c_X11_base_353, c_X11_base_356, c_X11_base_364, c_X11_base_368, c_X11_base_370, c_X11_base_375, bnd_v, bnd_x, pu_s, pu_n, b01_T, b01_F, Int.reduceEq, Int.reduceLT, Int.reduceLE, Int.reduceNe, Nat.reduceEqDiff, Nat.reduceLeDiff, and_false, false_and, and_true, true_and, or_false, false_or, or_true, true_or, if_true, if_false, not_true_eq_false, not_false_eq_true, eq_self, ne_eq, reduceCtorEq, false_implies, true_implies, implies_true, inT, inA, rmO, rmA, rI_pI, rI_pJ, rI_pR, rI_qI, rI_qJ, rI_qR, rJ_pI, rJ_pJ, rJ_pR, rJ_qI, rJ_qJ, rJ_qR, rR_pI, rR_pJ, rR_pR, rR_qI, rR_qJ, rR_qR, sI_pI, sI_pJ, sI_pR, sI_qI, sI_qJ, sI_qR, sJ_pI, sJ_pJ, sJ_pR, sJ_qI, sJ_qJ, sJ_qR, sR_pI, sR_pJ, sR_pR, sR_qI, sR_qJ, sR_qR, hc_pI, hc_pJ, hc_pR, hc_qI, hc_qJ, hc_qR, hl_pI, hl_pJ, hl_pR, hl_qI, hl_qJ, hl_qR, hk_pI, hk_pJ, hk_pR, hk_qI, hk_qJ, hk_qR, hs_pI, hs_pJ, hs_pR, hs_qI, hs_qJ, hs_qR, hn_pI, hn_pJ, hn_pR, hn_qI, hn_qJ, hn_qR, hc_nO', hc_nA', hl_nO, hl_nA', hn_nO, hn_nA, hk_nO, hk_nA, hs_nO, hs_nA, rI_nO, rI_nA, rJ_nO, rJ_nA, rR_nO, rR_nA, Nat.le_refl, Y.1, fpl _ Y, fgt Y, fk0 _ Y, xk2 Y, xk3 Y, xk4 Y, im_op _ Y, tm_op _ Y, im_cp _ Y, tm_cp _ Y, im_ob _ Y, tm_ob _ Y, im_cb _ Y, tm_cb _ Y, im_co _ Y, tm_co _ Y, im_se _ Y, tm_se _ Y, im_cl _ Y, tm_cl _ Y, im_be _ Y, tm_be _ Y, iw_LONG _ Y, tw_LONG _ Y, iw_TRUE _ Y, tw_TRUE _ Y, iw_FALSE _ Y, tw_FALSE _ Y, Y.2.1, Y.x.1, wt1, wt2, wt3, nl, nw, pn, n482, n0t, x1, x10, hxt, w32_1 lt6, i1, q, r]
  · rcases z with z | z
    · exact z.elim
    · right
      rw [z]
      exact ⟨Int.le_refl _, by show fI s 1915442860 < fI s1 1915442860; omega, Nat.le_refl _, by show hn h < hn h1; omega⟩
theorem bs_false {d : Nat} (J : JN hG sG p lx l PR Z0 ZM h s t o P O dl y) (G : FG s g 1) (hg : g ≤ 20 * o + 8) (q : kd l t = 1) (r : sI l t = 14) : VOK R0 6 hG sG p lx l PR Z0 ZM (F (d + 270) 112796225 [vR p] h) h s t o P O y g (-1) := by
  have M := JNX.m J
  have Y := JNX.x J
  have F0 := JNX.f J
  have hp := JNX.hp J
  have p0 := JNX.p0 J
  have ho24 : o ≤ 24 := Y.2.2.2.2.2.1
  have hxt : t < xc l := M.1.2.2
  have xl : xc l ≤ l.length := M.1.1.x
  have hl2 := M.1.1.2.1
  have rm := JNX.room J
  have lt6 : t < 1000000 := by omega
  obtain ⟨⟨k1, k2, k3, k4⟩, k5, k6, k7⟩ := JNX.c J
  have cn := JNX.c J
  have x1 : hk h < cLim := by unfold Room at rm; omega
  have x2 : hs h + 20 ≤ sLim := by unfold Room at rm; omega
  have x8 : hs h + 8 ≤ sLim := by omega
  have x9 : hs h + 9 ≤ sLim := by omega
  have pn : ¬ (p = hn h) := by omega
  have wt1 : hc h (gR h 335874582 lx) = 66 := Y.x.2.2.2.1.1
  have wt2 : hl h (gR h 335874582 lx) = 482 := Y.x.2.2.2.1.2
  have wt3 : ∀ k : Nat, k < xc l → eJ h (gR h 335874582 lx) (k : Int) = xwo (kd l k) (sI l k) (wd l k) := fun k hk => by
    have := (Y.x.2.2.2.2.2.1 k hk).2.2
    rw [Int.zero_add] at this
    exact this
  have wt4 : lx < p ∧ gR h 335874582 lx < p := ⟨Y.2.2.2.2.2.2.2.2.1, Y.2.2.2.2.2.2.2.2.2.2.2⟩
  have nl : ¬ (lx = hn h) := by omega
  have nw : ¬ (gR h 335874582 lx = hn h) := by omega
  have n482 : (t : Int) < 482 := by omega
  have n0t : (0 : Int) ≤ t := by omega
  have hl1 : t + 1 < xc l := Y.next hxt (by rw [q]; decide) (by rw [q]; decide)
  have X2 := ((XU.rf (W := (· = p)) Y F0).st rfl (t1 := t + 1) hl1).mO (tg := 28) (n := 10) (by decide) (by decide)
  obtain ⟨s1, RC, G1, mk1, U1, A1, vl, GP1, f1, f2, f3⟩ := msb_false M cn ho24 G.1 (by omega) q r (by omega)
  have x10 : hs h + 10 ≤ sLim := by omega
  obtain ⟨h1, i1, i2, i3, i4, i5⟩ := x_newPlain (d + 261) X2.i (X2.rm rm (by omega)) (fz_nO) (pl l t) 17 (0)
  have i1 : F (d + 269) 142139844 [vR (hn h), vI (pl l t), vI 17, vJ 0] (nO (pI h 1285834896 p ((t + 1 : Nat) : Int)) 28 10) = some (.inl none, h1) := i1
  have i3 : NF h1 (hn h) 28 (hn h + 1) (pl l t) (pt 1092368496 17 z0) (pt 1100757105 (0) z0) zr := i3
  have i4 : AL h1 (hn h + 1) [] := i4
  have i5 : hn h1 = hn h + 1 + 2 := i5
  have X3 := X2.tr i2 (fun x z => ⟨by have z : x = hn h := z; omega, Or.inr (by have z : x = hn h := z; omega)⟩)
  have J1 := JNX.step J X3.1 (fun _ z => Or.inr z) X3.2.1 X3.2.2 G1 (by omega) (nmp_w r (by decide) (by decide)) (y1 := y) (by omega) (by rw [mk1]; omega)
  obtain ⟨J2, K2⟩ := fin J1 (KF.nil (R := R0)) U1 A1 i3 i4 (fun e z => z.elim) (by omega) (by omega) (by decide) (by decide) hxt rfl rfl ((fun a' n' => by obtain ⟨a1, a2, a3, a4, a5, a6, a7, a8⟩ := a'; obtain ⟨n1, n2, n3, n4, n5, n6⟩ := n'; have n7 := n4 1092368496 (by decide); have n8 := n5 1100757105; unfold APu; simp (config := {implicitDefEqProofs := false}) only [bnd_v, bnd_x, pu_s, pu_n, b01_T, b01_F, Int.reduceEq, Int.reduceLT, Int.reduceLE, Int.reduceNe, Nat.reduceEqDiff, Nat.reduceLeDiff, and_false, false_and, and_true, true_and, or_false, false_or, or_true, true_or, if_true, if_false, not_true_eq_false, not_false_eq_true, eq_self, ne_eq, reduceCtorEq, false_implies, true_implies, implies_true, a1, n1, a3, a7, pt, n7, n8] : AtM s1 _ _ _ _ _ _ _ _ → NF h1 _ _ _ _ _ _ _ → _) A1 i3) (by unfold Ari; simp (config := {implicitDefEqProofs := false}) only [bnd_v, bnd_x, pu_s, pu_n, b01_T, b01_F, Int.reduceEq, Int.reduceLT, Int.reduceLE, Int.reduceNe, Nat.reduceEqDiff, Nat.reduceLeDiff, and_false, false_and, and_true, true_and, or_false, false_or, or_true, true_or, if_true, if_false, not_true_eq_false, not_false_eq_true, eq_self, ne_eq, reduceCtorEq, false_implies, true_implies, implies_true]; rfl) (by decide) (by decide) (fun f z => if_neg (fun w => z (by rw [w]; decide))) (fun f _ => rfl)
  refine ⟨hn h, fI s 1915442860, h1, s1, s1, t + 1, P, _, dl, ?_, ⟨RC, GP1, G1.2.2.1.2.2, Eqv.rf⟩, J2, ⟨K2.up (fun e z => ?_), vl⟩, G1.po, ⟨_, X3.1.mono (W' := Wp p) (fun x _ z => by rw [z]; exact ⟨Nat.le_refl _, by omega⟩) (Nat.le_refl _)⟩, Gw.rf.own (Nat.le_refl _) (Nat.le_refl _) (by omega), ⟨by omega, by omega⟩, ⟨GP1.2.2.1, GP1.2.2.2, f1, f2, f3⟩⟩
  · simp (config := {implicitDefEqProofs := false}) only [e_X11_base, c_X11_base_0, c_X11_base_4, c_X11_base_13, c_X11_base_19, c_X11_base_48, c_X11_base_49, c_X11_base_55, c_X11_base_58, c_X11_base_68, c_X11_base_74, c_X11_base_108, c_X11_base_109, c_X11_base_116, c_X11_base_119, c_X11_base_130, c_X11_base_131, c_X11_base_138, c_X11_base_141, c_X11_base_152, c_X11_base_153, c_X11_base_161, c_X11_base_167, c_X11_base_176, c_X11_base_179, c_X11_base_180, c_X11_base_188, c_X11_base_191, c_X11_base_198, c_X11_base_201, c_X11_base_202, c_X11_base_209, c_X11_base_212, c_X11_base_217, c_X11_base_218, c_X11_base_225, c_X11_base_228, c_X11_base_232, c_X11_base_246, c_X11_base_254, c_X11_base_258, c_X11_base_260, c_X11_base_267, c_X11_base_270, c_X11_base_275, c_X11_base_276, c_X11_base_283, c_X11_base_286, c_X11_base_291, c_X11_base_292, c_X11_base_299, c_X11_base_302, c_X11_base_319, c_X11_base_322, c_X11_base_326, c_X11_base_327, c_X11_base_331, c_X11_base_349, c_X11_base_353, c_X11_base_356, c_X11_base_364, c_X11_base_368, c_X11_base_370, c_X11_base_375, bnd_v, bnd_x, pu_s, pu_n, b01_T, b01_F, Int.reduceEq, Int.reduceLT, Int.reduceLE, Int.reduceNe, Nat.reduceEqDiff, Nat.reduceLeDiff, and_false, false_and, and_true, true_and, or_false, false_or, or_true, true_or, if_true, if_false, not_true_eq_false, not_false_eq_true, eq_self, ne_eq, reduceCtorEq, false_implies, true_implies, implies_true, inT, inA, rmO, rmA, rI_pI, rI_pJ, rI_pR, rI_qI, rI_qJ, rI_qR, rJ_pI, rJ_pJ, rJ_pR, rJ_qI, rJ_qJ, rJ_qR, rR_pI, rR_pJ, rR_pR, rR_qI, rR_qJ, rR_qR, sI_pI, sI_pJ, sI_pR, sI_qI, sI_qJ, sI_qR, sJ_pI, sJ_pJ, sJ_pR, sJ_qI, sJ_qJ, sJ_qR, sR_pI, sR_pJ, sR_pR, sR_qI, sR_qJ, sR_qR, hc_pI, hc_pJ, hc_pR, hc_qI, hc_qJ, hc_qR, hl_pI, hl_pJ, hl_pR, hl_qI, hl_qJ, hl_qR, hk_pI, hk_pJ, hk_pR, hk_qI, hk_qJ, hk_qR, hs_pI, hs_pJ, hs_pR, hs_qI, hs_qJ, hs_qR, hn_pI, hn_pJ, hn_pR, hn_qI, hn_qJ, hn_qR, hc_nO', hc_nA', hl_nO, hl_nA', hn_nO, hn_nA, hk_nO, hk_nA, hs_nO, hs_nA, rI_nO, rI_nA, rJ_nO, rJ_nA, rR_nO, rR_nA, Nat.le_refl, Y.1, fpl _ Y, fgt Y, fk0 _ Y, xk2 Y, xk3 Y, xk4 Y, im_op _ Y, tm_op _ Y, im_cp _ Y, tm_cp _ Y, im_ob _ Y, tm_ob _ Y, im_cb _ Y, tm_cb _ Y, im_co _ Y, tm_co _ Y, im_se _ Y, tm_se _ Y, im_cl _ Y, tm_cl _ Y, im_be _ Y, tm_be _ Y, iw_LONG _ Y, tw_LONG _ Y, iw_TRUE _ Y, tw_TRUE _ Y, iw_FALSE _ Y, tw_FALSE _ Y, Y.2.1, Y.x.1, wt1, wt2, wt3, nl, nw, pn, n482, n0t, x1, x10, hxt, w32_1 lt6, i1, q, r]
  · rcases z with z | z
    · exact z.elim
    · right
      rw [z]
      exact ⟨Int.le_refl _, by show fI s 1915442860 < fI s1 1915442860; omega, Nat.le_refl _, by show hn h < hn h1; omega⟩
theorem bs_tag {d : Nat} (J : JN hG sG p lx l PR Z0 ZM h s t o P O dl y) (G : FG s g 1) (hg : g ≤ 20 * o + 8) (q : kd l t = 3) (q' : ¬ (kd l (t + 1) = 1 ∧ sI l (t + 1) = 11)) : VOK R0 6 hG sG p lx l PR Z0 ZM (F (d + 270) 112796225 [vR p] h) h s t o P O y g (-1) := by
  have M := JNX.m J
  have Y := JNX.x J
  have F0 := JNX.f J
  have hp := JNX.hp J
  have p0 := JNX.p0 J
  have ho24 : o ≤ 24 := Y.2.2.2.2.2.1
  have hxt : t < xc l := M.1.2.2
  have xl : xc l ≤ l.length := M.1.1.x
  have hl2 := M.1.1.2.1
  have rm := JNX.room J
  have lt6 : t < 1000000 := by omega
  obtain ⟨⟨k1, k2, k3, k4⟩, k5, k6, k7⟩ := JNX.c J
  have cn := JNX.c J
  have x1 : hk h < cLim := by unfold Room at rm; omega
  have x2 : hs h + 20 ≤ sLim := by unfold Room at rm; omega
  have x8 : hs h + 8 ≤ sLim := by omega
  have x9 : hs h + 9 ≤ sLim := by omega
  have pn : ¬ (p = hn h) := by omega
  have wt1 : hc h (gR h 335874582 lx) = 66 := Y.x.2.2.2.1.1
  have wt2 : hl h (gR h 335874582 lx) = 482 := Y.x.2.2.2.1.2
  have wt3 : ∀ k : Nat, k < xc l → eJ h (gR h 335874582 lx) (k : Int) = xwo (kd l k) (sI l k) (wd l k) := fun k hk => by
    have := (Y.x.2.2.2.2.2.1 k hk).2.2
    rw [Int.zero_add] at this
    exact this
  have wt4 : lx < p ∧ gR h 335874582 lx < p := ⟨Y.2.2.2.2.2.2.2.2.1, Y.2.2.2.2.2.2.2.2.2.2.2⟩
  have nl : ¬ (lx = hn h) := by omega
  have nw : ¬ (gR h 335874582 lx = hn h) := by omega
  have n482 : (t : Int) < 482 := by omega
  have n0t : (0 : Int) ≤ t := by omega
  have hl1 : t + 1 < xc l := Y.next hxt (by rw [q]; decide) (by rw [q]; decide)
  have X1 := (XU.rf (W := (· = p)) Y F0).mO (tg := 34) (n := 10) (by decide) (by decide)
  have X2 := X1.st rfl (t1 := t + 1) hl1
  obtain ⟨s1, RC, G1, mk1, U1, A1, vl, GP1, f1, f2, f3⟩ := msb_tag M cn ho24 G.1 (by omega) q (by omega) q'
  have x10 : hs h + 10 ≤ sLim := by omega
  obtain ⟨h1, i1, i2, i3, i4, i5⟩ := x_newTag (d + 261) X2.i (X2.rm rm (by omega)) (fz_nO.pI (by omega)) (pl l t) (wd l t)
  have i1 : F (d + 269) 143200803 [vR (hn h), vI (pl l t), vJ (wd l t)] (pI (nO h 34 10) 1285834896 p ((t + 1 : Nat) : Int)) = some (.inl none, h1) := i1
  have i3 : NF h1 (hn h) 34 (hn h + 1) (pl l t) z0 (pt 1218593929 (wd l t) z0) zr := i3
  have i4 : AL h1 (hn h + 1) [] := i4
  have i5 : hn h1 = hn h + 1 + 2 := i5
  have X3 := X2.tr i2 (fun x z => ⟨by have z : x = hn h := z; omega, Or.inr (by have z : x = hn h := z; omega)⟩)
  have J1 := JNX.step J X3.1 (fun _ z => Or.inr z) X3.2.1 X3.2.2 G1 (by omega) (nmp_k q (by decide)) (y1 := y) (by omega) (by rw [mk1]; omega)
  obtain ⟨J2, K2⟩ := fin J1 (KF.nil (R := R0)) U1 A1 i3 i4 (fun e z => z.elim) (by omega) (by omega) (by decide) (by decide) hxt rfl rfl ((fun a' n' => by obtain ⟨a1, a2, a3, a4, a5, a6, a7, a8⟩ := a'; obtain ⟨n1, n2, n3, n4, n5, n6⟩ := n'; have n8 := n5 1218593929; unfold APu; simp (config := {implicitDefEqProofs := false}) only [bnd_v, bnd_x, pu_s, pu_n, b01_T, b01_F, Int.reduceEq, Int.reduceLT, Int.reduceLE, Int.reduceNe, Nat.reduceEqDiff, Nat.reduceLeDiff, and_false, false_and, and_true, true_and, or_false, false_or, or_true, true_or, if_true, if_false, not_true_eq_false, not_false_eq_true, eq_self, ne_eq, reduceCtorEq, false_implies, true_implies, implies_true, a1, n1, a3, a7, pt, n8] : AtM s1 _ _ _ _ _ _ _ _ → NF h1 _ _ _ _ _ _ _ → _) A1 i3) (by unfold Ari; simp (config := {implicitDefEqProofs := false}) only [bnd_v, bnd_x, pu_s, pu_n, b01_T, b01_F, Int.reduceEq, Int.reduceLT, Int.reduceLE, Int.reduceNe, Nat.reduceEqDiff, Nat.reduceLeDiff, and_false, false_and, and_true, true_and, or_false, false_or, or_true, true_or, if_true, if_false, not_true_eq_false, not_false_eq_true, eq_self, ne_eq, reduceCtorEq, false_implies, true_implies, implies_true]; rfl) (by decide) (by decide) (fun f _ => rfl) (fun f _ => rfl)
  refine ⟨hn h, fI s 1915442860, h1, s1, s1, t + 1, P, _, dl, ?_, ⟨RC, GP1, G1.2.2.1.2.2, Eqv.rf⟩, J2, ⟨K2.up (fun e z => ?_), vl⟩, G1.po, ⟨_, X3.1.mono (W' := Wp p) (fun x _ z => by rw [z]; exact ⟨Nat.le_refl _, by omega⟩) (Nat.le_refl _)⟩, Gw.rf.own (Nat.le_refl _) (Nat.le_refl _) (by omega), ⟨by omega, by omega⟩, ⟨GP1.2.2.1, GP1.2.2.2, f1, f2, f3⟩⟩
  · simp (config := {implicitDefEqProofs := false}) only [e_X11_base, c_X11_base_0, c_X11_base_4, c_X11_base_13, c_X11_base_19, c_X11_base_48, c_X11_base_49, c_X11_base_55, c_X11_base_58, c_X11_base_68, c_X11_base_74, c_X11_base_108, c_X11_base_109, c_X11_base_116, c_X11_base_119, c_X11_base_130, c_X11_base_131, c_X11_base_138, c_X11_base_141, c_X11_base_152, c_X11_base_153, c_X11_base_161, c_X11_base_167, c_X11_base_176, c_X11_base_179, c_X11_base_180, c_X11_base_188, c_X11_base_191, c_X11_base_198, c_X11_base_201, c_X11_base_202, c_X11_base_209, c_X11_base_212, c_X11_base_217, c_X11_base_218, c_X11_base_225, c_X11_base_228, c_X11_base_232, c_X11_base_246, c_X11_base_254, c_X11_base_258, c_X11_base_260, c_X11_base_267, c_X11_base_270, c_X11_base_275, c_X11_base_276, c_X11_base_283, c_X11_base_286, c_X11_base_291, c_X11_base_292, c_X11_base_299, c_X11_base_302, c_X11_base_319, c_X11_base_322, c_X11_base_326, c_X11_base_327, c_X11_base_331, c_X11_base_349, c_X11_base_353, c_X11_base_356, c_X11_base_364, c_X11_base_368, c_X11_base_370, c_X11_base_375, bnd_v, bnd_x, pu_s, pu_n, b01_T, b01_F, Int.reduceEq, Int.reduceLT, Int.reduceLE, Int.reduceNe, Nat.reduceEqDiff, Nat.reduceLeDiff, and_false, false_and, and_true, true_and, or_false, false_or, or_true, true_or, if_true, if_false, not_true_eq_false, not_false_eq_true, eq_self, ne_eq, reduceCtorEq, false_implies, true_implies, implies_true, inT, inA, rmO, rmA, rI_pI, rI_pJ, rI_pR, rI_qI, rI_qJ, rI_qR, rJ_pI, rJ_pJ, rJ_pR, rJ_qI, rJ_qJ, rJ_qR, rR_pI, rR_pJ, rR_pR, rR_qI, rR_qJ, rR_qR, sI_pI, sI_pJ, sI_pR, sI_qI, sI_qJ, sI_qR, sJ_pI, sJ_pJ, sJ_pR, sJ_qI, sJ_qJ, sJ_qR, sR_pI, sR_pJ, sR_pR, sR_qI, sR_qJ, sR_qR, hc_pI, hc_pJ, hc_pR, hc_qI, hc_qJ, hc_qR, hl_pI, hl_pJ, hl_pR, hl_qI, hl_qJ, hl_qR, hk_pI, hk_pJ, hk_pR, hk_qI, hk_qJ, hk_qR, hs_pI, hs_pJ, hs_pR, hs_qI, hs_qJ, hs_qR, hn_pI, hn_pJ, hn_pR, hn_qI, hn_qJ, hn_qR, hc_nO', hc_nA', hl_nO, hl_nA', hn_nO, hn_nA, hk_nO, hk_nA, hs_nO, hs_nA, rI_nO, rI_nA, rJ_nO, rJ_nA, rR_nO, rR_nA, Nat.le_refl, Y.1, fpl _ Y, fgt Y, fk0 _ Y, xk2 Y, xk3 Y, xk4 Y, im_op _ Y, tm_op _ Y, im_cp _ Y, tm_cp _ Y, im_ob _ Y, tm_ob _ Y, im_cb _ Y, tm_cb _ Y, im_co _ Y, tm_co _ Y, im_se _ Y, tm_se _ Y, im_cl _ Y, tm_cl _ Y, im_be _ Y, tm_be _ Y, iw_LONG _ Y, tw_LONG _ Y, iw_TRUE _ Y, tw_TRUE _ Y, iw_FALSE _ Y, tw_FALSE _ Y, Y.2.1, Y.x.1, wt1, wt2, wt3, nl, nw, pn, n482, n0t, x1, x10, hxt, w32_1 lt6, i1, q, f_tagY _ X1.2.1 q]
  · rcases z with z | z
    · exact z.elim
    · right
      rw [z]
      exact ⟨Int.le_refl _, by show fI s 1915442860 < fI s1 1915442860; omega, Nat.le_refl _, by show hn h < hn h1; omega⟩
end BSL
