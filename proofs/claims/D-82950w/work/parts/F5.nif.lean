/-! READING NODES: IF -/
set_option maxRecDepth 100000
set_option maxHeartbeats 1000000
section BSI
variable {hG h h0 h1 : PH} {sG s s1 : MS} {p lx t o t1 o1 : Nat} {l : List TokE} {PR g : Int} {P P1 : List (Nat × Int)} {O O1 W W1 X : Nat → Prop} {Z0 ZM Z u u' y y1 : Nat} {v w : Int} {dl dl1 : List Nat} {R R1 : Int × Nat → Prop}
theorem bs_ifA {k d : Nat} (S : SerC k) (hK : 24 ≤ o + 1 + k) (hD : 60 * (24 - o) ≤ d) (J : JN hG sG p lx l PR Z0 ZM h s t o P O dl y) (G : FG s g 1) (hg : g ≤ 20 * o + 8) (c1 : kd l t = 1) (c2 : sI l t = 17) (nd : ¬ isDec l t) (qo : o < 24) : BN hG sG p l Z0 ZM (F (d + 270) 112796225 [vR p] h) s ∨ ∃ s1 h1 q3 i3' h3 h4 s3 t3 P3 O3 dl3, (∀ A, clA A = 1 → aI s1 A g = aI s1 A g) ∧ (aI s1 35 g = 2 ∧ aI s1 34 g = 3 ∧ aI s1 36 g = aI s 36 g ∧ aI s1 37 g = aI s 37 g ∧ aI s1 39 g = aI s 39 g) ∧ (F (d + 268) 144220482 [vR (hn h), vI (pl l t)] (nO (pI (pI h 1294223504 p ((o + 1 : Nat) : Int)) 1285834896 p ((t + 1 : Nat) : Int)) 20 8) = some (.inl none, h1) ∧ hc h1 (hn h) = 20 ∧ hc h1 p = 36 ∧ F (d + 268) 101261889 [vR p] h1 = some (.inl (some (vR q3)), h3) ∧ F (d + 268) 118296754 [vR (hn h), vR q3] h3 = some (.inl (some (vR (hn h))), h4) ∧ hc h3 (hn h) = 20 ∧ hc h3 p = 36) ∧ JN hG sG p lx l PR Z0 ZM h4 s3 t3 (o + 1) P3 O3 dl3 y ∧ Pnd h4 s3 l P3 (ON p O3) PR (RB R0 (fI s 1915442860) (hn h) (fI s 1915442860 + 1) (hn h1)) (Rg (fI s 1915442860 + 1) (fI s3 1915442860) (hn h1) (hn h4)) [] i3' q3 (fI s 1915442860) (hn h) (hn h + 1) 24 t 0 0 0 (-1) 0 20 (pl l t) z0 z0 zr ∧ (fI s 1915442860 + 1 ≤ fI s 1915442860 + 1 ∧ fI s 1915442860 + 1 ≤ fI s3 1915442860) ∧ (hn h + 2 ≤ hn h1 ∧ hn h1 ≤ hn h4) ∧ (¬ O3 (hn h + 1) ∧ ¬ O3 (hn h)) ∧ LI 1 (-1) p (g + 1 + 1) h s t P O h4 s3 t3 P3 O3 ∧ GFr s1 s3 (g + 1) ∧ GP s3 (g + 1) 10 1 ∧ aI s3 36 (g + 1) = fI s 1915442860 := by
  have M := JNX.m J
  have Y := JNX.x J
  have F0 := JNX.f J
  have hp := JNX.hp J
  have p0 := JNX.p0 J
  have ho24 : o ≤ 24 := Y.2.2.2.2.2.1
  have hxt : t < xc l := M.1.2.2
  have xl : xc l ≤ l.length := M.1.1.x
  have hl2 := M.1.1.2.1
  have rm := JNX.room J
  have lt6 : t < 1000000 := by omega
  obtain ⟨⟨k1, k2, k3, k4⟩, k5, k6, k7⟩ := JNX.c J
  have cn := JNX.c J
  have x1 : hk h < cLim := by unfold Room at rm; omega
  have x2 : hs h + 20 ≤ sLim := by unfold Room at rm; omega
  have x8 : hs h + 8 ≤ sLim := by omega
  have x9 : hs h + 9 ≤ sLim := by omega
  have pn : ¬ (p = hn h) := by omega
  have hl1 : t + 1 < xc l := Y.next hxt (by rw [c1]; decide) (by rw [c1]; decide)
  have g0 := G.1.2.1
  have n0 : 0 ≤ fI s 1915442860 := k1
  obtain ⟨s1, RC1, G1, GP1, st1, go1, f1, f2, f3, md1⟩ := msf1_if M cn ho24 G.1 (by omega) c1 c2 nd (by omega)
  have M1 := M.sg G1 (Nat.le_refl _) hxt
  have cn1 := cn.sg G1 (Nat.le_refl _) (by omega)
  obtain ⟨s2, RC2, G2, mk2, U2, A2, GP2, gb2, gc2, go2, st2, ga2⟩ := msif0 M1 cn1 ho24 GP1 (by omega) qo
  have q1 := G1.2.2.2.1
  have q2 := G2.2.2.2.1
  have X1 := ((XU.rf (W := (· = p)) Y F0).so rfl (o1 := o + 1) (by omega)).st rfl (t1 := t + 1) hl1
  have X2 := X1.mO (tg := 20) (n := 8) (by decide) (by decide)
  obtain ⟨h1, i1, i2, i3, i4, i5⟩ := x_newIf (d + 260) X2.i (X2.rm rm (by omega)) (fz_nO) (pl l t)
  have i1 : F (d + 268) 144220482 [vR (hn h), vI (pl l t)] (nO (pI (pI h 1294223504 p ((o + 1 : Nat) : Int)) 1285834896 p ((t + 1 : Nat) : Int)) 20 8) = some (.inl none, h1) := i1
  have i3 : NF h1 (hn h) 20 (hn h + 1) (pl l t) z0 z0 zr := i3
  have i4 : AL h1 (hn h + 1) [] := i4
  have i5 : hn h1 = hn h + 1 + 2 := i5
  have X3 := X2.tr i2 (fun x z => ⟨by have z : x = hn h := z; omega, Or.inr (by have z : x = hn h := z; omega)⟩)
  have J1 := JNX.step J (Ev.rf (W := (· = p)) Y.i) (fun _ z => Or.inr z) Y F0 G1 (Nat.le_refl _) nmp_rf (y1 := y) (by omega) (by omega)
  have J2 := JNX.step J1 X3.1 (fun _ z => Or.inr z) X3.2.1 X3.2.2 G2 (by omega) (nmp_w c2 (by decide) (by decide)) (y1 := y + 3 + 12) (by omega) (by omega)
  have gg1 : fI s1 2066437804 = g + 2 := G1.2.1
  have gg2 : fI s2 2066437804 = g + 1 + 2 := G2.2.1
  rw [md1] at mk2 U2 A2 ga2
  have BL : Bld h1 s2 l P (ON p O) PR (RB R0 (fI s 1915442860) (hn h) (fI s2 1915442860) (hn h1)) [] (fI s 1915442860) (hn h) (hn h + 1) 24 t 0 0 0 (-1) 0 20 (pl l t) z0 z0 zr := ⟨KF.nil, U2, A2, i3, i4⟩
  have hR : ∀ e, R0 e → 0 ≤ e.1 ∧ e.1 < fI s 1915442860 ∧ e.2 < hn h := fun e z => z.elim
  rcases S hG sG p lx l PR Z0 ZM h1 s2 (t + 1) (o + 1) P O dl (y + 3) (g + 1 + 1) (d + 268) hK J2 GP2 gb2 gc2 (by omega) (by omega) (by omega) with B | B
  · left
    refine BN.up B (RC1.tr RC2) (fun e h' hb => ?_)
    simp (config := {implicitDefEqProofs := false}) only [e_X11_base, c_X11_base_0, c_X11_base_4, c_X11_base_13, c_X11_base_19, c_X11_base_48, c_X11_base_49, c_X11_base_55, c_X11_base_58, c_X11_base_68, c_X11_base_74, c_X11_base_108, c_X11_base_109, c_X11_base_116, c_X11_base_119, c_X11_base_130, c_X11_base_131, c_X11_base_138, c_X11_base_141, c_X11_base_152, c_X11_base_153, c_X11_base_161, c_X11_base_167, c_X11_base_176, c_X11_base_179, c_X11_base_180, c_X11_base_188, c_X11_base_191, c_X11_base_198, c_X11_base_201, c_X11_base_202, c_X11_base_209, c_X11_base_212, c_X11_base_217, c_X11_base_218, c_X11_base_225, c_X11_base_228, c_X11_base_232, c_X11_base_246, c_X11_base_254, c_X11_base_258, c_X11_base_260, c_X11_base_267, c_X11_base_270, c_X11_base_275, c_X11_base_276, c_X11_base_283, c_X11_base_286, c_X11_base_291, c_X11_base_292, c_X11_base_299, c_X11_base_302, c_X11_base_319, c_X11_base_322, c_X11_base_326, c_X11_base_327, c_X11_base_331, c_X11_base_349, c_X11_base_353, c_X11_base_356, c_X11_base_364, c_X11_base_368, c_X11_base_370, c_X11_base_375, e_X11_choice, c_X11_choice_0, c_X11_choice_4, c_X11_choice_22, c_X11_choice_26, c_X11_choice_29, c_X11_choice_37, c_X11_choice_42, c_X11_choice_45, c_X11_choice_53, c_X11_choice_56, c_X11_choice_61, c_X11_choice_64, c_X11_choice_65, c_X11_choice_72, c_X11_choice_76, bnd_v, bnd_x, pu_s, pu_n, b01_T, b01_F, Int.reduceEq, Int.reduceLT, Int.reduceLE, Int.reduceNe, Nat.reduceEqDiff, Nat.reduceLeDiff, and_false, false_and, and_true, true_and, or_false, false_or, or_true, true_or, if_true, if_false, not_true_eq_false, not_false_eq_true, eq_self, ne_eq, reduceCtorEq, false_implies, true_implies, implies_true, inT, inA, rmO, rmA, rI_pI, rI_pJ, rI_pR, rI_qI, rI_qJ, rI_qR, rJ_pI, rJ_pJ, rJ_pR, rJ_qI, rJ_qJ, rJ_qR, rR_pI, rR_pJ, rR_pR, rR_qI, rR_qJ, rR_qR, sI_pI, sI_pJ, sI_pR, sI_qI, sI_qJ, sI_qR, sJ_pI, sJ_pJ, sJ_pR, sJ_qI, sJ_qJ, sJ_qR, sR_pI, sR_pJ, sR_pR, sR_qI, sR_qJ, sR_qR, hc_pI, hc_pJ, hc_pR, hc_qI, hc_qJ, hc_qR, hl_pI, hl_pJ, hl_pR, hl_qI, hl_qJ, hl_qR, hk_pI, hk_pJ, hk_pR, hk_qI, hk_qJ, hk_qR, hs_pI, hs_pJ, hs_pR, hs_qI, hs_qJ, hs_qR, hn_pI, hn_pJ, hn_pR, hn_qI, hn_qJ, hn_qR, hc_nO', hc_nA', hl_nO, hl_nA', hn_nO, hn_nA, hk_nO, hk_nA, hs_nO, hs_nA, rI_nO, rI_nA, rJ_nO, rJ_nA, rR_nO, rR_nA, Nat.le_refl, Y.1, fpl _ Y, fgt Y, fk0 _ Y, xk2 Y, xk3 Y, xk4 Y, im_op _ Y, tm_op _ Y, im_cp _ Y, tm_cp _ Y, im_ob _ Y, tm_ob _ Y, im_cb _ Y, tm_cb _ Y, im_co _ Y, tm_co _ Y, im_se _ Y, tm_se _ Y, im_cl _ Y, tm_cl _ Y, im_be _ Y, tm_be _ Y, iw_LONG _ Y, tw_LONG _ Y, iw_TRUE _ Y, tw_TRUE _ Y, iw_FALSE _ Y, tw_FALSE _ Y, iw_BEGIN _ Y, tw_BEGIN _ Y, iw_IF _ Y, tw_IF _ Y, f_isDeclarer _ Y hxt, b01_n nd, c1, c2, w32_1 lt6, f_openY _ Y qo, x1, x8, pn, i1, i3.1, X3.2.1.1, hb]
  · right
    have rO : ¬ O (hn h + 1) := fun z => by have := JNX.hi J z; omega
    have qO : ¬ O (hn h) := fun z => by have := JNX.hi J z; omega
    obtain ⟨q3, i3', h3, h4, s3, t3, P3, O3, dl3, b1, b2, b3, b4, b5, b6, ⟨u6, b7⟩, b8, ⟨b9, b10⟩, ⟨b11, b12, b13⟩, ⟨b14, b15, b16⟩⟩ := pn_with (d + 261) J2 B BL hR (by decide) (by omega) (by omega) rO qO (by show 0 < 50; decide) (by omega)
    have g01 : 0 ≤ g + 1 := by omega
    have gg3 : g + 1 < fI s2 2066437804 - 1 := by omega
    have md6 := b6.2.2.2.1
    have N3 := ((G1.po).seq (by have := G.1.1; omega) G2.po (Or.inl rfl) (Or.inl rfl)).seq (by have := G.1.1; omega) b6 (Or.inl rfl) (Or.inl rfl)
    rw [mk2] at b5
    refine ⟨s1, h1, q3, i3', h3, h4, s3, t3, P3, O3, dl3, fun _ _ => rfl, ⟨st1, go1, f1, f2, f3⟩, ⟨i1, i3.1, X3.2.1.1, b1, b2, b14, b15⟩, b4, b5, ⟨Int.le_refl _, by omega⟩, ⟨by omega, b11⟩, ⟨b12, b13⟩, ⟨(RC1.tr RC2).tr b3, N3, ⟨_, (X3.1.mono (W' := Wp p) (fun x _ z => by rw [z]; exact ⟨Nat.le_refl _, by omega⟩) (Nat.le_refl _)).tr b7 (fun x hx z => z.elim id (fun w => by omega))⟩, Gw.rf.tr b8 (by omega), by omega, by omega⟩, ((GFr.rf (s := s1)).po G2.po (by omega)).po b6 (by omega), ⟨b6.2.1, g01, (b6.gl (by decide) g01 gg3).1.trans go2, (b6.gl (by decide) g01 gg3).1.trans st2⟩, (b6.gl (by decide) g01 gg3).1.trans ga2⟩
end BSI
