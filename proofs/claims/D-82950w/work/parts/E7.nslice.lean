/-! READING NODES: slices, what stands behind a primary -/
set_option maxRecDepth 100000
set_option maxHeartbeats 1000000
section PBA
variable {hG h h0 h1 : PH} {sG s s1 : MS} {p lx t o t1 o1 : Nat} {l : List TokE} {PR g : Int} {P P1 : List (Nat × Int)} {O O1 W W1 X : Nat → Prop} {Z0 ZM Z u u' y y1 : Nat} {v w : Int} {dl dl1 : List Nat} {R R1 : Int × Nat → Prop}
theorem pb_idx {k d : Nat} {i : Int} {q : Nat} {a2 a3 : PV} (U : UnitC k) (hK : 24 ≤ o + 1 + k) (hD : 60 * (24 - (o + 1)) ≤ d) (J : JN hG sG p lx l PR Z0 ZM h s t o P O dl y) (G : FG s g 6) (vl : fI s 2125158060 = i) (K : KD h s l P (ON p O) PR R i q) (hR : ∀ e, R e → 0 ≤ e.1 ∧ e.1 < fI s 1915442860 ∧ e.2 < hn h) (hg : g ≤ 20 * o + 8) (c1 : kd l t = 5) (c2 : sI l t = 91) (qo : o < 24) : BN hG sG p l Z0 ZM (FA (F (d + 302)) 109650498 0 [vR p, vR q, a2, a3] [] h) s ∨ PBK i q R hG sG p lx l PR Z0 ZM d a2 a3 h s t o P O y g := by
  have M := JNX.m J
  have Y := JNX.x J
  have F0 := JNX.f J
  have hp := JNX.hp J
  have p0 := JNX.p0 J
  have ho24 : o ≤ 24 := Y.2.2.2.2.2.1
  have hxt : t < xc l := M.1.2.2
  have xl : xc l ≤ l.length := M.1.1.x
  have hl2 := M.1.1.2.1
  have rm := JNX.room J
  have lt6 : t < 1000000 := by omega
  obtain ⟨⟨k1, k2, k3, k4⟩, k5, k6, k7⟩ := JNX.c J
  have cn := JNX.c J
  have x1 : hk h < cLim := by unfold Room at rm; omega
  have x2 : hs h + 20 ≤ sLim := by unfold Room at rm; omega
  have x8 : hs h + 8 ≤ sLim := by omega
  have x9 : hs h + 9 ≤ sLim := by omega
  have pn : ¬ (p = hn h) := by omega
  have hl1 : t + 1 < xc l := Y.next hxt (by rw [c1]; decide) (by rw [c1]; decide)
  have g0 := G.1.2.1
  have hg1 := G.1.1
  have i0 := K.2.1
  have x10 : hs h + 10 ≤ sLim := by omega
  obtain ⟨s1, RC1, G1, mk1, U1, A1, st8, go3, f1, f2, f3, GP1, ga1, gb1⟩ := ms6_idx M cn ho24 G.1 (by omega) vl i0 K.2.2.2.1 c1 c2 qo
  have M1 := M.sg G1 (by omega) hl1
  have cn1 := cn.sg G1 (by omega) (by rw [mk1]; omega)
  obtain ⟨s2, RC2, G2, GP2, go8, st1, ga2, mk2⟩ := msi0 M1 cn1 (by omega) GP1 (by omega)
  have X1 := (XU.rf (W := (· = p)) Y F0).mO (tg := 33) (n := 10) (by decide) (by decide)
  obtain ⟨h1, i1, i2, i3, i4, i5⟩ := x_newSlice (d + 294) X1.i (X1.rm rm (by omega)) (fz_nO) (pl l t)
  have i3 : NF h1 (hn h) 33 (hn h + 1) (pl l t) z0 z0 zr := i3
  have i4 : AL h1 (hn h + 1) [] := i4
  have i5 : hn h1 = hn h + 1 + 2 := i5
  have X2 := X1.tr i2 (fun x z => ⟨by omega, Or.inr (by omega)⟩)
  have X4 := (X2.so rfl (o1 := o + 1) (by omega)).st rfl (t1 := t + 1) hl1
  have wp0 : ∀ x, x = p → ¬ O x ∨ Wp p x := fun x z => Or.inr (by rw [z]; exact ⟨Nat.le_refl _, by omega⟩)
  have kq := K.ok J X4.1 wp0
  have ec : Ev (· = p) 0 h1 (pI (pI h1 1294223504 p ((o + 1 : Nat) : Int)) 1285834896 p ((t + 1 : Nat) : Int)) := ((Ev.rf (W := (· = p)) X2.i).cI (r := p) (Or.inl rfl) (by rw [X2.2.1.1]; rfl)).cI (r := p) (Or.inl rfl) (by show mdT (hc h1 p) = true; rw [X2.2.1.1]; rfl)
  have n3 := XU.nf i3 ec X2.i (by omega) (by decide)
  have al3 := ec.al X2.2.1.c (show ¬ (hn h + 1 = p) by omega) (fun z => p0 z.symm) i4
  obtain ⟨h2, j1, j2, j3⟩ := f_with' (d + 295) X4.i (q := hn h) (r := hn h + 1) (v := q) (by rw [n3.1]; decide) n3.2.1 al3 kq.1 (by decide) (X4.rm rm (by omega))
  have X5 := X4.tr j2 (fun x z => ⟨by omega, Or.inr (by omega)⟩)
  have hn2 : hn h1 ≤ hn h2 := j2.1.1
  have n4 := XU.nf n3 j2 X4.i (by omega) (by decide)
  have J1 := JNX.step J X5.1 (fun _ z => Or.inr z) X5.2.1 X5.2.2 G1 (by omega) (nmp_k c1 (by decide)) (y1 := y + 3) (by omega) (by rw [mk1]; omega)
  have J2 := JNX.step J1 (Ev.rf (W := W0) X5.2.1.i) (fun _ z => z.elim) X5.2.1 X5.2.2 G2 (Nat.le_refl _) nmp_rf (y1 := y + 3) (by omega) (by have := cn1.2.2.1; rw [mk2]; exact this)
  have K1 := K.go J X5.1 wp0 G1.po Gw.rf (ngR hR) (ngR hR)
  have K2 := K1.go J1 (Ev.rf (W := W0) X5.2.1.i) (fun _ z => z.elim) G2.po Gw.rf (ngR hR) (ngR hR)
  have gg1 : fI s1 2066437804 = g + 2 := G1.2.1
  have gg2 : fI s2 2066437804 = g + 1 + 2 := G2.2.1
  have n0 : 0 ≤ fI s 1915442860 := k1
  have BL : Bld h2 s2 l P (ON p O) PR (RB R (fI s 1915442860) (hn h) (fI s2 1915442860) (hn h2)) [(i, q)] (fI s 1915442860) (hn h) (hn h + 1) 21 t 0 0 0 (-1) 0 33 (pl l t) z0 z0 zr := ⟨(K2.kf).up (fun e z => Or.inl z), U1.go G2.po (fun z => by have := List.mem_singleton.mp z; omega) (by omega), A1.go G2.po n0 (by omega) (by omega) (by omega), n4, j3⟩
  have i1 : F (d + 302) 131926546 [vR (hn h), vI (pl l t)] (nO h 33 10) = some (.inl none, h1) := i1
  have t1' := i3.1
  have t2' := n3.1
  have p1' := X2.2.1.1
  have p5' := X5.2.1.1
  rcases U hG sG p lx l PR Z0 ZM h2 s2 (t + 1) (o + 1) P O dl (y + 3) (g + 1 + 1) (d + 302) hK J2 GP2 (by omega) (by omega) with B | B
  · left
    refine BN.up B (RC1.tr RC2) (fun e h' hb => ?_)
    simp (config := {implicitDefEqProofs := false}) only [e_X11_primaryBehind, c_X11_primaryBehind_0, c_X11_primaryBehind_7, c_X11_primaryBehind_10, c_X11_primaryBehind_17, c_X11_primaryBehind_20, c_X11_primaryBehind_27, c_X11_primaryBehind_32, c_X11_primaryBehind_40, c_X11_primaryBehind_43, c_X11_primaryBehind_46, c_X11_primaryBehind_54, c_X11_primaryBehind_57, c_X11_primaryBehind_62, c_X11_primaryBehind_77, c_X11_primaryBehind_83, c_X11_primaryBehind_86, c_X11_primaryBehind_91, c_X11_primaryBehind_97, c_X11_primaryBehind_100, c_X11_primaryBehind_107, c_X11_primaryBehind_110, c_X11_primaryBehind_115, c_X11_primaryBehind_118, c_X11_primaryBehind_119, c_X11_primaryBehind_124, c_X11_primaryBehind_130, c_X11_primaryBehind_133, c_X11_primaryBehind_136, c_X11_primaryBehind_140, c_X11_primaryBehind_145, bnd_v, bnd_x, pu_s, pu_n, b01_T, b01_F, Int.reduceEq, Int.reduceLT, Int.reduceLE, Int.reduceNe, Nat.reduceEqDiff, Nat.reduceLeDiff, and_false, false_and, and_true, true_and, or_false, false_or, or_true, true_or, if_true, if_false, not_true_eq_false, not_false_eq_true, eq_self, ne_eq, reduceCtorEq, false_implies, true_implies, implies_true, inT, inA, rmO, rmA, rI_pI, rI_pJ, rI_pR, rI_qI, rI_qJ, rI_qR, rJ_pI, rJ_pJ, rJ_pR, rJ_qI, rJ_qJ, rJ_qR, rR_pI, rR_pJ, rR_pR, rR_qI, rR_qJ, rR_qR, sI_pI, sI_pJ, sI_pR, sI_qI, sI_qJ, sI_qR, sJ_pI, sJ_pJ, sJ_pR, sJ_qI, sJ_qJ, sJ_qR, sR_pI, sR_pJ, sR_pR, sR_qI, sR_qJ, sR_qR, hc_pI, hc_pJ, hc_pR, hc_qI, hc_qJ, hc_qR, hl_pI, hl_pJ, hl_pR, hl_qI, hl_qJ, hl_qR, hk_pI, hk_pJ, hk_pR, hk_qI, hk_qJ, hk_qR, hs_pI, hs_pJ, hs_pR, hs_qI, hs_qJ, hs_qR, hn_pI, hn_pJ, hn_pR, hn_qI, hn_qJ, hn_qR, hc_nO', hc_nA', hl_nO, hl_nA', hn_nO, hn_nA, hk_nO, hk_nA, hs_nO, hs_nA, rI_nO, rI_nA, rJ_nO, rJ_nA, rR_nO, rR_nA, Nat.le_refl, Y.1, fpl _ Y, fgt Y, fk0 _ Y, xk2 Y, xk3 Y, xk4 Y, im_op _ Y, tm_op _ Y, im_cp _ Y, tm_cp _ Y, im_ob _ Y, tm_ob _ Y, im_cb _ Y, tm_cb _ Y, im_co _ Y, tm_co _ Y, im_se _ Y, tm_se _ Y, im_cl _ Y, tm_cl _ Y, im_be _ Y, tm_be _ Y, iw_LONG _ Y, tw_LONG _ Y, c1, c2, fpl _ X1.2.1, f_openY _ X2.2.1 qo, X2.2.1.2.2.1, w32_1 lt6, x1, x10, pn, i1, t1', t2', p1', p5', j1, hb]
  · have rO : ¬ O (hn h + 1) := fun z => by have := JNX.hi J z; omega
    have qO : ¬ O (hn h) := fun z => by have := JNX.hi J z; omega
    obtain ⟨q3, i3', h3, h4, s3, t3, P3, O3, dl3, b1, b2, b3, b4, b5, b6, ⟨u6, b7⟩, b8, ⟨b9, b10⟩, ⟨b11, b12, b13⟩, ⟨b14, b15, b16⟩⟩ := pn_with (d + 295) J2 B BL hR (by decide) (by omega) (by omega) rO qO (by show 1 < 50; decide) (by omega)
    have EW := X5.1.mono (W' := Wp p) (fun x _ z => by rw [z]; exact ⟨Nat.le_refl _, by omega⟩) (Nat.le_refl _)
    have NN := ((G1.po.vv (v := i)).seq (by omega) G2.po (Or.inr (Or.inr (by decide))) (Or.inl rfl)).seq (by omega) b6 (Or.inr (Or.inr (by decide))) (Or.inl rfl)
    have LL : LI 0 i p (g + 1 + 1) h s t P O h4 s3 t3 P3 O3 := ⟨(RC1.tr RC2).tr b3, NN, ⟨_, EW.tr b7 (fun x hx z => z.elim id (fun w => by omega))⟩, Gw.rf.tr b8 (by omega), by omega, by omega⟩
    have gg3 : g + 1 < fI s2 2066437804 - 1 := by omega
    have g01 : 0 ≤ g + 1 := by omega
    have GP3 : GP s3 (g + 1) 9 1 := ⟨b6.2.1, g01, (b6.gl (by decide) g01 gg3).1.trans go8, (b6.gl (by decide) g01 gg3).1.trans st1⟩
    have hga3 : aI s3 36 (g + 1) = fI s 1915442860 := ((b6.gl (by decide) g01 gg3).1.trans ga2).trans ga1
    have kk0 : ∀ e ∈ ([(i, q)] : List (Int × Nat)), e.1 = i ∨ fI s 1915442860 ≤ e.1 := fun e z => by rw [List.mem_singleton.mp z]; exact Or.inl rfl
    have GF3 : GFr s1 s3 (g + 1) := ((GFr.rf (s := s1)).po G2.po (by omega)).po b6 (by omega)
    have ST : ∀ s5 : MS, GFr s1 s5 (g + 1) → aI s5 35 g = 8 ∧ aI s5 34 g = 3 ∧ aI s5 36 g = aI s 36 g ∧ aI s5 37 g = aI s 37 g ∧ aI s5 39 g = aI s 39 g := fun s5 e14 => ⟨(e14 35 g (by decide) g0 (by omega)).1.trans st8, (e14 34 g (by decide) g0 (by omega)).1.trans go3, (e14 36 g (by decide) g0 (by omega)).1.trans f1, (e14 37 g (by decide) g0 (by omega)).1.trans f2, (e14 39 g (by decide) g0 (by omega)).1.trans f3⟩
    have M3 := JNX.m b4
    have cn3 := JNX.c b4
    have Y3 := JNX.x b4
    have F3 := JNX.f b4
    have hx3 : t3 < xc l := M3.1.2.2
    have lt3 : t3 < 1000000 := by omega
    have md3 := b6.2.2.2.1
    by_cases cl : kd l t3 = 5 ∧ sI l t3 = 58
    · obtain ⟨cl1, cl2⟩ := cl
      have hl3 : t3 + 1 < xc l := Y3.next hx3 (by rw [cl1]; decide) (by rw [cl1]; decide)
      have ok := b5.2.2.1.ok (by have := cn3.2.2.1; have := cn3.1; omega)
      obtain ⟨s4, RC4, G4, d1, d2, d3, d4, at4, GP4, go9, st2, ga4⟩ := msi1_cl M3 cn3 (by omega) GP3 (by omega) (by rw [hga3]; exact ok.1.1) (by rw [hga3]; exact ok.1.2) (by rw [hga3]; exact ok.2) cl1 cl2
      rw [hga3] at G4 d1 d2 d3 at4 ga4
      have X6 := (XU.rf (W := (· = p)) Y3 F3).st rfl (t1 := t3 + 1) hl3
      have cm3 := cn3.2.2.1
      obtain ⟨J4, B4, lm⟩ := pn_chl (k2 := 22) b4 b5 hR ⟨by omega, md3⟩ ⟨by omega, b11⟩ G4 d1 d2 d3 d4 (fun a b => at4 a _ _ _ _ _ _ _ b) X6 (by omega) (by omega) (by decide) (by omega) (nmp_k cl1 (by decide)) (y1 := y + 3) (by omega) (by omega)
      have gg4 : fI s4 2066437804 = g + 1 + 2 := G4.2.1
      rcases U hG sG p lx l PR Z0 ZM _ s4 (t3 + 1) (o + 1) P3 O3 dl3 (y + 3) (g + 1 + 1) (d + 302) hK J4 GP4 (by omega) (by omega) with B' | B'
      · left
        refine BN.up B' (((RC1.tr RC2).tr b3).tr RC4) (fun e h' hb => ?_)
        simp (config := {implicitDefEqProofs := false}) only [e_X11_primaryBehind, c_X11_primaryBehind_0, c_X11_primaryBehind_7, c_X11_primaryBehind_10, c_X11_primaryBehind_17, c_X11_primaryBehind_20, c_X11_primaryBehind_27, c_X11_primaryBehind_32, c_X11_primaryBehind_40, c_X11_primaryBehind_43, c_X11_primaryBehind_46, c_X11_primaryBehind_54, c_X11_primaryBehind_57, c_X11_primaryBehind_62, c_X11_primaryBehind_77, c_X11_primaryBehind_83, c_X11_primaryBehind_86, c_X11_primaryBehind_91, c_X11_primaryBehind_97, c_X11_primaryBehind_100, c_X11_primaryBehind_107, c_X11_primaryBehind_110, c_X11_primaryBehind_115, c_X11_primaryBehind_118, c_X11_primaryBehind_119, c_X11_primaryBehind_124, c_X11_primaryBehind_130, c_X11_primaryBehind_133, c_X11_primaryBehind_136, c_X11_primaryBehind_140, c_X11_primaryBehind_145, bnd_v, bnd_x, pu_s, pu_n, b01_T, b01_F, Int.reduceEq, Int.reduceLT, Int.reduceLE, Int.reduceNe, Nat.reduceEqDiff, Nat.reduceLeDiff, and_false, false_and, and_true, true_and, or_false, false_or, or_true, true_or, if_true, if_false, not_true_eq_false, not_false_eq_true, eq_self, ne_eq, reduceCtorEq, false_implies, true_implies, implies_true, inT, inA, rmO, rmA, rI_pI, rI_pJ, rI_pR, rI_qI, rI_qJ, rI_qR, rJ_pI, rJ_pJ, rJ_pR, rJ_qI, rJ_qJ, rJ_qR, rR_pI, rR_pJ, rR_pR, rR_qI, rR_qJ, rR_qR, sI_pI, sI_pJ, sI_pR, sI_qI, sI_qJ, sI_qR, sJ_pI, sJ_pJ, sJ_pR, sJ_qI, sJ_qJ, sJ_qR, sR_pI, sR_pJ, sR_pR, sR_qI, sR_qJ, sR_qR, hc_pI, hc_pJ, hc_pR, hc_qI, hc_qJ, hc_qR, hl_pI, hl_pJ, hl_pR, hl_qI, hl_qJ, hl_qR, hk_pI, hk_pJ, hk_pR, hk_qI, hk_qJ, hk_qR, hs_pI, hs_pJ, hs_pR, hs_qI, hs_qJ, hs_qR, hn_pI, hn_pJ, hn_pR, hn_qI, hn_qJ, hn_qR, hc_nO', hc_nA', hl_nO, hl_nA', hn_nO, hn_nA, hk_nO, hk_nA, hs_nO, hs_nA, rI_nO, rI_nA, rJ_nO, rJ_nA, rR_nO, rR_nA, Nat.le_refl, Y.1, fpl _ Y, fgt Y, fk0 _ Y, xk2 Y, xk3 Y, xk4 Y, im_op _ Y, tm_op _ Y, im_cp _ Y, tm_cp _ Y, im_ob _ Y, tm_ob _ Y, im_cb _ Y, tm_cb _ Y, im_co _ Y, tm_co _ Y, im_se _ Y, tm_se _ Y, im_cl _ Y, tm_cl _ Y, im_be _ Y, tm_be _ Y, iw_LONG _ Y, tw_LONG _ Y, c1, c2, fpl _ X1.2.1, f_openY _ X2.2.1 qo, X2.2.1.2.2.1, w32_1 lt6, x1, x10, pn, i1, t1', t2', p1', p5', j1, b1, b14, b15, b2, b16.1, tm_cl _ b16, cl1, cl2, hb]
      · obtain ⟨q6, i6, h6, h7, s6, t6, P6, O6, dl6, e1, e2, e3, e4, e5, e6, ⟨u7, e7⟩, e8, ⟨e9, e10⟩, ⟨e11, e12, e13⟩, ⟨e14, e15, e16⟩⟩ := pn_with (d + 295) J4 B' B4 hR (by decide) (by omega) (by omega) b12 b13 (by show 2 < 50; decide) (by omega)
        have vOK : aI s3 21 (fI s 1915442860) = i ∨ fI s 1915442860 ≤ aI s3 21 (fI s 1915442860) ∨ aI s3 21 (fI s 1915442860) < 0 := by
          obtain ⟨e', z1, z2⟩ := List.mem_map.mp (lm (List.cons_ne_nil _ _))
          rw [← z2]
          exact (kk0 e' z1).imp id Or.inl
        have N6 := (LL.2.1.seq (by omega) G4.po vOK (Or.inr (Or.inl (Int.le_refl _)))).seq (by omega) e6 (Or.inr (Or.inr (by decide))) (Or.inl rfl)
        obtain ⟨uL, EL⟩ := LL.2.2.1
        have L6 : LI 0 i p (g + 1 + 1) h s t P O h7 s6 t6 P6 O6 := ⟨(LL.1.tr RC4).tr e3, N6, ⟨_, (EL.tr (X6.1.mono (W' := Wp p) (fun x _ z => by rw [z]; exact ⟨Nat.le_refl _, by omega⟩) (Nat.le_refl _)) (fun _ _ z => z)).tr e7 (fun x hx z => z.elim id (fun w => by omega))⟩, LL.2.2.2.1.tr e8 EL.1.1, by omega, by omega⟩
        have GF6 : GFr s1 s6 (g + 1) := (GF3.po G4.po (by have := GP3.1; omega)).po e6 (by omega)
        have gg6 : g + 1 < fI s4 2066437804 - 1 := by omega
        have GP6 : GP s6 (g + 1) 9 2 := ⟨e6.2.1, g01, (e6.gl (by decide) g01 gg6).1.trans go9, (e6.gl (by decide) g01 gg6).1.trans st2⟩
        have hga6 : aI s6 36 (g + 1) = fI s 1915442860 := ((e6.gl (by decide) g01 gg6).1.trans ga4)
        have kk6 : ∀ e ∈ [(i, q)] ++ [(i3', q3)], e.1 = i ∨ fI s 1915442860 ≤ e.1 := fun e z => by
          rcases List.mem_append.mp z with z | z
          · exact kk0 e z
          · right
            rw [List.mem_singleton.mp z]
            have : fI s2 1915442860 ≤ i3' := b5.2.1.1.2.2.1.1
            show fI s 1915442860 ≤ i3'
            omega
        rcases pb_ide (d := d) (q := q) e4 GP6 (Or.inr ⟨rfl, rfl, rfl⟩) hga6 kk6 e5 ⟨by omega, e6.2.2.2.1⟩ ⟨by show hn h + 2 ≤ hn h4; omega, e11⟩ L6 (ST s6 GF6) hR hp hxt n0 g0 hg hg1 k6 with B'' | B''
        · left
          obtain ⟨e, h', s', k', w1, w2⟩ := B''
          refine ⟨e, h', s', k', ?_, w2⟩
          simp (config := {implicitDefEqProofs := false}) only [c_X11_primaryBehind_0, c_X11_primaryBehind_7, c_X11_primaryBehind_10, c_X11_primaryBehind_17, c_X11_primaryBehind_20, c_X11_primaryBehind_27, c_X11_primaryBehind_32, c_X11_primaryBehind_40, c_X11_primaryBehind_43, c_X11_primaryBehind_46, c_X11_primaryBehind_54, c_X11_primaryBehind_57, c_X11_primaryBehind_62, c_X11_primaryBehind_77, c_X11_primaryBehind_83, c_X11_primaryBehind_86, c_X11_primaryBehind_91, c_X11_primaryBehind_97, c_X11_primaryBehind_100, c_X11_primaryBehind_107, c_X11_primaryBehind_110, c_X11_primaryBehind_115, c_X11_primaryBehind_118, bnd_v, bnd_x, pu_s, pu_n, b01_T, b01_F, Int.reduceEq, Int.reduceLT, Int.reduceLE, Int.reduceNe, Nat.reduceEqDiff, Nat.reduceLeDiff, and_false, false_and, and_true, true_and, or_false, false_or, or_true, true_or, if_true, if_false, not_true_eq_false, not_false_eq_true, eq_self, ne_eq, reduceCtorEq, false_implies, true_implies, implies_true, inT, inA, rmO, rmA, rI_pI, rI_pJ, rI_pR, rI_qI, rI_qJ, rI_qR, rJ_pI, rJ_pJ, rJ_pR, rJ_qI, rJ_qJ, rJ_qR, rR_pI, rR_pJ, rR_pR, rR_qI, rR_qJ, rR_qR, sI_pI, sI_pJ, sI_pR, sI_qI, sI_qJ, sI_qR, sJ_pI, sJ_pJ, sJ_pR, sJ_qI, sJ_qJ, sJ_qR, sR_pI, sR_pJ, sR_pR, sR_qI, sR_qJ, sR_qR, hc_pI, hc_pJ, hc_pR, hc_qI, hc_qJ, hc_qR, hl_pI, hl_pJ, hl_pR, hl_qI, hl_qJ, hl_qR, hk_pI, hk_pJ, hk_pR, hk_qI, hk_qJ, hk_qR, hs_pI, hs_pJ, hs_pR, hs_qI, hs_qJ, hs_qR, hn_pI, hn_pJ, hn_pR, hn_qI, hn_qJ, hn_qR, hc_nO', hc_nA', hl_nO, hl_nA', hn_nO, hn_nA, hk_nO, hk_nA, hs_nO, hs_nA, rI_nO, rI_nA, rJ_nO, rJ_nA, rR_nO, rR_nA, Nat.le_refl, Y.1, fpl _ Y, fgt Y, fk0 _ Y, xk2 Y, xk3 Y, xk4 Y, im_op _ Y, tm_op _ Y, im_cp _ Y, tm_cp _ Y, im_ob _ Y, tm_ob _ Y, im_cb _ Y, tm_cb _ Y, im_co _ Y, tm_co _ Y, im_se _ Y, tm_se _ Y, im_cl _ Y, tm_cl _ Y, im_be _ Y, tm_be _ Y, iw_LONG _ Y, tw_LONG _ Y, c1, c2, fpl _ X1.2.1, f_openY _ X2.2.1 qo, X2.2.1.2.2.1, w32_1 lt6, x1, x10, pn, i1, t1', t2', p1', p5', j1, b1, b14, b15, b2, b16.1, tm_cl _ b16, cl1, cl2, e1, e14, e15, e2, w1]
        · right
          obtain ⟨h', s', t', P', O', dl', w1, w2, w3, w4, ⟨w5, w6⟩, w7, w8, w9, w10, w11⟩ := B''
          refine ⟨_, _, h', s', t', P', O', dl', vI 0, vR (hn h), ?_, w2, w3, w4, ⟨w5, w6, Int.le_refl _⟩, w7, w8, w9, w10, w11⟩
          rw [← w1, c_X11_primaryBehind_0 _ _ _ _ _ _ (i11 Y.1)]
          simp (config := {implicitDefEqProofs := false}) only [c_X11_primaryBehind_7, c_X11_primaryBehind_10, c_X11_primaryBehind_17, c_X11_primaryBehind_20, c_X11_primaryBehind_27, c_X11_primaryBehind_32, c_X11_primaryBehind_40, c_X11_primaryBehind_43, c_X11_primaryBehind_46, c_X11_primaryBehind_54, c_X11_primaryBehind_57, c_X11_primaryBehind_62, c_X11_primaryBehind_77, c_X11_primaryBehind_83, c_X11_primaryBehind_86, c_X11_primaryBehind_91, c_X11_primaryBehind_97, c_X11_primaryBehind_100, c_X11_primaryBehind_107, c_X11_primaryBehind_110, c_X11_primaryBehind_115, c_X11_primaryBehind_118, bnd_v, bnd_x, pu_s, pu_n, b01_T, b01_F, Int.reduceEq, Int.reduceLT, Int.reduceLE, Int.reduceNe, Nat.reduceEqDiff, Nat.reduceLeDiff, and_false, false_and, and_true, true_and, or_false, false_or, or_true, true_or, if_true, if_false, not_true_eq_false, not_false_eq_true, eq_self, ne_eq, reduceCtorEq, false_implies, true_implies, implies_true, inT, inA, rmO, rmA, rI_pI, rI_pJ, rI_pR, rI_qI, rI_qJ, rI_qR, rJ_pI, rJ_pJ, rJ_pR, rJ_qI, rJ_qJ, rJ_qR, rR_pI, rR_pJ, rR_pR, rR_qI, rR_qJ, rR_qR, sI_pI, sI_pJ, sI_pR, sI_qI, sI_qJ, sI_qR, sJ_pI, sJ_pJ, sJ_pR, sJ_qI, sJ_qJ, sJ_qR, sR_pI, sR_pJ, sR_pR, sR_qI, sR_qJ, sR_qR, hc_pI, hc_pJ, hc_pR, hc_qI, hc_qJ, hc_qR, hl_pI, hl_pJ, hl_pR, hl_qI, hl_qJ, hl_qR, hk_pI, hk_pJ, hk_pR, hk_qI, hk_qJ, hk_qR, hs_pI, hs_pJ, hs_pR, hs_qI, hs_qJ, hs_qR, hn_pI, hn_pJ, hn_pR, hn_qI, hn_qJ, hn_qR, hc_nO', hc_nA', hl_nO, hl_nA', hn_nO, hn_nA, hk_nO, hk_nA, hs_nO, hs_nA, rI_nO, rI_nA, rJ_nO, rJ_nA, rR_nO, rR_nA, Nat.le_refl, Y.1, fpl _ Y, fgt Y, fk0 _ Y, xk2 Y, xk3 Y, xk4 Y, im_op _ Y, tm_op _ Y, im_cp _ Y, tm_cp _ Y, im_ob _ Y, tm_ob _ Y, im_cb _ Y, tm_cb _ Y, im_co _ Y, tm_co _ Y, im_se _ Y, tm_se _ Y, im_cl _ Y, tm_cl _ Y, im_be _ Y, tm_be _ Y, iw_LONG _ Y, tw_LONG _ Y, c1, c2, fpl _ X1.2.1, f_openY _ X2.2.1 qo, X2.2.1.2.2.1, w32_1 lt6, x1, x10, pn, i1, t1', t2', p1', p5', j1, b1, b14, b15, b2, b16.1, tm_cl _ b16, cl1, cl2, e1, e14, e15, e2]
    · rcases pb_ide (d := d) (q := q) b4 GP3 (Or.inl ⟨rfl, rfl, rfl, cl⟩) hga3 kk0 b5 ⟨by omega, md3⟩ ⟨by omega, b11⟩ LL (ST s3 GF3) hR hp hxt n0 g0 hg hg1 k6 with B'' | B''
      · left
        obtain ⟨e, h', s', k', w1, w2⟩ := B''
        refine ⟨e, h', s', k', ?_, w2⟩
        simp (config := {implicitDefEqProofs := false}) only [c_X11_primaryBehind_0, c_X11_primaryBehind_7, c_X11_primaryBehind_10, c_X11_primaryBehind_17, c_X11_primaryBehind_20, c_X11_primaryBehind_27, c_X11_primaryBehind_32, c_X11_primaryBehind_40, c_X11_primaryBehind_43, c_X11_primaryBehind_46, c_X11_primaryBehind_54, c_X11_primaryBehind_57, c_X11_primaryBehind_62, c_X11_primaryBehind_77, c_X11_primaryBehind_83, c_X11_primaryBehind_86, c_X11_primaryBehind_91, c_X11_primaryBehind_97, c_X11_primaryBehind_100, c_X11_primaryBehind_107, c_X11_primaryBehind_110, c_X11_primaryBehind_115, c_X11_primaryBehind_118, bnd_v, bnd_x, pu_s, pu_n, b01_T, b01_F, Int.reduceEq, Int.reduceLT, Int.reduceLE, Int.reduceNe, Nat.reduceEqDiff, Nat.reduceLeDiff, and_false, false_and, and_true, true_and, or_false, false_or, or_true, true_or, if_true, if_false, not_true_eq_false, not_false_eq_true, eq_self, ne_eq, reduceCtorEq, false_implies, true_implies, implies_true, inT, inA, rmO, rmA, rI_pI, rI_pJ, rI_pR, rI_qI, rI_qJ, rI_qR, rJ_pI, rJ_pJ, rJ_pR, rJ_qI, rJ_qJ, rJ_qR, rR_pI, rR_pJ, rR_pR, rR_qI, rR_qJ, rR_qR, sI_pI, sI_pJ, sI_pR, sI_qI, sI_qJ, sI_qR, sJ_pI, sJ_pJ, sJ_pR, sJ_qI, sJ_qJ, sJ_qR, sR_pI, sR_pJ, sR_pR, sR_qI, sR_qJ, sR_qR, hc_pI, hc_pJ, hc_pR, hc_qI, hc_qJ, hc_qR, hl_pI, hl_pJ, hl_pR, hl_qI, hl_qJ, hl_qR, hk_pI, hk_pJ, hk_pR, hk_qI, hk_qJ, hk_qR, hs_pI, hs_pJ, hs_pR, hs_qI, hs_qJ, hs_qR, hn_pI, hn_pJ, hn_pR, hn_qI, hn_qJ, hn_qR, hc_nO', hc_nA', hl_nO, hl_nA', hn_nO, hn_nA, hk_nO, hk_nA, hs_nO, hs_nA, rI_nO, rI_nA, rJ_nO, rJ_nA, rR_nO, rR_nA, Nat.le_refl, Y.1, fpl _ Y, fgt Y, fk0 _ Y, xk2 Y, xk3 Y, xk4 Y, im_op _ Y, tm_op _ Y, im_cp _ Y, tm_cp _ Y, im_ob _ Y, tm_ob _ Y, im_cb _ Y, tm_cb _ Y, im_co _ Y, tm_co _ Y, im_se _ Y, tm_se _ Y, im_cl _ Y, tm_cl _ Y, im_be _ Y, tm_be _ Y, iw_LONG _ Y, tw_LONG _ Y, c1, c2, fpl _ X1.2.1, f_openY _ X2.2.1 qo, X2.2.1.2.2.1, w32_1 lt6, x1, x10, pn, i1, t1', t2', p1', p5', j1, b1, b14, b15, b2, b16.1, tm_cl _ b16, cl, w1]
      · right
        obtain ⟨h', s', t', P', O', dl', w1, w2, w3, w4, ⟨w5, w6⟩, w7, w8, w9, w10, w11⟩ := B''
        refine ⟨_, _, h', s', t', P', O', dl', vI 0, vR (hn h), ?_, w2, w3, w4, ⟨w5, w6, Int.le_refl _⟩, w7, w8, w9, w10, w11⟩
        rw [← w1, c_X11_primaryBehind_0 _ _ _ _ _ _ (i11 Y.1)]
        simp (config := {implicitDefEqProofs := false}) only [c_X11_primaryBehind_7, c_X11_primaryBehind_10, c_X11_primaryBehind_17, c_X11_primaryBehind_20, c_X11_primaryBehind_27, c_X11_primaryBehind_32, c_X11_primaryBehind_40, c_X11_primaryBehind_43, c_X11_primaryBehind_46, c_X11_primaryBehind_54, c_X11_primaryBehind_57, c_X11_primaryBehind_62, c_X11_primaryBehind_77, c_X11_primaryBehind_83, c_X11_primaryBehind_86, c_X11_primaryBehind_91, c_X11_primaryBehind_97, c_X11_primaryBehind_100, c_X11_primaryBehind_107, c_X11_primaryBehind_110, c_X11_primaryBehind_115, c_X11_primaryBehind_118, bnd_v, bnd_x, pu_s, pu_n, b01_T, b01_F, Int.reduceEq, Int.reduceLT, Int.reduceLE, Int.reduceNe, Nat.reduceEqDiff, Nat.reduceLeDiff, and_false, false_and, and_true, true_and, or_false, false_or, or_true, true_or, if_true, if_false, not_true_eq_false, not_false_eq_true, eq_self, ne_eq, reduceCtorEq, false_implies, true_implies, implies_true, inT, inA, rmO, rmA, rI_pI, rI_pJ, rI_pR, rI_qI, rI_qJ, rI_qR, rJ_pI, rJ_pJ, rJ_pR, rJ_qI, rJ_qJ, rJ_qR, rR_pI, rR_pJ, rR_pR, rR_qI, rR_qJ, rR_qR, sI_pI, sI_pJ, sI_pR, sI_qI, sI_qJ, sI_qR, sJ_pI, sJ_pJ, sJ_pR, sJ_qI, sJ_qJ, sJ_qR, sR_pI, sR_pJ, sR_pR, sR_qI, sR_qJ, sR_qR, hc_pI, hc_pJ, hc_pR, hc_qI, hc_qJ, hc_qR, hl_pI, hl_pJ, hl_pR, hl_qI, hl_qJ, hl_qR, hk_pI, hk_pJ, hk_pR, hk_qI, hk_qJ, hk_qR, hs_pI, hs_pJ, hs_pR, hs_qI, hs_qJ, hs_qR, hn_pI, hn_pJ, hn_pR, hn_qI, hn_qJ, hn_qR, hc_nO', hc_nA', hl_nO, hl_nA', hn_nO, hn_nA, hk_nO, hk_nA, hs_nO, hs_nA, rI_nO, rI_nA, rJ_nO, rJ_nA, rR_nO, rR_nA, Nat.le_refl, Y.1, fpl _ Y, fgt Y, fk0 _ Y, xk2 Y, xk3 Y, xk4 Y, im_op _ Y, tm_op _ Y, im_cp _ Y, tm_cp _ Y, im_ob _ Y, tm_ob _ Y, im_cb _ Y, tm_cb _ Y, im_co _ Y, tm_co _ Y, im_se _ Y, tm_se _ Y, im_cl _ Y, tm_cl _ Y, im_be _ Y, tm_be _ Y, iw_LONG _ Y, tw_LONG _ Y, c1, c2, fpl _ X1.2.1, f_openY _ X2.2.1 qo, X2.2.1.2.2.1, w32_1 lt6, x1, x10, pn, i1, t1', t2', p1', p5', j1, b1, b14, b15, b2, b16.1, tm_cl _ b16, cl]
end PBA
