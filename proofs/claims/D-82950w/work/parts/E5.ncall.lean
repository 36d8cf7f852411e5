/-! READING NODES: calls -/
set_option maxRecDepth 100000
set_option maxHeartbeats 1000000
section PBC
variable {hG h h0 h1 : PH} {sG s s1 : MS} {p lx t o t1 o1 : Nat} {l : List TokE} {PR g : Int} {P P1 : List (Nat × Int)} {O O1 W W1 X : Nat → Prop} {Z0 ZM Z u u' y y1 : Nat} {v w : Int} {dl dl1 : List Nat} {R R1 : Int × Nat → Prop}
/-- a call or slice was read: the formula goes on with it -/
def PBK (i : Int) (q : Nat) (R : Int × Nat → Prop) (hG : PH) (sG : MS) (p lx : Nat) (l : List TokE) (PR : Int) (Z0 ZM d : Nat) (a2 a3 : PV) (h : PH) (s : MS) (t o : Nat) (P : List (Nat × Int)) (O : Nat → Prop) (y : Nat) (g : Int) : Prop := ∃ n q0 h' s' t' P' O' dl' b2 b3, FA (F (d + 302)) 109650498 0 [vR p, vR q, a2, a3] [] h = FA (F (d + 302)) 109650498 0 [vR p, vR q0, b2, b3] [] h' ∧ Reach s s' ∧ JN hG sG p lx l PR Z0 ZM h' s' t' o P' O' dl' y ∧ GP s' g 3 6 ∧ (KD h' s' l P' (ON p O') PR (fun e => R e ∨ Rg (fI s 1915442860) (fI s' 1915442860) (hn h) (hn h') e) n q0 ∧ fI s' 2125158060 = n ∧ fI s 1915442860 ≤ n) ∧ NPo i (-1) (g + 1) s s' ∧ (∃ u, Ev (Wp p) u h h') ∧ Gw h P O P' O' ∧ (t < t' ∧ fI s' 1915442860 + t ≤ fI s 1915442860 + t') ∧ (aI s' 36 g = aI s 36 g ∧ aI s' 37 g = aI s 37 g ∧ aI s' 39 g = aI s 39 g)
theorem sg_rf (M : MJ s l t o PR) : SG (-1) (-1) (fI s 2066437804) s s t o := ⟨FrN.rf, rfl, ⟨M.1.2.1, M.2.1, M.2.2.1⟩, ⟨rfl, rfl, rfl, rfl, rfl, rfl, rfl, rfl⟩, Int.le_refl _⟩
theorem pb_call {k d : Nat} {i : Int} {q : Nat} {a2 a3 : PV} (U : UnitC k) (hK : 24 ≤ o + 1 + k) (hD : 60 * (24 - (o + 1)) ≤ d) (J : JN hG sG p lx l PR Z0 ZM h s t o P O dl y) (G : FG s g 6) (vl : fI s 2125158060 = i) (K : KD h s l P (ON p O) PR R i q) (hR : ∀ e, R e → 0 ≤ e.1 ∧ e.1 < fI s 1915442860 ∧ e.2 < hn h) (hg : g ≤ 20 * o + 8) (c1 : kd l t = 5) (c2 : sI l t = 40) (qo : o < 24) : BN hG sG p l Z0 ZM (FA (F (d + 302)) 109650498 0 [vR p, vR q, a2, a3] [] h) s ∨ PBK i q R hG sG p lx l PR Z0 ZM d a2 a3 h s t o P O y g := by
  have M := JNX.m J
  have Y := JNX.x J
  have F0 := JNX.f J
  have hp := JNX.hp J
  have p0 := JNX.p0 J
  have ho24 : o ≤ 24 := Y.2.2.2.2.2.1
  have hxt : t < xc l := M.1.2.2
  have xl : xc l ≤ l.length := M.1.1.x
  have hl2 := M.1.1.2.1
  have rm := JNX.room J
  have lt6 : t < 1000000 := by omega
  obtain ⟨⟨k1, k2, k3, k4⟩, k5, k6, k7⟩ := JNX.c J
  have cn := JNX.c J
  have x1 : hk h < cLim := by unfold Room at rm; omega
  have x2 : hs h + 20 ≤ sLim := by unfold Room at rm; omega
  have x8 : hs h + 8 ≤ sLim := by omega
  have x9 : hs h + 9 ≤ sLim := by omega
  have pn : ¬ (p = hn h) := by omega
  have hl1 : t + 1 < xc l := Y.next hxt (by rw [c1]; decide) (by rw [c1]; decide)
  have g0 := G.1.2.1
  have hg1 := G.1.1
  have i0 := K.2.1
  obtain ⟨s1, RC1, G1, mk1, U1, A1, st8, go3, f1, f2, f3, GP1, ga1, gb1⟩ := ms6_call M cn ho24 G.1 (by omega) vl i0 K.2.2.2.1 c1 c2 qo
  have M1 := M.sg G1 (by omega) hl1
  have cn1 := cn.sg G1 (by omega) (by rw [mk1]; omega)
  obtain ⟨s2, RC2, G2, GP2, go8, st1, ga2, gb2, mk2⟩ := msc0 M1 cn1 (by omega) GP1 (by omega) gb1
  -- x
  have X1 := (XU.rf (W := (· = p)) Y F0).mO (tg := 12) (n := 9) (by decide) (by decide)
  obtain ⟨h1, i1, i2, i3, i4, i5⟩ := x_newCall (d + 294) X1.i (X1.rm rm (by omega)) (fz_nO) (pl l t)
  have i3 : NF h1 (hn h) 12 (hn h + 1) (pl l t) z0 z0 zr := i3
  have i4 : AL h1 (hn h + 1) [] := i4
  have i5 : hn h1 = hn h + 1 + 2 := i5
  have X2 := X1.tr i2 (fun x z => ⟨by omega, Or.inr (by omega)⟩)
  have X4 := (X2.so rfl (o1 := o + 1) (by omega)).st rfl (t1 := t + 1) hl1
  have wp0 : ∀ x, x = p → ¬ O x ∨ Wp p x := fun x z => Or.inr (by rw [z]; exact ⟨Nat.le_refl _, by omega⟩)
  have kq := K.ok J X4.1 wp0
  have ec : Ev (· = p) 0 h1 (pI (pI h1 1294223504 p ((o + 1 : Nat) : Int)) 1285834896 p ((t + 1 : Nat) : Int)) := ((Ev.rf (W := (· = p)) X2.i).cI (r := p) (Or.inl rfl) (by rw [X2.2.1.1]; rfl)).cI (r := p) (Or.inl rfl) (by show mdT (hc h1 p) = true; rw [X2.2.1.1]; rfl)
  have n3 := XU.nf i3 ec X2.i (by omega) (by decide)
  have al3 := ec.al X2.2.1.c (show ¬ (hn h + 1 = p) by omega) (fun z => p0 z.symm) i4
  obtain ⟨h2, j1, j2, j3⟩ := f_with' (d + 295) X4.i (q := hn h) (r := hn h + 1) (v := q) (by rw [n3.1]; decide) n3.2.1 al3 kq.1 (by decide) (X4.rm rm (by omega))
  have X5 := X4.tr j2 (fun x z => ⟨by omega, Or.inr (by omega)⟩)
  have hn2 : hn h1 ≤ hn h2 := j2.1.1
  have n4 := XU.nf n3 j2 X4.i (by omega) (by decide)
  have J1 := JNX.step J X5.1 (fun _ z => Or.inr z) X5.2.1 X5.2.2 G1 (by omega) (nmp_k c1 (by decide)) (y1 := y + 3) (by omega) (by rw [mk1]; omega)
  have J2 := JNX.step J1 (Ev.rf (W := W0) X5.2.1.i) (fun _ z => z.elim) X5.2.1 X5.2.2 G2 (Nat.le_refl _) nmp_rf (y1 := y + 3) (by omega) (by have := cn1.2.2.1; rw [mk2]; exact this)
  have K1 := K.go J X5.1 wp0 G1.po Gw.rf (ngR hR) (ngR hR)
  have K2 := K1.go J1 (Ev.rf (W := W0) X5.2.1.i) (fun _ z => z.elim) G2.po Gw.rf (ngR hR) (ngR hR)
  have gg1 : fI s1 2066437804 = g + 2 := G1.2.1
  have gg2 : fI s2 2066437804 = g + 1 + 2 := G2.2.1
  have n0 : 0 ≤ fI s 1915442860 := k1
  have BL : Bld h2 s2 l P (ON p O) PR (RB R (fI s 1915442860) (hn h) (fI s2 1915442860) (hn h2)) [(i, q)] (fI s 1915442860) (hn h) (hn h + 1) 20 t 0 0 0 (-1) 0 12 (pl l t) z0 z0 zr := ⟨(K2.kf).up (fun e z => Or.inl z), U1.go G2.po (fun z => by have := List.mem_singleton.mp z; omega) (by omega), A1.go G2.po n0 (by omega) (by omega) (by omega), n4, j3⟩
  have hR' : ∀ e, R e → 0 ≤ e.1 ∧ e.1 < fI s 1915442860 ∧ e.2 < hn h := hR
  have i1 : F (d + 302) 130572482 [vR (hn h), vI (pl l t)] (nO h 12 9) = some (.inl none, h1) := i1
  have t1' := i3.1
  have t2' := n3.1
  have p1' := X2.2.1.1
  have p5' := X5.2.1.1
  rcases U hG sG p lx l PR Z0 ZM h2 s2 (t + 1) (o + 1) P O dl (y + 3) (g + 1 + 1) (d + 302) hK J2 GP2 (by omega) (by omega) with B | B
  · left
    refine BN.up B (RC1.tr RC2) (fun e h' hb => ?_)
    simp (config := {implicitDefEqProofs := false}) only [e_X11_primaryBehind, c_X11_primaryBehind_0, c_X11_primaryBehind_7, c_X11_primaryBehind_10, c_X11_primaryBehind_17, c_X11_primaryBehind_20, c_X11_primaryBehind_27, c_X11_primaryBehind_32, c_X11_primaryBehind_40, c_X11_primaryBehind_43, c_X11_primaryBehind_46, c_X11_primaryBehind_54, c_X11_primaryBehind_57, c_X11_primaryBehind_62, c_X11_primaryBehind_77, c_X11_primaryBehind_83, c_X11_primaryBehind_86, c_X11_primaryBehind_91, c_X11_primaryBehind_97, c_X11_primaryBehind_100, c_X11_primaryBehind_107, c_X11_primaryBehind_110, c_X11_primaryBehind_115, c_X11_primaryBehind_118, c_X11_primaryBehind_119, c_X11_primaryBehind_124, c_X11_primaryBehind_130, c_X11_primaryBehind_133, c_X11_primaryBehind_136, c_X11_primaryBehind_140, c_X11_primaryBehind_145, bnd_v, bnd_x, pu_s, pu_n, b01_T, b01_F, Int.reduceEq, Int.reduceLT, Int.reduceLE, Int.reduceNe, Nat.reduceEqDiff, Nat.reduceLeDiff, and_false, false_and, and_true, true_and, or_false, false_or, or_true, true_or, if_true, if_false, not_true_eq_false, not_false_eq_true, eq_self, ne_eq, reduceCtorEq, false_implies, true_implies, implies_true, inT, inA, rmO, rmA, rI_pI, rI_pJ, rI_pR, rI_qI, rI_qJ, rI_qR, rJ_pI, rJ_pJ, rJ_pR, rJ_qI, rJ_qJ, rJ_qR, rR_pI, rR_pJ, rR_pR, rR_qI, rR_qJ, rR_qR, sI_pI, sI_pJ, sI_pR, sI_qI, sI_qJ, sI_qR, sJ_pI, sJ_pJ, sJ_pR, sJ_qI, sJ_qJ, sJ_qR, sR_pI, sR_pJ, sR_pR, sR_qI, sR_qJ, sR_qR, hc_pI, hc_pJ, hc_pR, hc_qI, hc_qJ, hc_qR, hl_pI, hl_pJ, hl_pR, hl_qI, hl_qJ, hl_qR, hk_pI, hk_pJ, hk_pR, hk_qI, hk_qJ, hk_qR, hs_pI, hs_pJ, hs_pR, hs_qI, hs_qJ, hs_qR, hn_pI, hn_pJ, hn_pR, hn_qI, hn_qJ, hn_qR, hc_nO', hc_nA', hl_nO, hl_nA', hn_nO, hn_nA, hk_nO, hk_nA, hs_nO, hs_nA, rI_nO, rI_nA, rJ_nO, rJ_nA, rR_nO, rR_nA, Nat.le_refl, Y.1, fpl _ Y, fgt Y, fk0 _ Y, xk2 Y, xk3 Y, xk4 Y, im_op _ Y, tm_op _ Y, im_cp _ Y, tm_cp _ Y, im_ob _ Y, tm_ob _ Y, im_cb _ Y, tm_cb _ Y, im_co _ Y, tm_co _ Y, im_se _ Y, tm_se _ Y, im_cl _ Y, tm_cl _ Y, im_be _ Y, tm_be _ Y, iw_LONG _ Y, tw_LONG _ Y, c1, c2, fpl _ X1.2.1, im_op _ Y, f_openY _ X2.2.1 qo, X2.2.1.2.2.1, w32_1 lt6, x1, x9, pn, i1, t1', t2', p1', p5', j1, hb]
  · have rO : ¬ O (hn h + 1) := fun z => by have := JNX.hi J z; omega
    have qO : ¬ O (hn h) := fun z => by have := JNX.hi J z; omega
    obtain ⟨q3, i3', h3, h4, s3, t3, P3, O3, dl3, b1, b2, b3, b4, b5, b6, ⟨u6, b7⟩, b8, ⟨b9, b10⟩, ⟨b11, b12, b13⟩, ⟨b14, b15, b16⟩⟩ := pn_with (d + 295) J2 B BL hR' (by decide) (by omega) (by omega) rO qO (by show 1 < 50; decide) (by omega)
    have EW := X5.1.mono (W' := Wp p) (fun x _ z => by rw [z]; exact ⟨Nat.le_refl _, by omega⟩) (Nat.le_refl _)
    have NN := ((G1.po.vv (v := i)).seq (by omega) G2.po (Or.inr (Or.inr (by decide))) (Or.inl rfl)).seq (by omega) b6 (Or.inr (Or.inr (by decide))) (Or.inl rfl)
    have LL : LI 0 i p (g + 1 + 1) h s t P O h4 s3 t3 P3 O3 := ⟨(RC1.tr RC2).tr b3, NN, ⟨_, EW.tr b7 (fun x hx z => z.elim id (fun w => by omega))⟩, Gw.rf.tr b8 (by omega), by omega, by omega⟩
    have gg3 : g + 1 < fI s2 2066437804 - 1 := by omega
    have g01 : 0 ≤ g + 1 := by omega
    have GP3 : GP s3 (g + 1) 8 1 := ⟨b6.2.1, g01, (b6.gl (by decide) g01 gg3).1.trans go8, (b6.gl (by decide) g01 gg3).1.trans st1⟩
    have hga3 : aI s3 36 (g + 1) = fI s 1915442860 := ((b6.gl (by decide) g01 gg3).1.trans ga2).trans ga1
    have hgb3 : aI s3 37 (g + 1) = (([(i, q)] : List (Int × Nat)).length : Nat) := (b6.gl (by decide) g01 gg3).1.trans gb2
    have kk0 : ∀ e ∈ ([(i, q)] : List (Int × Nat)), e.1 = i ∨ fI s 1915442860 ≤ e.1 := fun e z => by rw [List.mem_singleton.mp z]; exact Or.inl rfl
    have ih := ul_call (d := d) (g := g + 1) (o := o + 1) U hK hD hR' (by omega) (by omega) (by decide) (Nat.le_refl _) (by omega) (Int.le_refl _) g01 (by omega) (by omega) (xc l) h4 s3 t3 P3 O3 dl3 [(i, q)] i3' q3 _ _ (by omega) b4 GP3 hga3 hgb3 (by show 1 ≤ 1 ∧ 1 ≤ 8; decide) kk0 b5 ⟨by omega, b6.2.2.2.1⟩ ⟨by omega, b11⟩ ⟨b12, b13⟩ LL (((GFr.rf (s := s1)).po G2.po (by omega)).po b6 (by omega))
    have q3t := b14
    rcases ih with B' | B'
    · left
      obtain ⟨e, h', s', k', w1, w2⟩ := B'
      refine ⟨e, h', s', k', ?_, w2⟩
      simp (config := {implicitDefEqProofs := false}) only [e_X11_primaryBehind, c_X11_primaryBehind_0, c_X11_primaryBehind_7, c_X11_primaryBehind_10, c_X11_primaryBehind_17, c_X11_primaryBehind_20, c_X11_primaryBehind_27, c_X11_primaryBehind_32, c_X11_primaryBehind_40, c_X11_primaryBehind_43, c_X11_primaryBehind_46, c_X11_primaryBehind_54, c_X11_primaryBehind_57, c_X11_primaryBehind_62, c_X11_primaryBehind_77, c_X11_primaryBehind_83, c_X11_primaryBehind_86, c_X11_primaryBehind_91, c_X11_primaryBehind_97, c_X11_primaryBehind_100, c_X11_primaryBehind_107, c_X11_primaryBehind_110, c_X11_primaryBehind_115, c_X11_primaryBehind_118, c_X11_primaryBehind_119, c_X11_primaryBehind_124, c_X11_primaryBehind_130, c_X11_primaryBehind_133, c_X11_primaryBehind_136, c_X11_primaryBehind_140, c_X11_primaryBehind_145, e_X11_units, bnd_v, bnd_x, pu_s, pu_n, b01_T, b01_F, Int.reduceEq, Int.reduceLT, Int.reduceLE, Int.reduceNe, Nat.reduceEqDiff, Nat.reduceLeDiff, and_false, false_and, and_true, true_and, or_false, false_or, or_true, true_or, if_true, if_false, not_true_eq_false, not_false_eq_true, eq_self, ne_eq, reduceCtorEq, false_implies, true_implies, implies_true, inT, inA, rmO, rmA, rI_pI, rI_pJ, rI_pR, rI_qI, rI_qJ, rI_qR, rJ_pI, rJ_pJ, rJ_pR, rJ_qI, rJ_qJ, rJ_qR, rR_pI, rR_pJ, rR_pR, rR_qI, rR_qJ, rR_qR, sI_pI, sI_pJ, sI_pR, sI_qI, sI_qJ, sI_qR, sJ_pI, sJ_pJ, sJ_pR, sJ_qI, sJ_qJ, sJ_qR, sR_pI, sR_pJ, sR_pR, sR_qI, sR_qJ, sR_qR, hc_pI, hc_pJ, hc_pR, hc_qI, hc_qJ, hc_qR, hl_pI, hl_pJ, hl_pR, hl_qI, hl_qJ, hl_qR, hk_pI, hk_pJ, hk_pR, hk_qI, hk_qJ, hk_qR, hs_pI, hs_pJ, hs_pR, hs_qI, hs_qJ, hs_qR, hn_pI, hn_pJ, hn_pR, hn_qI, hn_qJ, hn_qR, hc_nO', hc_nA', hl_nO, hl_nA', hn_nO, hn_nA, hk_nO, hk_nA, hs_nO, hs_nA, rI_nO, rI_nA, rJ_nO, rJ_nA, rR_nO, rR_nA, Nat.le_refl, Y.1, fpl _ Y, fgt Y, fk0 _ Y, xk2 Y, xk3 Y, xk4 Y, im_op _ Y, tm_op _ Y, im_cp _ Y, tm_cp _ Y, im_ob _ Y, tm_ob _ Y, im_cb _ Y, tm_cb _ Y, im_co _ Y, tm_co _ Y, im_se _ Y, tm_se _ Y, im_cl _ Y, tm_cl _ Y, im_be _ Y, tm_be _ Y, iw_LONG _ Y, tw_LONG _ Y, c1, c2, fpl _ X1.2.1, im_op _ Y, f_openY _ X2.2.1 qo, X2.2.1.2.2.1, w32_1 lt6, x1, x9, pn, i1, t1', t2', p1', p5', j1, b1, b14, b15, b2, b16.1, w1]
    · obtain ⟨h5, s5, t5, P5, O5, dl5, ks5, i5', q5, a5, b5', e1, e2, e3, e4, e5, e6, e7, e8, e9, e10, e11, e12, e13⟩ := B'
      have M5 := JNX.m e3
      have cn5 := JNX.c e3
      have Y5 := JNX.x e3
      have F5 := JNX.f e3
      have hx5 : t5 < xc l := M5.1.2.2
      have ok := e8.2.2.1.ok (by have := cn5.2.2.1; have := cn5.1; omega)
      have lt5 : t5 < 1000000 := by omega
      by_cases c5 : kd l t5 = 5 ∧ sI l t5 = 41
      · obtain ⟨c5, c6⟩ := c5
        right
        have hl5 : t5 + 1 < xc l := Y5.next hx5 (by rw [c5]; decide) (by rw [c5]; decide)
        obtain ⟨s6, RC6, G6, d1, d2, d3, d4, at6, v6⟩ := msc1_cp M5 cn5 Y5.2.2.2.2.2.1 e4 (by omega) (by rw [e5]; exact ok.1.1) (by rw [e5]; exact ok.1.2) (by rw [e5]; exact ok.2) c5 c6 (by omega)
        rw [e5] at G6 d1 d2 d3 at6 v6
        have X6 := ((XU.rf (W := (· = p)) Y5 F5).st rfl (t1 := t5 + 1) hl5).so rfl (o1 := o) (by omega)
        have E12 := e12.2.2.2.2.2
        have E11 := e12.2.1.2.2.1
        obtain ⟨J6, B6, lm⟩ := pn_chl (o1 := o) e3 e8 hR' e9 e10 G6 d1 d2 d3 d4 (at6 _ _ _ _ _ _ _) X6 (by omega) (by omega) (by decide) (by omega) (nmp_k c5 (by decide)) (y1 := y) (by omega) (by omega)
        obtain ⟨F1, F2, F3, F4, F5'⟩ := B6
        have hq5 := e12.2.2.1
        obtain ⟨u5, E5⟩ := hq5
        have hn5 : hn h ≤ hn h5 := E5.1.1
        obtain ⟨J7, K7⟩ := fin J6 F1 F2 F3 F4 F5' (fun e z => by
          rcases z with z | ⟨z1, z2, z3, z4⟩
          · have := hR' e z; constructor <;> omega
          · constructor <;> omega) (by omega) (by omega) (by decide) (by decide) hxt rfl rfl (by
            obtain ⟨a1, a2, a3, a4, a5, a6, a7, a8⟩ := F3
            obtain ⟨n1, n2, n3, n4, n5, n6⟩ := F4
            unfold APu
            simp (config := {implicitDefEqProofs := false}) only [bnd_v, bnd_x, pu_s, pu_n, b01_T, b01_F, Int.reduceEq, Int.reduceLT, Int.reduceLE, Int.reduceNe, Nat.reduceEqDiff, Nat.reduceLeDiff, and_false, false_and, and_true, true_and, or_false, false_or, or_true, true_or, if_true, if_false, not_true_eq_false, not_false_eq_true, eq_self, ne_eq, reduceCtorEq, false_implies, true_implies, implies_true, a1, n1]) (by
            unfold Ari
            rw [List.length_append]
            simp (config := {implicitDefEqProofs := false}) only [bnd_v, bnd_x, pu_s, pu_n, b01_T, b01_F, Int.reduceEq, Int.reduceLT, Int.reduceLE, Int.reduceNe, Nat.reduceEqDiff, Nat.reduceLeDiff, and_false, false_and, and_true, true_and, or_false, false_or, or_true, true_or, if_true, if_false, not_true_eq_false, not_false_eq_true, eq_self, ne_eq, reduceCtorEq, false_implies, true_implies, implies_true]
            show 2 ≤ ks5.length + 1 ∧ ks5.length + 1 ≤ 9
            omega) (by decide) (by decide) (fun f _ => rfl) (fun f _ => rfl)
        have M6 := JNX.m J7
        have cn6 := JNX.c J7
        have g6 : fI s6 2066437804 = g + 1 := G6.2.1
        have vOK : aI s5 21 (fI s 1915442860) = i ∨ fI s 1915442860 ≤ aI s5 21 (fI s 1915442860) ∨ aI s5 21 (fI s 1915442860) < 0 := by
          obtain ⟨e', z1, z2⟩ := List.mem_map.mp (lm (by intro z; rw [z] at e6; exact absurd e6.1 (by decide)))
          rw [← z2]
          exact (e7 e' z1).imp id Or.inl
        have N6 := e12.2.1.seq (by omega) G6.po vOK (Or.inr (Or.inl (Int.le_refl _)))
        have gs : g < fI s1 2066437804 - 1 := by omega
        have gs2 : g < fI s2 2066437804 - 1 := by omega
        have NA := N6
        have st6 : aI s6 35 g = 8 ∧ aI s6 34 g = 3 ∧ aI s6 36 g = aI s 36 g ∧ aI s6 37 g = aI s 37 g ∧ aI s6 39 g = aI s 39 g := by
          have e14 := e13.po G6.po (by have := e4.1; omega)
          exact ⟨(e14 35 g (by decide) g0 (by omega)).1.trans st8, (e14 34 g (by decide) g0 (by omega)).1.trans go3, (e14 36 g (by decide) g0 (by omega)).1.trans f1, (e14 37 g (by decide) g0 (by omega)).1.trans f2, (e14 39 g (by decide) g0 (by omega)).1.trans f3⟩
        obtain ⟨s7, RC7, G7, GP7, f1', f2', f3', md7, v7⟩ := ms8_6 M6 cn6 (by omega) ⟨g6, g0, st6.2.1, st6.1⟩ (by omega)
        have J8 := JNX.step J7 (Ev.rf (W := W0) X6.2.1.i) (fun _ z => z.elim) X6.2.1 X6.2.2 G7 (Nat.le_refl _) nmp_rf (y1 := y) (by omega) (by have := cn6.2.2.1; rw [md7]; exact this)
        have ngK : ∀ b, ¬ (RB R (fI s 1915442860) (hn h) (fI s6 1915442860) (hn (pI (pI h5 1285834896 p ((t5 + 1 : Nat) : Int)) 1294223504 p ((o : Nat) : Int))) (-1, b) ∨ ((-1 : Int), b) = (fI s 1915442860, hn h)) := fun b z => by
          rcases z with (z | z) | z
          · exact ngR hR b z
          · have : fI s 1915442860 + 1 ≤ -1 := z.1; omega
          · have : (-1 : Int) = fI s 1915442860 := congrArg Prod.fst z; omega
        have K8 := K7.go J7 (Ev.rf (W := W0) X6.2.1.i) (fun _ z => z.elim) G7.po Gw.rf ngK ngK
        refine ⟨fI s 1915442860, hn h, _, s7, t5 + 1, P5, _, dl5, vI 1, vR (hn h), ?_, (e12.1.tr RC6).tr RC7, J8, GP7, ⟨K8.up (fun e z => ?_), v7.trans v6, Int.le_refl _⟩, N6.seq (by omega) G7.po (Or.inr (Or.inr (by decide))) (Or.inl rfl), ⟨_, E5.tr X6.1 (fun x _ z => by rw [z]; exact ⟨Nat.le_refl _, by omega⟩)⟩, e12.2.2.2.1.own (Nat.le_refl _) (Nat.le_refl _) (by omega), ⟨by omega, by omega⟩, ⟨f1'.trans st6.2.2.1, f2'.trans st6.2.2.2.1, f3'.trans st6.2.2.2.2⟩⟩
        · rw [c_X11_primaryBehind_0 _ _ _ _ _ _ (i11 Y.1)]
          simp (config := {implicitDefEqProofs := false}) only [c_X11_primaryBehind_7, c_X11_primaryBehind_10, c_X11_primaryBehind_17, c_X11_primaryBehind_20, c_X11_primaryBehind_27, c_X11_primaryBehind_32, c_X11_primaryBehind_40, c_X11_primaryBehind_43, c_X11_primaryBehind_46, c_X11_primaryBehind_54, c_X11_primaryBehind_57, c_X11_primaryBehind_62, c_X11_primaryBehind_77, c_X11_primaryBehind_83, c_X11_primaryBehind_86, c_X11_primaryBehind_91, c_X11_primaryBehind_97, c_X11_primaryBehind_100, c_X11_primaryBehind_107, c_X11_primaryBehind_110, c_X11_primaryBehind_115, c_X11_primaryBehind_118, c_X11_primaryBehind_119, c_X11_primaryBehind_124, c_X11_primaryBehind_130, c_X11_primaryBehind_133, c_X11_primaryBehind_136, c_X11_primaryBehind_140, e_X11_units, bnd_v, bnd_x, pu_s, pu_n, b01_T, b01_F, Int.reduceEq, Int.reduceLT, Int.reduceLE, Int.reduceNe, Nat.reduceEqDiff, Nat.reduceLeDiff, and_false, false_and, and_true, true_and, or_false, false_or, or_true, true_or, if_true, if_false, not_true_eq_false, not_false_eq_true, eq_self, ne_eq, reduceCtorEq, false_implies, true_implies, implies_true, inT, inA, rmO, rmA, rI_pI, rI_pJ, rI_pR, rI_qI, rI_qJ, rI_qR, rJ_pI, rJ_pJ, rJ_pR, rJ_qI, rJ_qJ, rJ_qR, rR_pI, rR_pJ, rR_pR, rR_qI, rR_qJ, rR_qR, sI_pI, sI_pJ, sI_pR, sI_qI, sI_qJ, sI_qR, sJ_pI, sJ_pJ, sJ_pR, sJ_qI, sJ_qJ, sJ_qR, sR_pI, sR_pJ, sR_pR, sR_qI, sR_qJ, sR_qR, hc_pI, hc_pJ, hc_pR, hc_qI, hc_qJ, hc_qR, hl_pI, hl_pJ, hl_pR, hl_qI, hl_qJ, hl_qR, hk_pI, hk_pJ, hk_pR, hk_qI, hk_qJ, hk_qR, hs_pI, hs_pJ, hs_pR, hs_qI, hs_qJ, hs_qR, hn_pI, hn_pJ, hn_pR, hn_qI, hn_qJ, hn_qR, hc_nO', hc_nA', hl_nO, hl_nA', hn_nO, hn_nA, hk_nO, hk_nA, hs_nO, hs_nA, rI_nO, rI_nA, rJ_nO, rJ_nA, rR_nO, rR_nA, Nat.le_refl, Y.1, fpl _ Y, fgt Y, fk0 _ Y, xk2 Y, xk3 Y, xk4 Y, im_op _ Y, tm_op _ Y, im_cp _ Y, tm_cp _ Y, im_ob _ Y, tm_ob _ Y, im_cb _ Y, tm_cb _ Y, im_co _ Y, tm_co _ Y, im_se _ Y, tm_se _ Y, im_cl _ Y, tm_cl _ Y, im_be _ Y, tm_be _ Y, iw_LONG _ Y, tw_LONG _ Y, c1, c2, fpl _ X1.2.1, im_op _ Y, f_openY _ X2.2.1 qo, X2.2.1.2.2.1, w32_1 lt6, x1, x9, pn, i1, t1', t2', p1', p5', j1, b1, b14, b15, b2, b16.1, e1, Y5.1, ma_cp _ Y5 ⟨c5, c6⟩, f_close _ ((XU.rf (W := (· = p)) Y5 F5).st rfl (t1 := t5 + 1) hl5).2.1 (o' := o) rfl]
        · have hnE : hn (pI (pI h5 1285834896 p ((t5 + 1 : Nat) : Int)) 1294223504 p ((o : Nat) : Int)) = hn h5 := rfl
          rcases z with (z | ⟨z1, z2, z3, z4⟩) | z
          · exact Or.inl z
          · right
            exact ⟨by omega, by omega, by omega, z4⟩
          · right
            rw [z]
            exact ⟨Int.le_refl _, by show fI s 1915442860 < fI s7 1915442860; have := e9; omega, Nat.le_refl _, by show hn h < hn h5; have := e10; omega⟩
      · left
        obtain ⟨hg5, g05, hgo5, hz5⟩ := e4
        have RC5 : Reach s5 (uI (childS s5 (aI s5 36 (g + 1)) (fI s5 2125158060)) 1772836524 (pl l t5)) := Reach.one (by rw [hg5]; omega) (by have := M5.2.2.1; omega) (step_of hg5 ⟨g05, by omega⟩ hgo5 (by decide) (mc1_F M5 cn5 Y5.2.2.2.2.2.1 hg5 g05 (by omega) hz5 (by rw [e5]; exact ok.1.1) (by rw [e5]; exact ok.1.2) (by rw [e5]; exact ok.2) e2 c5))
        obtain ⟨e, h', w1, w2, w3⟩ := f_markN (d + 296) Y5 ((JNX.room e3).le (by omega)) (c := 41) (w := 41) (by decide) c5
        have w2' : hc h' e = 44 := w2.1
        have fw : FrW s5 (uI (childS s5 (aI s5 36 (g + 1)) (fI s5 2125158060)) 1772836524 (pl l t5)) := (Fr.uI (Fr.child (Fr.rf (L := fun c => if c = 2 ∨ c = 12 then -1 else Lm s5 c) (v := -1)) (by show (-1 : Int) ≤ aI s5 36 (g + 1); rw [e5]; have := ok.1.1; omega) (fun z => Or.inl (by show (-1 : Int) ≤ aI s5 21 (aI s5 36 (g + 1)); rw [e5] at z ⊢; rcases ok.2 with y | y <;> omega))) (by decide)).w (by have := M5.2.2.2; show _ ≤ fI s5 1789613740; omega) (by have := M5.2.2.2; show _ ≤ fI s5 1848333996; omega) (by have := M5.2.2.2; show _ ≤ fI s5 2024494764; omega)
        refine (JNX.now e3 (Ev.rf (W := (· = p)) Y5.i) (fun _ z => Or.inr z) (by omega) ⟨e, h', ?_, w2, w3⟩ hx5 RC5 (by simp (config := {implicitDefEqProofs := false}) only [bnd_v, bnd_x, pu_s, pu_n, b01_T, b01_F, Int.reduceEq, Int.reduceLT, Int.reduceLE, Int.reduceNe, Nat.reduceEqDiff, Nat.reduceLeDiff, and_false, false_and, and_true, true_and, or_false, false_or, or_true, true_or, if_true, if_false, not_true_eq_false, not_false_eq_true, eq_self, ne_eq, reduceCtorEq, false_implies, true_implies, implies_true, fI_uI, fI_uJ, fI_vI, fI_vJ, fJ_uI, fJ_uJ, fJ_vI, fJ_vJ, aI_uI, aI_uJ, aI_vI, aI_vJ, aJ_uI, aJ_uJ, aJ_vI, aJ_vJ, fI_nodeS, aI_nodeS, aJ_nodeS, fI_modeS, aI_modeS, aJ_modeS, fI_pushS, aI_pushS, aJ_pushS, fI_giveS, aI_giveS, aJ_giveS, fI_gmodeS, aI_gmodeS, aJ_gmodeS, fI_childS, aI_childS, aJ_childS]) fw).up e12.1 (fun e h' z => z)
        simp (config := {implicitDefEqProofs := false}) only [e_X11_primaryBehind, c_X11_primaryBehind_0, c_X11_primaryBehind_7, c_X11_primaryBehind_10, c_X11_primaryBehind_17, c_X11_primaryBehind_20, c_X11_primaryBehind_27, c_X11_primaryBehind_32, c_X11_primaryBehind_40, c_X11_primaryBehind_43, c_X11_primaryBehind_46, c_X11_primaryBehind_54, c_X11_primaryBehind_57, c_X11_primaryBehind_62, c_X11_primaryBehind_77, c_X11_primaryBehind_83, c_X11_primaryBehind_86, c_X11_primaryBehind_91, c_X11_primaryBehind_97, c_X11_primaryBehind_100, c_X11_primaryBehind_107, c_X11_primaryBehind_110, c_X11_primaryBehind_115, c_X11_primaryBehind_118, c_X11_primaryBehind_119, c_X11_primaryBehind_124, c_X11_primaryBehind_130, c_X11_primaryBehind_133, c_X11_primaryBehind_136, c_X11_primaryBehind_140, c_X11_primaryBehind_145, e_X11_units, bnd_v, bnd_x, pu_s, pu_n, b01_T, b01_F, Int.reduceEq, Int.reduceLT, Int.reduceLE, Int.reduceNe, Nat.reduceEqDiff, Nat.reduceLeDiff, and_false, false_and, and_true, true_and, or_false, false_or, or_true, true_or, if_true, if_false, not_true_eq_false, not_false_eq_true, eq_self, ne_eq, reduceCtorEq, false_implies, true_implies, implies_true, inT, inA, rmO, rmA, rI_pI, rI_pJ, rI_pR, rI_qI, rI_qJ, rI_qR, rJ_pI, rJ_pJ, rJ_pR, rJ_qI, rJ_qJ, rJ_qR, rR_pI, rR_pJ, rR_pR, rR_qI, rR_qJ, rR_qR, sI_pI, sI_pJ, sI_pR, sI_qI, sI_qJ, sI_qR, sJ_pI, sJ_pJ, sJ_pR, sJ_qI, sJ_qJ, sJ_qR, sR_pI, sR_pJ, sR_pR, sR_qI, sR_qJ, sR_qR, hc_pI, hc_pJ, hc_pR, hc_qI, hc_qJ, hc_qR, hl_pI, hl_pJ, hl_pR, hl_qI, hl_qJ, hl_qR, hk_pI, hk_pJ, hk_pR, hk_qI, hk_qJ, hk_qR, hs_pI, hs_pJ, hs_pR, hs_qI, hs_qJ, hs_qR, hn_pI, hn_pJ, hn_pR, hn_qI, hn_qJ, hn_qR, hc_nO', hc_nA', hl_nO, hl_nA', hn_nO, hn_nA, hk_nO, hk_nA, hs_nO, hs_nA, rI_nO, rI_nA, rJ_nO, rJ_nA, rR_nO, rR_nA, Nat.le_refl, Y.1, fpl _ Y, fgt Y, fk0 _ Y, xk2 Y, xk3 Y, xk4 Y, im_op _ Y, tm_op _ Y, im_cp _ Y, tm_cp _ Y, im_ob _ Y, tm_ob _ Y, im_cb _ Y, tm_cb _ Y, im_co _ Y, tm_co _ Y, im_se _ Y, tm_se _ Y, im_cl _ Y, tm_cl _ Y, im_be _ Y, tm_be _ Y, iw_LONG _ Y, tw_LONG _ Y, c1, c2, fpl _ X1.2.1, im_op _ Y, f_openY _ X2.2.1 qo, X2.2.1.2.2.1, w32_1 lt6, x1, x9, pn, i1, t1', t2', p1', p5', j1, b1, b14, b15, b2, b16.1, e1, Y5.1, w1, w2']
end PBC
