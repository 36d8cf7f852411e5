/-! READING DECLARERS: indicants, failures -/
set_option maxRecDepth 100000
set_option maxHeartbeats 1000000
section DN
variable {h : PH} {s : MS} {p lx t o : Nat} {X O : Nat → Prop} {l : List TokE} {PR g mv : Int} {P : List (Nat × Int)} {Z0 Z : Nat}
def Lq (s : MS) (g : Int) : Nat → Int := fun c => if c = 1 then g else if c = 3 then fI s 1789613740 else if c = 4 then fI s 1848333996 else if c = 10 then fI s 2234209964 else 1000000
theorem XFd.ev {h1 : PH} {W : Nat → Prop} {u : Nat} (F1 : XFd h p) (Y : PXs h p lx l t o) (E : Ev W u h h1) (hw : ¬ W p) : XFd h1 p := by
  have S := E.ob Y.lt hw (by rw [Y.1]; decide)
  unfold XFd
  rw [S.2.2.2.2.1, S.2.2.2.2.1, S.2.2.2.2.1, S.2.2.2.2.1, S.2.2.2.2.1, S.2.2.2.2.1]
  exact F1
theorem dc_named (d : Nat) (J : JD h s p lx l t o PR P X O Z0 Z) (hX : ∀ j, X j → j < t) (z1 : Z + 24 * (482 - t) ≤ 80000) (z2 : Z - Z0 + 24 * (482 - t) ≤ 11800) (Pre : DPre s o g mv) (q : kd l t = 2) (hmi : isMI l t) (hl1 : t + 1 < xc l) : DOK (F (d + 100) 104145474 [vR p, vI (xmv mv)] h) h s p lx l t o PR P X O Z0 Z g mv := by
  obtain ⟨hg, g0, g1, hgo, hz, hga, hmv⟩ := Pre
  have M := J.m
  have Y := J.x
  have hlt : t < l.length := M.1.a
  have hl2 := M.1.1.2.1
  have hxt : t < xc l := M.1.2.2
  have ho24 : o ≤ 24 := Y.2.2.2.2.2.1
  have rm := J.room (by omega) (by omega)
  have z0 := J.2.2.2.2.2.2.2.2.2.1
  have hl1' : t + 1 < l.length := Nat.lt_of_lt_of_le hl1 M.1.1.x
  have mm := M.2.2.2.2
  have hp := J.hp
  have nOO := J.nO
  have a1 : Fr (Lq s g) (-1) s (gmodeS (vJ' (modeS (uI (vI' (vI' s 38 g t) 37 g (fI s 2234209964)) 1764447916 ((t : Int) + 1)) 9 (-1) t) 11 (fI s 1789613740) (wd l t)) (fI s 1789613740)) := by
    refine (Fr.gmode (Fr.vJ (Fr.mode (Fr.uI (Fr.vI (Fr.vI Fr.rf (by decide) (Or.inl ?_)) (by decide) (Or.inl ?_)) (by decide)) ?_) (by decide) ?_))
    all_goals (first | exact Int.le_refl _ | (show g ≤ fI s 2066437804; omega) | (show fI s 2066437804 - 1 ≤ _; omega) | (show fI s 2066437804 - 1 ≤ fI s 2066437804; omega))
  have a2 : Fr (Lm s) (-1) s (gmodeS (vJ' (modeS (uI (vI' (vI' s 38 g t) 37 g (fI s 2234209964)) 1764447916 ((t : Int) + 1)) 9 (-1) t) 11 (fI s 1789613740) (wd l t)) (fI s 1789613740)) := by
    refine (Fr.gmode (Fr.vJ (Fr.mode (Fr.uI (Fr.vI (Fr.vI Fr.rf (by decide) (Or.inl ?_)) (by decide) (Or.inl ?_)) (by decide)) ?_) (by decide) ?_))
    all_goals (first | exact Int.le_refl _ | (show g ≤ fI s 2066437804; omega) | (show fI s 2066437804 - 1 ≤ _; omega) | (show fI s 2066437804 - 1 ≤ fI s 2066437804; omega))
  have M1 : MJ (gmodeS (vJ' (modeS (uI (vI' (vI' s 38 g t) 37 g (fI s 2234209964)) 1764447916 ((t : Int) + 1)) 9 (-1) t) 11 (fI s 1789613740) (wd l t)) (fI s 1789613740)) l (t + 1) (o) PR := by
    refine M.fr a1 ?_ (by omega) (by omega) ?_ ?_ ?_ ?_ ?_ ?_
    all_goals (simp (config := {implicitDefEqProofs := false}) only [fI_uI, fI_uJ, fI_vI, fI_vJ, fJ_uI, fJ_uJ, fJ_vI, fJ_vJ, aI_uI, aI_uJ, aI_vI, aI_vJ, aJ_uI, aJ_uJ, aJ_vI, aJ_vJ, bnd_v, bnd_x, pu_s, pu_n, b01_T, b01_F, Int.reduceEq, Int.reduceLT, Int.reduceLE, Int.reduceNe, Nat.reduceEqDiff, Nat.reduceLeDiff, and_false, false_and, and_true, true_and, or_false, false_or, or_true, true_or, if_true, if_false, not_true_eq_false, not_false_eq_true, eq_self, ne_eq, reduceCtorEq, false_implies, true_implies, implies_true, fI_pushS, aI_pushS, aJ_pushS, fI_gmodeS, aI_gmodeS, aJ_gmodeS, fI_modeS, aI_modeS, aJ_modeS, fI_giveS, aI_giveS, M.1.2.1, M.2.1, M.2.2.1]; try omega)
  have D1 : DPost s (gmodeS (vJ' (modeS (uI (vI' (vI' s 38 g t) 37 g (fI s 2234209964)) 1764447916 ((t : Int) + 1)) 9 (-1) t) 11 (fI s 1789613740) (wd l t)) (fI s 1789613740)) t (t + 1) g := ⟨a2, by simp (config := {implicitDefEqProofs := false}) only [fI_uI, fI_uJ, fI_vI, fI_vJ, fJ_uI, fJ_uJ, fJ_vI, fJ_vJ, aI_uI, aI_uJ, aI_vI, aI_vJ, aJ_uI, aJ_uJ, aJ_vI, aJ_vJ, bnd_v, bnd_x, pu_s, pu_n, b01_T, b01_F, Int.reduceEq, Int.reduceLT, Int.reduceLE, Int.reduceNe, Nat.reduceEqDiff, Nat.reduceLeDiff, and_false, false_and, and_true, true_and, or_false, false_or, or_true, true_or, if_true, if_false, not_true_eq_false, not_false_eq_true, eq_self, ne_eq, reduceCtorEq, false_implies, true_implies, implies_true, fI_pushS, aI_pushS, aJ_pushS, fI_gmodeS, aI_gmodeS, aJ_gmodeS, fI_modeS, aI_modeS, aJ_modeS, fI_giveS, aI_giveS]; omega⟩
  have hp0 : p ≠ 0 := fun z => by have := Y.1; rw [z, Y.c.1.1] at this; cases this
  have hn0 : hn h ≠ 0 := by omega
  have lt6 : t < 1000000 := by omega
  have b482 : (t : Int) < 482 := by omega
  have b0 : (0 : Int) ≤ t := by omega
  have rm1 := rm.le (u' := 10) (by omega)
  have x1 : hk h < cLim := by unfold Room at rm1; omega
  have x2 : hs h + 8 ≤ sLim := by unfold Room at rm1; omega
  have zz : Z + 2 + 1 ≤ Z + 24 * (t + 1 - t) := by omega
  have tt : t < t + 1 := by omega
  have nx1 : fI s 1789613740 ≤ fI (gmodeS (vJ' (modeS (uI (vI' (vI' s 38 g t) 37 g (fI s 2234209964)) 1764447916 ((t : Int) + 1)) 9 (-1) t) 11 (fI s 1789613740) (wd l t)) (fI s 1789613740)) 1789613740 := (by simp (config := {implicitDefEqProofs := false}) only [fI_uI, fI_uJ, fI_vI, fI_vJ, fJ_uI, fJ_uJ, fJ_vI, fJ_vJ, aI_uI, aI_uJ, aI_vI, aI_vJ, aJ_uI, aJ_uJ, aJ_vI, aJ_vJ, bnd_v, bnd_x, pu_s, pu_n, b01_T, b01_F, Int.reduceEq, Int.reduceLT, Int.reduceLE, Int.reduceNe, Nat.reduceEqDiff, Nat.reduceLeDiff, and_false, false_and, and_true, true_and, or_false, false_or, or_true, true_or, if_true, if_false, not_true_eq_false, not_false_eq_true, eq_self, ne_eq, reduceCtorEq, false_implies, true_implies, implies_true, fI_pushS, aI_pushS, aJ_pushS, fI_gmodeS, aI_gmodeS, aJ_gmodeS, fI_modeS, aI_modeS, aJ_modeS, fI_giveS, aI_giveS]; omega)
  have nx2 : fI s 1848333996 ≤ fI (gmodeS (vJ' (modeS (uI (vI' (vI' s 38 g t) 37 g (fI s 2234209964)) 1764447916 ((t : Int) + 1)) 9 (-1) t) 11 (fI s 1789613740) (wd l t)) (fI s 1789613740)) 1848333996 := (by simp (config := {implicitDefEqProofs := false}) only [fI_uI, fI_uJ, fI_vI, fI_vJ, fJ_uI, fJ_uJ, fJ_vI, fJ_vJ, aI_uI, aI_uJ, aI_vI, aI_vJ, aJ_uI, aJ_uJ, aJ_vI, aJ_vJ, bnd_v, bnd_x, pu_s, pu_n, b01_T, b01_F, Int.reduceEq, Int.reduceLT, Int.reduceLE, Int.reduceNe, Nat.reduceEqDiff, Nat.reduceLeDiff, and_false, false_and, and_true, true_and, or_false, false_or, or_true, true_or, if_true, if_false, not_true_eq_false, not_false_eq_true, eq_self, ne_eq, reduceCtorEq, false_implies, true_implies, implies_true, fI_pushS, aI_pushS, aJ_pushS, fI_gmodeS, aI_gmodeS, aJ_gmodeS, fI_modeS, aI_modeS, aJ_modeS, fI_giveS, aI_giveS]; omega)
  have e0 : Ev W0 1 h (nO h 9 8) := (Ev.rf J.i).mO (by decide) (by decide)
  obtain ⟨h1, i1, i2, i3, i4, i5, i6, i7, i8, i9⟩ := f_modeInit (d + 94) (h := nO h 9 8) e0.2.2.1 (Room.ev (u := 1) (u' := 1) (rm.le (by omega)) e0) (if_pos rfl : hc (nO h 9 8) (hn h) = 9) 9
  have i3 : gR h1 646517286 (hn h) = hn h + 1 := i3
  have i4 : AL h1 (hn h + 1) [] := i4
  have i6 : hn h1 = hn h + 2 := i6
  have E1 : Ev (· = p) 2 h h1 := (e0.mono (W' := (· = p)) (fun _ _ z => z.elim) (Nat.le_refl _)).tr i2 (fun x hx z => by omega)
  have c9 : hc h1 (hn h) = 9 := by
    rw [i2.1.2.2.2.1 (hn h) (by show hn h < hn h + 1; omega)]
    exact if_pos rfl
  have X1 : PXs h1 p lx l t o := Y.ev ((e0.mono (W' := (· = hn h)) (fun _ _ z => z.elim) (Nat.le_refl _)).tr i2 (fun _ _ z => z)) (fun x z => by omega)
  have F1 : XFd h1 p := J.2.1.ev Y ((e0.mono (W' := (· = hn h)) (fun _ _ z => z.elim) (Nat.le_refl _)).tr i2 (fun _ _ z => z)) (by omega)
  have X2 := X1.setT (t' := t + 1) hl1
  have et : Ev (· = hn h) 0 (pI h1 1285834896 p ((t + 1 : Nat) : Int)) (pJ (pI h1 1285834896 p ((t + 1 : Nat) : Int)) 663294501 (hn h) (wd l t)) := (Ev.rf X2.i).cJ (Or.inl rfl) (by show mdT (hc h1 (hn h)) = true; rw [c9]; rfl)
  have X3 := X2.ev et (fun x z => by omega)
  have F2 : XFd (pI h1 1285834896 p ((t + 1 : Nat) : Int)) p := F1
  have F3 := F2.ev X2 et (by omega)
  have E3 : Ev (· = p) 2 h (pJ (pI h1 1285834896 p ((t + 1 : Nat) : Int)) 663294501 (hn h) (wd l t)) := (E1.cI (Or.inl rfl) (by rw [X1.1]; rfl)).cJ (Or.inr (Nat.le_refl _)) (by show mdT (hc h1 (hn h)) = true; rw [c9]; rfl)
  generalize hh3 : (pJ (pI h1 1285834896 p ((t + 1 : Nat) : Int)) 663294501 (hn h) (wd l t)) = h3 at et X3 F3 E3
  have J3 := J.step E3 (fun x z => Or.inr z) X3 F3 a1 M1 (Nat.le_of_lt tt) (Int.le_refl _) (Int.le_refl _) (by show _ ≤ (1000000 : Int); omega) nx1 nx2
  have n3 : hn h3 = hn h + 2 := by rw [← hh3]; exact i6
  have k1 : gI h3 638128676 (hn h) = 9 := by rw [← hh3]; simp only [bnd_v, bnd_x, pu_s, pu_n, b01_T, b01_F, Int.reduceEq, Int.reduceLT, Int.reduceLE, Int.reduceNe, Nat.reduceEqDiff, Nat.reduceLeDiff, and_false, false_and, and_true, true_and, or_false, false_or, or_true, true_or, if_true, if_false, not_true_eq_false, not_false_eq_true, eq_self, ne_eq, reduceCtorEq, false_implies, true_implies, implies_true, inT, inA, rmO, rmA, rI_pI, rI_pJ, rI_pR, rI_qI, rI_qJ, rI_qR, rJ_pI, rJ_pJ, rJ_pR, rJ_qI, rJ_qJ, rJ_qR, rR_pI, rR_pJ, rR_pR, rR_qI, rR_qJ, rR_qR, sI_pI, sI_pJ, sI_pR, sI_qI, sI_qJ, sI_qR, sJ_pI, sJ_pJ, sJ_pR, sJ_qI, sJ_qJ, sJ_qR, sR_pI, sR_pJ, sR_pR, sR_qI, sR_qJ, sR_qR, hc_pI, hc_pJ, hc_pR, hc_qI, hc_qJ, hc_qR, hl_pI, hl_pJ, hl_pR, hl_qI, hl_qJ, hl_qR, hk_pI, hk_pJ, hk_pR, hk_qI, hk_qJ, hk_qR, hs_pI, hs_pJ, hs_pR, hs_qI, hs_qJ, hs_qR, hn_pI, hn_pJ, hn_pR, hn_qI, hn_qJ, hn_qR, hc_nO', hc_nA', hl_nO, hl_nA', hn_nO, hn_nA, hk_nO, hk_nA, hs_nO, hs_nA, rI_nO, rI_nA, rJ_nO, rJ_nA, rR_nO, rR_nA, Nat.le_refl]; exact i5
  have k2 : gJ h3 663294501 (hn h) = wd l t := by rw [← hh3]; simp only [bnd_v, bnd_x, pu_s, pu_n, b01_T, b01_F, Int.reduceEq, Int.reduceLT, Int.reduceLE, Int.reduceNe, Nat.reduceEqDiff, Nat.reduceLeDiff, and_false, false_and, and_true, true_and, or_false, false_or, or_true, true_or, if_true, if_false, not_true_eq_false, not_false_eq_true, eq_self, ne_eq, reduceCtorEq, false_implies, true_implies, implies_true, inT, inA, rmO, rmA, rI_pI, rI_pJ, rI_pR, rI_qI, rI_qJ, rI_qR, rJ_pI, rJ_pJ, rJ_pR, rJ_qI, rJ_qJ, rJ_qR, rR_pI, rR_pJ, rR_pR, rR_qI, rR_qJ, rR_qR, sI_pI, sI_pJ, sI_pR, sI_qI, sI_qJ, sI_qR, sJ_pI, sJ_pJ, sJ_pR, sJ_qI, sJ_qJ, sJ_qR, sR_pI, sR_pJ, sR_pR, sR_qI, sR_qJ, sR_qR, hc_pI, hc_pJ, hc_pR, hc_qI, hc_qJ, hc_qR, hl_pI, hl_pJ, hl_pR, hl_qI, hl_qJ, hl_qR, hk_pI, hk_pJ, hk_pR, hk_qI, hk_qJ, hk_qR, hs_pI, hs_pJ, hs_pR, hs_qI, hs_qJ, hs_qR, hn_pI, hn_pJ, hn_pR, hn_qI, hn_qJ, hn_qR, hc_nO', hc_nA', hl_nO, hl_nA', hn_nO, hn_nA, hk_nO, hk_nA, hs_nO, hs_nA, rI_nO, rI_nA, rJ_nO, rJ_nA, rR_nO, rR_nA, Nat.le_refl]
  have k3 : gR h3 671683110 (hn h) = 0 := by
    rw [← hh3]
    show gR h1 671683110 (hn h) = 0
    rw [i9 _ (by decide)]
    exact if_pos rfl
  have k4 : gR h3 646517286 (hn h) = hn h + 1 := by rw [← hh3]; exact i3
  have k5 : hc h3 (hn h) = 9 := by rw [← hh3]; exact c9
  have ne : ¬ (hn h = p) := by omega
  have k6 : AL h3 (hn h + 1) [] := by
    have w := ((Ev.rf (W := fun x => x = p ∨ x = hn h) X1.i).cI (f := 1285834896) (r := p) (v := ((t + 1 : Nat) : Int)) (Or.inl (Or.inl rfl)) (by rw [X1.1]; rfl)).cJ (f := 663294501) (r := hn h) (v := wd l t) (Or.inl (Or.inr rfl)) (by show mdT (hc h1 (hn h)) = true; rw [c9]; rfl)
    rw [hh3] at w
    exact w.al X1.c (fun z => by rcases z with z | z <;> omega) (fun z => z.elim (fun y => hp0 y.symm) (fun y => hn0 y.symm)) i4
  obtain ⟨h4, b1, ⟨ub, b2⟩, J4⟩ := J3.named (O1 := fun x => O x ∨ x = hn h ∨ x = hn h + 1) (q := hn h) (i := fI s 1789613740) (d + 92) (by omega) (by omega) (fun x z => Or.inl z) (fun x z => by
    rcases z with z | z | z
    · have := J.hi z; omega
    · omega
    · omega) (by
    unfold MLoc
    rw [k4, k1, k2, k3]
    refine ⟨⟨k5, ⟨Or.inr (Or.inl rfl), by omega⟩, ⟨Or.inr (Or.inr rfl), by omega⟩⟩, ⟨by omega, (by simp (config := {implicitDefEqProofs := false}) only [fI_uI, fI_uJ, fI_vI, fI_vJ, fJ_uI, fJ_uJ, fJ_vI, fJ_vJ, aI_uI, aI_uJ, aI_vI, aI_vJ, aJ_uI, aJ_uJ, aJ_vI, aJ_vJ, bnd_v, bnd_x, pu_s, pu_n, b01_T, b01_F, Int.reduceEq, Int.reduceLT, Int.reduceLE, Int.reduceNe, Nat.reduceEqDiff, Nat.reduceLeDiff, and_false, false_and, and_true, true_and, or_false, false_or, or_true, true_or, if_true, if_false, not_true_eq_false, not_false_eq_true, eq_self, ne_eq, reduceCtorEq, false_implies, true_implies, implies_true, fI_pushS, aI_pushS, aJ_pushS, fI_gmodeS, aI_gmodeS, aJ_gmodeS, fI_modeS, aI_modeS, aJ_modeS, fI_giveS, aI_giveS]; omega), ?_⟩, ⟨by decide, by decide⟩, fun z => by omega, fun z => by omega, fun _ => rfl, fun _ => ?_, [], k6, ?_, fun z => absurd rfl z, fun j hj => absurd hj (Nat.not_lt_zero _), fun _ => rfl, fun z => by omega, by decide, fun z => by omega⟩
    · simp (config := {implicitDefEqProofs := false}) only [fI_uI, fI_uJ, fI_vI, fI_vJ, fJ_uI, fJ_uJ, fJ_vI, fJ_vJ, aI_uI, aI_uJ, aI_vI, aI_vJ, aJ_uI, aJ_uJ, aJ_vI, aJ_vJ, bnd_v, bnd_x, pu_s, pu_n, b01_T, b01_F, Int.reduceEq, Int.reduceLT, Int.reduceLE, Int.reduceNe, Nat.reduceEqDiff, Nat.reduceLeDiff, and_false, false_and, and_true, true_and, or_false, false_or, or_true, true_or, if_true, if_false, not_true_eq_false, not_false_eq_true, eq_self, ne_eq, reduceCtorEq, false_implies, true_implies, implies_true, fI_pushS, aI_pushS, aJ_pushS, fI_gmodeS, aI_gmodeS, aJ_gmodeS, fI_modeS, aI_modeS, aJ_modeS, fI_giveS, aI_giveS]
    · simp (config := {implicitDefEqProofs := false}) only [fI_uI, fI_uJ, fI_vI, fI_vJ, fJ_uI, fJ_uJ, fJ_vI, fJ_vJ, aI_uI, aI_uJ, aI_vI, aI_vJ, aJ_uI, aJ_uJ, aJ_vI, aJ_vJ, bnd_v, bnd_x, pu_s, pu_n, b01_T, b01_F, Int.reduceEq, Int.reduceLT, Int.reduceLE, Int.reduceNe, Nat.reduceEqDiff, Nat.reduceLeDiff, and_false, false_and, and_true, true_and, or_false, false_or, or_true, true_or, if_true, if_false, not_true_eq_false, not_false_eq_true, eq_self, ne_eq, reduceCtorEq, false_implies, true_implies, implies_true, fI_pushS, aI_pushS, aJ_pushS, fI_gmodeS, aI_gmodeS, aJ_gmodeS, fI_modeS, aI_modeS, aJ_modeS, fI_giveS, aI_giveS]
    · simp (config := {implicitDefEqProofs := false}) only [fI_uI, fI_uJ, fI_vI, fI_vJ, fJ_uI, fJ_uJ, fJ_vI, fJ_vJ, aI_uI, aI_uJ, aI_vI, aI_vJ, aJ_uI, aJ_uJ, aJ_vI, aJ_vJ, bnd_v, bnd_x, pu_s, pu_n, b01_T, b01_F, Int.reduceEq, Int.reduceLT, Int.reduceLE, Int.reduceNe, Nat.reduceEqDiff, Nat.reduceLeDiff, and_false, false_and, and_true, true_and, or_false, false_or, or_true, true_or, if_true, if_false, not_true_eq_false, not_false_eq_true, eq_self, ne_eq, reduceCtorEq, false_implies, true_implies, implies_true, fI_pushS, aI_pushS, aJ_pushS, fI_gmodeS, aI_gmodeS, aJ_gmodeS, fI_modeS, aI_modeS, aJ_modeS, fI_giveS, aI_giveS]; rfl) k1
  have wt : eJ h1 (gR h1 335874582 lx) t = wd l t := by
    have := (X1.wt (k := t) hxt).2
    rw [X1.2.1] at this
    rw [this]
    exact if_pos (Or.inr (Or.inl q))
  have f5 : gR h1 1336166546 p = p + 5 := F1.2.2.2.2.1
  have h48 : hc h1 (p + 5) = 48 := by
    have := (J3.2.2.2.2.2.2.2.2.2.2 5 (by omega) (by omega)).1
    rw [← hh3] at this
    exact this
  have nv : ¬ isVd l t := fun z => by have := z.1; rw [q] at this; exact absurd this (by decide)
  have nb : ¬ isBr l t := fun z => by have := z.1; rw [q] at this; exact absurd this (by decide)
  have b1 : F (d + 98) 165774082 [vR (p + 5), vR (hn h)] (pJ (pI h1 1285834896 p ((t + 1 : Nat) : Int)) 663294501 (hn h) (wd l t)) = some (.inl (some (vI 1)), h4) := by rw [hh3]; exact b1
  have E4 := (E3.mono (W' := W7 p) (fun x _ z => ⟨by omega, by omega⟩) (Nat.le_refl _)).tr b2 (fun x _ z => ⟨by omega, by omega⟩)
  have k7 : gI h4 638128676 (hn h) = 9 := by
    rw [(b2.ob (by omega) (by omega) (by rw [k5]; decide)).2.2.1]
    exact k1
  refine ⟨hn h, fI s 1789613740, h4, gmodeS (vJ' (modeS (uI (vI' (vI' s 38 g t) 37 g (fI s 2234209964)) 1764447916 ((t : Int) + 1)) 9 (-1) t) 11 (fI s 1789613740) (wd l t)) (fI s 1789613740), t + 1, _, X, _, ?_, Reach.one (by rw [hg]; omega) (by have := M.2.2.1; omega) (step_of hg ⟨g0, by omega⟩ hgo (by decide) (md_named M ho24 hg g0 (by omega) hz q (Or.inr (Or.inl hmi)))), J4.mono (Z1 := Z + 24 * (t + 1 - t)) zz, ⟨List.mem_cons_self, rfl⟩, D1, ⟨_, E4⟩, ⟨fun x z => Or.inl z, fun x z => z.imp id (fun y => by omega), fun e z => List.mem_cons_of_mem _ z⟩, tt, ⟨⟨fun z => ?_, fun z => absurd z nv⟩, ⟨fun z => ?_, fun z => absurd z nb⟩⟩, Or.inr ⟨fun z => nv z.2, rfl⟩, nmp_k q (by decide)⟩
  · simp (config := {implicitDefEqProofs := false}) only [e_X11_declarer, c_X11_declarer_0, c_X11_declarer_6, e_X11_declarer_2, c_X11_declarer_2_0, c_X11_declarer_2_4, c_X11_declarer_2_13, c_X11_declarer_2_19, c_X11_declarer_2_27, c_X11_declarer_2_30, c_X11_declarer_2_34, c_X11_declarer_2_35, c_X11_declarer_2_44, c_X11_declarer_2_79, c_X11_declarer_2_83, c_X11_declarer_2_90, c_X11_declarer_2_93, c_X11_declarer_2_98, c_X11_declarer_2_99, c_X11_declarer_2_105, c_X11_declarer_2_108, c_X11_declarer_2_116, c_X11_declarer_2_117, c_X11_declarer_2_123, c_X11_declarer_2_126, c_X11_declarer_2_134, c_X11_declarer_2_135, c_X11_declarer_2_141, c_X11_declarer_2_144, c_X11_declarer_2_152, c_X11_declarer_2_153, c_X11_declarer_2_159, c_X11_declarer_2_162, c_X11_declarer_2_166, c_X11_declarer_2_180, c_X11_declarer_2_183, c_X11_declarer_2_184, c_X11_declarer_2_192, c_X11_declarer_2_193, c_X11_declarer_2_199, c_X11_declarer_2_202, c_X11_declarer_2_206, c_X11_declarer_2_226, c_X11_declarer_2_229, c_X11_declarer_2_235, c_X11_declarer_2_238, c_X11_declarer_2_244, c_X11_declarer_2_247, c_X11_declarer_2_251, c_X11_declarer_2_252, c_X11_declarer_2_258, c_X11_declarer_2_261, c_X11_declarer_2_265, c_X11_declarer_2_266, c_X11_declarer_2_272, c_X11_declarer_2_275, c_X11_declarer_2_279, c_X11_declarer_2_280, c_X11_declarer_2_299, c_X11_declarer_2_307, c_X11_declarer_2_322, c_X11_declarer_2_325, bnd_v, bnd_x, pu_s, pu_n, b01_T, b01_F, Int.reduceEq, Int.reduceLT, Int.reduceLE, Int.reduceNe, Nat.reduceEqDiff, Nat.reduceLeDiff, and_false, false_and, and_true, true_and, or_false, false_or, or_true, true_or, if_true, if_false, not_true_eq_false, not_false_eq_true, eq_self, ne_eq, reduceCtorEq, false_implies, true_implies, implies_true, inT, inA, rmO, rmA, rI_pI, rI_pJ, rI_pR, rI_qI, rI_qJ, rI_qR, rJ_pI, rJ_pJ, rJ_pR, rJ_qI, rJ_qJ, rJ_qR, rR_pI, rR_pJ, rR_pR, rR_qI, rR_qJ, rR_qR, sI_pI, sI_pJ, sI_pR, sI_qI, sI_qJ, sI_qR, sJ_pI, sJ_pJ, sJ_pR, sJ_qI, sJ_qJ, sJ_qR, sR_pI, sR_pJ, sR_pR, sR_qI, sR_qJ, sR_qR, hc_pI, hc_pJ, hc_pR, hc_qI, hc_qJ, hc_qR, hl_pI, hl_pJ, hl_pR, hl_qI, hl_qJ, hl_qR, hk_pI, hk_pJ, hk_pR, hk_qI, hk_qJ, hk_qR, hs_pI, hs_pJ, hs_pR, hs_qI, hs_qJ, hs_qR, hn_pI, hn_pJ, hn_pR, hn_qI, hn_qJ, hn_qR, hc_nO', hc_nA', hl_nO, hl_nA', hn_nO, hn_nA, hk_nO, hk_nA, hs_nO, hs_nA, rI_nO, rI_nA, rJ_nO, rJ_nA, rR_nO, rR_nA, Nat.le_refl, Y.1, fpl _ Y, fgt Y, fk0 _ Y, xk2 Y, xk3 Y, xk4 Y, im_op _ Y, tm_op _ Y, im_cp _ Y, tm_cp _ Y, im_ob _ Y, tm_ob _ Y, im_cb _ Y, tm_cb _ Y, im_co _ Y, tm_co _ Y, im_se _ Y, tm_se _ Y, im_cl _ Y, tm_cl _ Y, im_be _ Y, tm_be _ Y, iw_INT _ Y, tw_INT _ Y, f_isModeTag _ Y hxt, b01_p hmi, q, i1, X1.1, X1.2.1, X1.2.2.1, X1.x.1, X1.x.2.2.2.1.1, X1.x.2.2.2.1.2, b0, b482, wt, w32_1 lt6, c9, f5, h48, b1, x1, x2]
  · rw [k7] at z; exact absurd z (by decide)
  · rw [k7] at z; exact absurd z (by decide)
end DN
