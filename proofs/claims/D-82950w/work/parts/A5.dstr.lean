/-! READING DECLARERS: fields, the loop -/
set_option maxRecDepth 100000
set_option maxHeartbeats 1000000
section DS
variable {p lx o : Nat} {X : Nat → Prop} {l : List TokE} {PR : Int} {Z0 : Nat}
theorem str_loop {k : Nat} (IH : DeclC k) (hK : 24 ≤ o + k) {s0 : MS} {t0 B : Nat} {g G T c cl : Int} {q0 r0 ta d : Nat} (hB : B ≤ 80000) (hB2 : B - Z0 ≤ 11800) (hZ0 : Z0 ≤ B) (dd : 100 + 40 * (24 - o) ≤ d + 10) (g0 : 0 ≤ g) (g61 : g < 580) (hs0 : fI s0 2066437804 = g + 1) (hG : fI s0 2234209964 ≤ G) (hT : 0 ≤ T ∧ T < 490) (tr : ta ≠ r0) (tq : ta ≠ q0) : ∀ (n : Nat) (h : PH) (s : MS) (t : Nat) (P : List (Nat × Int)) (O : Nat → Prop) (Z : Nat) (qs : List Nat) (ids tg : List Int) (a3 a4 a5 : PV), qs.length + n = 8 → 0 < n → JD h s p lx l t o PR P X O Z0 Z → (∀ j, X j → j < t) → Z + 24 * (482 - t) + 20 ≤ B → BQ h p q0 r0 O qs → MeQ s g 6 G T ids → PQ P qs ids → TA h p ta O tg → tg.length = qs.length → MT s G tg → DPre s o (g + 1) 0 → DQ c cl s0 s t0 t (g + 1 + 1) → BFw (fun x => W7 p x ∨ x = r0 ∨ x = ta) (FA (F (d + 10)) 116204097 54 [vR p, vR q0, vR ta, a3, a4, a5] [] h) h s p l Z0 (B + 10) ∨ ∃ h1 sD t1 P1 O1 Z1 qs1 ids1 tg1 u j1 p1, FA (F (d + 10)) 116204097 54 [vR p, vR q0, vR ta, a3, a4, a5] [] h = FA (F (d + 10)) 116204097 161 [vR p, vR q0, vR ta, vI j1, vI p1, vI j1] [] (pI h1 1285834896 p ((t1 + 1 : Nat) : Int)) ∧ (kd l t1 = 5 ∧ sI l t1 = 41) ∧ t < t1 ∧ Reach s (gmodeS (vI' (memS (uI (uI sD 1764447916 (((t1 : Nat) : Int) + 1)) 1781225132 ((o : Int) - 1)) g 7 (-1)) 33 T (fI sD 1789613740)) (fI sD 1789613740)) ∧ JD h1 sD p lx l t1 o PR P1 X O1 Z0 Z1 ∧ Z1 + 24 * (482 - t1) + 10 ≤ B ∧ BQ h1 p q0 r0 O1 qs1 ∧ MeQ sD g 6 G T ids1 ∧ PQ P1 qs1 ids1 ∧ (TA h1 p ta O1 tg1 ∧ tg1.length = qs1.length ∧ MT sD G tg1) ∧ (qs1.length ≤ 8 ∧ qs1 ≠ []) ∧ DQ c cl s0 sD t0 t1 (g + 1) ∧ Ev (fun x => W7 p x ∨ x = r0 ∨ x = ta) u h h1 ∧ ((∀ x, O x → O1 x) ∧ (∀ x, O1 x → O x ∨ hn h ≤ x) ∧ (∀ e ∈ P, e ∈ P1)) ∧ (∀ j : Nat, j < t → aI sD 32 j = aI s 32 j) ∧ NMP l t t1 := by
  intro n
  induction n with
  | zero => intro h s t P O Z qs ids tg a3 a4 a5 _ h0; exact absurd h0 (Nat.lt_irrefl _)
  | succ n ih =>
    intro h s t P O Z qs ids tg a3 a4 a5 hn8 _ J hX zb BQ0 MQ0 PQ0 TA0 tl0 mt0 Pre D0
    have Y := J.x
    have M := J.m
    have hp := J.hp
    have z0 := J.2.2.2.2.2.2.2.2.2.1
    have hp0 : p ≠ 0 := fun z => by have := Y.1; rw [z, Y.c.1.1] at this; cases this
    have tx : t < xc l := Y.2.2.2.2.1
    have xll : xc l ≤ l.length := M.1.1.x
    have hl2 := M.1.1.2.1
    have ho24 : o ≤ 24 := Y.2.2.2.2.2.1
    have sz := f_size (d + 9) BQ0.2.2.1
    have ns8 : ¬ ((qs.length : Int) = 8) := by omega
    have j8 : qs.length < 8 := by omega
    have h48 : hc h r0 = 48 := BQ0.2.2.1.1
    have il : ids.length = qs.length := PQ0.1
    rw [c_X11_structure_54 _ _ _ _ _ _ _ _ (i11 BQ0.1) (by rw [BQ0.2.1]; exact i11 h48), BQ0.2.1, sz]
    rcases IH _ _ _ _ _ _ _ _ _ _ _ _ _ _ _ (d + 10) hK J hX (by omega) (by omega) Pre dd with A | A
    · left
      refine bfw_up A (fun e h2 hb => ?_) (Ev.rf J.i) (fun x _ w => Or.inl w) Reach.rf (frw (g := 0) (v := -1) M Fr.rf) (by omega)
      have hb : F (d + 10) 104145474 [vR p, vI 0] h = some (.inr e, h2) := hb
      simp (config := {implicitDefEqProofs := false}) only [c_X11_structure_61, c_X11_structure_68, c_X11_structure_72, c_X11_structure_73, c_X11_structure_82, bnd_v, bnd_x, pu_s, pu_n, b01_T, b01_F, Int.reduceEq, Int.reduceLT, Int.reduceLE, Int.reduceNe, Nat.reduceEqDiff, Nat.reduceLeDiff, and_false, false_and, and_true, true_and, or_false, false_or, or_true, true_or, if_true, if_false, not_true_eq_false, not_false_eq_true, eq_self, ne_eq, reduceCtorEq, false_implies, true_implies, implies_true, inT, inA, rmO, rmA, rI_pI, rI_pJ, rI_pR, rI_qI, rI_qJ, rI_qR, rJ_pI, rJ_pJ, rJ_pR, rJ_qI, rJ_qJ, rJ_qR, rR_pI, rR_pJ, rR_pR, rR_qI, rR_qJ, rR_qR, sI_pI, sI_pJ, sI_pR, sI_qI, sI_qJ, sI_qR, sJ_pI, sJ_pJ, sJ_pR, sJ_qI, sJ_qJ, sJ_qR, sR_pI, sR_pJ, sR_pR, sR_qI, sR_qJ, sR_qR, hc_pI, hc_pJ, hc_pR, hc_qI, hc_qJ, hc_qR, hl_pI, hl_pJ, hl_pR, hl_qI, hl_qJ, hl_qR, hk_pI, hk_pJ, hk_pR, hk_qI, hk_qJ, hk_qR, hs_pI, hs_pJ, hs_pR, hs_qI, hs_qJ, hs_qR, hn_pI, hn_pJ, hn_pR, hn_qI, hn_qJ, hn_qR, hc_nO', hc_nA', hl_nO, hl_nA', hn_nO, hn_nA, hk_nO, hk_nA, hs_nO, hs_nA, rI_nO, rI_nA, rJ_nO, rJ_nA, rR_nO, rR_nA, Nat.le_refl, Y.1, BQ0.1, BQ0.2.1, hb, ns8]
    · obtain ⟨q2, i2, h2, s2, t2, P2, X2, O2, b1, b2, b3, ⟨b4, b5⟩, b6, ⟨u2, b7⟩, ⟨b8, b9, b10⟩, b11, -, b13, b14⟩ := A
      have b1 : F (d + 10) 104145474 [vR p, vI 0] h = some (.inl (some (vR q2)), h2) := b1
      have eX : X2 = X := by
        rcases b13 with w | w
        · exact absurd w.1 (by decide)
        · exact w.2
      subst eX
      have tw2 : ∀ j : Nat, j < t → aI s2 32 j = aI s 32 j := fun j hj => (b6.1.1 32 j (Or.inr ⟨⟨by omega, by show (j : Int) < fI s 1764447916; rw [M.1.2.1]; omega⟩, fun w => absurd w (by decide)⟩)).1
      have M2 := b3.m
      have mm2 := M2.2.2.2.2
      have tx2 : t2 < xc l := b3.x.2.2.2.2.1
      have g2 : fI s2 2066437804 = g + 1 := b6.2.1
      have hat2 : fI s 1764447916 ≤ fI s2 1764447916 := by rw [M.1.2.1, M2.1.2.1]; omega
      have D2 := D0.sub (g1 := g + 1) (by omega) hat2 b6
      have BQ2 := BQ0.ev Y.c b7 (fun w => by have := w.2; have := BQ0.2.2.2.1.1; omega) (fun w => by have := w.2; have := BQ0.2.2.2.2.1.1; omega) (fun w => by have := w.1; omega) b9
      have TA2 := TA0.ev b7 (fun w => by have := w.2; have := TA0.2.2.2.1.1; omega) b9
      have MQ2 := MQ0.fr b6.1 g0 (by have := Pre.1; omega) b6.2.2.1
      have mt2 : MT s2 G tg := fun i hi => by
        rw [← mt0 i hi]
        refine (b6.1.1 45 _ (Or.inr ⟨⟨by have := MQ0.2.1; omega, ?_⟩, fun z => absurd z (by decide)⟩)).2
        show G + (i : Int) < fI s 2234209964
        have := MQ0.2.2.1
        omega
      have rm2 := (b3.room (by omega) (by omega))
      obtain ⟨h3, c1, c2, c3⟩ := f_add (v := q2) (d + 4) b3.i BQ2.2.2.1 (ok_of (b3.2.2.2.2.1.2 q2 i2 b4).1.1 (by decide)) (by omega) (rm2.le (by omega))
      have u3 : qs.length / 32 + 2 ≤ 2 := by omega
      have c2 := c2.mono (W' := (· = r0)) (fun _ _ w => w) u3
      have X3 : PXs h3 p lx l t2 o := b3.x.ev c2 (fun x w => by have := BQ2.2.2.2.2.1.1; omega)
      have F3 : XFd h3 p := b3.2.1.ev b3.x c2 (fun w => by have := BQ2.2.2.2.2.1.1; omega)
      have J3 := b3.step c2 (fun x w => Or.inl (by rw [w]; exact BQ2.2.2.2.2.2.2)) X3 F3 (Fr.rf (L := fun _ => 1000000) (v := -1)) M2 (Nat.le_refl _) (by show _ ≤ (1000000 : Int); omega) (by show _ ≤ (1000000 : Int); omega) (by show _ ≤ (1000000 : Int); omega) (Int.le_refl _) (Int.le_refl _)
      have q3 : hc h3 q0 = 9 ∧ gR h3 646517286 q0 = r0 := by
        have S := c2.ob BQ2.2.2.2.1.2 (fun w => by have := BQ2.2.2.1.1; rw [← w, BQ2.1] at this; cases this) (by rw [BQ2.1]; decide)
        exact ⟨S.1.trans BQ2.1, (S.2.2.2.2.1 _).trans BQ2.2.1⟩
      have BQ3 : BQ h3 p q0 r0 O2 (qs ++ [q2]) := ⟨q3.1, q3.2, c3, by have := c2.1.1; have := BQ2.2.2.2.1; omega, by have := c2.1.1; have := BQ2.2.2.2.2.1; omega, BQ2.2.2.2.2.2⟩
      have TA3 : TA h3 p ta O2 tg := TA2.ev c2 (fun w => tr w) (fun x w => Or.inl w)
      have E3 : Ev (fun x => W7 p x ∨ x = r0 ∨ x = ta) (u2 + 2) h h3 := (b7.mono (W' := (fun x => W7 p x ∨ x = r0 ∨ x = ta)) (fun _ _ w => Or.inl w) (Nat.le_refl _)).tr c2 (fun x _ w => Or.inr (Or.inl w))
      have h48' : hc h2 r0 = 48 := BQ2.2.2.1.1
      have PQ3 := PQ0.app b10 b4
      have x0 : bnd (some (Sum.inl (some (vI (qs.length : Int))), h)) (fun v h' => FA (F (d + 10)) 116204097 61 [vR p, vR q0, vR ta, a3, a4, a5] (pu v []) h') = FA (F (d + 10)) 116204097 85 [vR p, vR q0, vR ta, vI (qs.length : Int), a4, a5] [vI 1] h3 := by
        simp (config := {implicitDefEqProofs := false}) only [c_X11_structure_61, c_X11_structure_68, c_X11_structure_72, c_X11_structure_73, c_X11_structure_82, bnd_v, bnd_x, pu_s, pu_n, b01_T, b01_F, Int.reduceEq, Int.reduceLT, Int.reduceLE, Int.reduceNe, Nat.reduceEqDiff, Nat.reduceLeDiff, and_false, false_and, and_true, true_and, or_false, false_or, or_true, true_or, if_true, if_false, not_true_eq_false, not_false_eq_true, eq_self, ne_eq, reduceCtorEq, false_implies, true_implies, implies_true, inT, inA, rmO, rmA, rI_pI, rI_pJ, rI_pR, rI_qI, rI_qJ, rI_qR, rJ_pI, rJ_pJ, rJ_pR, rJ_qI, rJ_qJ, rJ_qR, rR_pI, rR_pJ, rR_pR, rR_qI, rR_qJ, rR_qR, sI_pI, sI_pJ, sI_pR, sI_qI, sI_qJ, sI_qR, sJ_pI, sJ_pJ, sJ_pR, sJ_qI, sJ_qJ, sJ_qR, sR_pI, sR_pJ, sR_pR, sR_qI, sR_qJ, sR_qR, hc_pI, hc_pJ, hc_pR, hc_qI, hc_qJ, hc_qR, hl_pI, hl_pJ, hl_pR, hl_qI, hl_qJ, hl_qR, hk_pI, hk_pJ, hk_pR, hk_qI, hk_qJ, hk_qR, hs_pI, hs_pJ, hs_pR, hs_qI, hs_qJ, hs_qR, hn_pI, hn_pJ, hn_pR, hn_qI, hn_qJ, hn_qR, hc_nO', hc_nA', hl_nO, hl_nA', hn_nO, hn_nA, hk_nO, hk_nA, hs_nO, hs_nA, rI_nO, rI_nA, rJ_nO, rJ_nA, rR_nO, rR_nA, Nat.le_refl, Y.1, BQ0.1, BQ0.2.1, b1, ns8, h48', c1]
      rw [x0]
      have rm3 : Room 90 h3 := (rm2.le (u' := 2 + 90) (by omega)).ev c2
      by_cases qt : kd l t2 = 3
      · have ht3 : t2 + 1 < xc l := X3.next tx2 (by rw [qt]; decide) (by rw [qt]; decide)
        obtain ⟨h5, sD, O5, Z5, u5, r1, J5, r3, r4, r5, r6, r7, r8, r9, r10, r11, r12, rE, rF⟩ := fld (q0 := q0) (r0 := r0) (d := d) g0 g61 J3 (fun i w => by have := hX i w; omega) (by omega) (by omega) qt ht3 j8 MQ2 il TA3 tl0 mt2 g2 hs0 D2 hT
        rw [r1]
        have M5 := J5.m
        have mm5 := M5.2.2.2.2
        have X5 := J5.x
        have g5 : fI sD 2066437804 = g + 1 := r10.2.1
        rw [b5] at r8
        have E5 := E3.tr (r4.mono (W' := (fun x => W7 p x ∨ x = r0 ∨ x = ta)) (fun x _ w => w.elim Or.inl (fun y => Or.inr (Or.inr y))) (Nat.le_refl _)) (fun _ _ w => w)
        have BQ5 : BQ h5 p q0 r0 O5 (qs ++ [q2]) := BQ3.ev X3.c r4 (fun w => w.elim (fun y => by have := y.2; have := BQ3.2.2.2.1.1; omega) (fun y => tq y.symm)) (fun w => w.elim (fun y => by have := y.2; have := BQ3.2.2.2.2.1.1; omega) (fun y => tr y.symm)) (fun w => w.elim (fun y => by have := y.1; omega) (fun y => by have := TA3.2.2.2.1.1; omega)) r6
        have hn35 : hn h ≤ hn h3 := E3.1.1
        have O5x : ∀ x, O5 x → O x ∨ hn h ≤ x := fun x w => (r6 x w).elim (fun y => b9 x y) (fun y => Or.inr (Nat.le_trans hn35 y))
        have ql : (qs ++ [q2]).length = qs.length + 1 := by rw [List.length_append, List.length_singleton]
        have tll : (tg ++ [wd l t2]).length = (qs ++ [q2]).length := by rw [ql, List.length_append, List.length_singleton, tl0]
        have rm5 := (J5.room (by omega) (by omega)).le (u' := 90) (by omega)
        rw [c_X11_structure_144 _ _ _ _ _ _ _ _ X5.g]
        by_cases qc : kd l (t2 + 1) = 5 ∧ sI l (t2 + 1) = 44
        · have ht4 : t2 + 1 + 1 < xc l := X5.next ht3 (by rw [qc.1]; decide) (by rw [qc.1]; decide)
          rw [f_takesY (d + 5) X5 (c := 44) (w := 44) (by decide) qc, bnd_v, pu_s, c_X11_structure_151, if_neg (by decide)]
          have X6 := X5.setT (t' := t2 + 1 + 1) ht4
          have F6 : XFd (pI h5 1285834896 p ((t2 + 1 + 1 : Nat) : Int)) p := J5.2.1
          have E6 : Ev (· = p) 0 h5 (pI h5 1285834896 p ((t2 + 1 + 1 : Nat) : Int)) := (Ev.rf X5.i).cI (Or.inl rfl) (by rw [X5.1]; rfl)
          have E7 := E5.tr (E6.mono (W' := (fun x => W7 p x ∨ x = r0 ∨ x = ta)) (fun x _ w => Or.inl ⟨by omega, by omega⟩) (Nat.le_refl _)) (fun _ _ w => w)
          have BQ6 : BQ (pI h5 1285834896 p ((t2 + 1 + 1 : Nat) : Int)) p q0 r0 O5 (qs ++ [q2]) := BQ5.ev X5.c E6 (fun w => by have := BQ5.2.2.2.1.1; omega) (fun w => by have := BQ5.2.2.2.2.1.1; omega) (fun w => hp0 w.symm) (fun x w => Or.inl w)
          by_cases q8 : qs.length + 1 = 8
          · left
            have RCf := rE.2.1 qc.1 qc.2 (by omega) q8
            have af : Fr (Lq sD g) (-1) sD (uI (uI sD 1764447916 ((t2 : Int) + 1 + 1)) 1772836524 (pl l (t2 + 2))) := (Fr.uI (Fr.uI Fr.rf (by decide)) (by decide))
            have hb5 : fI (uI (uI sD 1764447916 ((t2 : Int) + 1 + 1)) 1772836524 (pl l (t2 + 2))) 1772836524 = pl l (t2 + 1 + 1) := by simp (config := {implicitDefEqProofs := false}) only [fI_uI, fI_uJ, fI_vI, fI_vJ, fJ_uI, fJ_uJ, fJ_vI, fJ_vJ, aI_uI, aI_uJ, aI_vI, aI_vJ, aJ_uI, aJ_uJ, aJ_vI, aJ_vJ, bnd_v, bnd_x, pu_s, pu_n, b01_T, b01_F, Int.reduceEq, Int.reduceLT, Int.reduceLE, Int.reduceNe, Nat.reduceEqDiff, Nat.reduceLeDiff, and_false, false_and, and_true, true_and, or_false, false_or, or_true, true_or, if_true, if_false, not_true_eq_false, not_false_eq_true, eq_self, ne_eq, reduceCtorEq, false_implies, true_implies, implies_true, fI_pushS, aI_pushS, aJ_pushS, fI_gmodeS, aI_gmodeS, aJ_gmodeS, fI_modeS, aI_modeS, aJ_modeS, fI_giveS, aI_giveS]
            have sz6 := f_size (d + 9) BQ6.2.2.1
            rw [ql, q8, show ((8 : Nat) : Int) = 8 from rfl] at sz6
            obtain ⟨e, h7, w1, w2, w3⟩ := f_wrong (d + 5) X6 (show Room 1 h5 from rm5.le (by omega))
            have w2' : hc h7 e = 44 := w2.1
            have hn6 : p + 6 < hn h5 := J5.hp
            have Bd := J5.2.2.2.2.2.2.2.st J5.i hn6 E6 (fun x y w v => by omega)
            refine bfw_now (k := t2 + 1 + 1) Bd X6.i hn6 ht4 E7 ?_ w2 w3 (by omega) (b2.tr RCf) hb5 (((frm M b6.1).tr r12).tr (frw M5 af))
            rw [c_X11_structure_54 _ _ _ _ _ _ _ _ (i11 BQ6.1) (by rw [BQ6.2.1]; exact i11 BQ6.2.2.1.1), BQ6.2.1, sz6]
            simp (config := {implicitDefEqProofs := false}) only [c_X11_structure_61, c_X11_structure_68, c_X11_structure_72, c_X11_structure_73, c_X11_structure_82, bnd_v, bnd_x, pu_s, pu_n, b01_T, b01_F, Int.reduceEq, Int.reduceLT, Int.reduceLE, Int.reduceNe, Nat.reduceEqDiff, Nat.reduceLeDiff, and_false, false_and, and_true, true_and, or_false, false_or, or_true, true_or, if_true, if_false, not_true_eq_false, not_false_eq_true, eq_self, ne_eq, reduceCtorEq, false_implies, true_implies, implies_true, inT, inA, rmO, rmA, rI_pI, rI_pJ, rI_pR, rI_qI, rI_qJ, rI_qR, rJ_pI, rJ_pJ, rJ_pR, rJ_qI, rJ_qJ, rJ_qR, rR_pI, rR_pJ, rR_pR, rR_qI, rR_qJ, rR_qR, sI_pI, sI_pJ, sI_pR, sI_qI, sI_qJ, sI_qR, sJ_pI, sJ_pJ, sJ_pR, sJ_qI, sJ_qJ, sJ_qR, sR_pI, sR_pJ, sR_pR, sR_qI, sR_qJ, sR_qR, hc_pI, hc_pJ, hc_pR, hc_qI, hc_qJ, hc_qR, hl_pI, hl_pJ, hl_pR, hl_qI, hl_qJ, hl_qR, hk_pI, hk_pJ, hk_pR, hk_qI, hk_qJ, hk_qR, hs_pI, hs_pJ, hs_pR, hs_qI, hs_qJ, hs_qR, hn_pI, hn_pJ, hn_pR, hn_qI, hn_qJ, hn_qR, hc_nO', hc_nA', hl_nO, hl_nA', hn_nO, hn_nA, hk_nO, hk_nA, hs_nO, hs_nA, rI_nO, rI_nA, rJ_nO, rJ_nA, rR_nO, rR_nA, Nat.le_refl, X5.1, w1, w2']
          · have RCm := rE.1 qc.1 qc.2 q8
            have hn8' : (qs ++ [q2]).length + n = 8 := by omega
            have n0 : 0 < n := by omega
            have zb' : Z5 + 0 + 24 * (482 - (t2 + 1 + 1)) + 20 ≤ B := by omega
            have pg0 : 0 ≤ g + 1 := by omega
            have ne : ¬ (g = g + 1) := by omega
            have e5 : fI sD 2234209964 = G + ((ids ++ [i2]).length : Nat) := r8.2.2.1
            have a1 : Fr (Lq sD (g + 1)) (-1) sD (pushS (uI sD 1764447916 ((t2 : Int) + 1 + 1)) 4 0 0 0 0) := by
              refine (Fr.push (Fr.uI Fr.rf (by decide)) ?_)
              all_goals (first | exact Int.le_refl _ | (show g + 1 ≤ fI sD 2066437804; omega) | (show fI sD 2066437804 - 1 ≤ _; omega) | (show fI sD 2066437804 - 1 ≤ fI sD 2066437804; omega))
            have a2 : Fr (Lm sD) (-1) sD (pushS (uI sD 1764447916 ((t2 : Int) + 1 + 1)) 4 0 0 0 0) := by
              refine (Fr.push (Fr.uI Fr.rf (by decide)) ?_)
              all_goals (first | exact Int.le_refl _ | (show g + 1 ≤ fI sD 2066437804; omega) | (show fI sD 2066437804 - 1 ≤ _; omega) | (show fI sD 2066437804 - 1 ≤ fI sD 2066437804; omega))
            have M1 : MJ (pushS (uI sD 1764447916 ((t2 : Int) + 1 + 1)) 4 0 0 0 0) l (t2 + 1 + 1) (o) PR := by
              refine M5.fr a1 ?_ (by omega) (by omega) ?_ ?_ ?_ ?_ ?_ ?_
              all_goals (simp (config := {implicitDefEqProofs := false}) only [fI_uI, fI_uJ, fI_vI, fI_vJ, fJ_uI, fJ_uJ, fJ_vI, fJ_vJ, aI_uI, aI_uJ, aI_vI, aI_vJ, aJ_uI, aJ_uJ, aJ_vI, aJ_vJ, bnd_v, bnd_x, pu_s, pu_n, b01_T, b01_F, Int.reduceEq, Int.reduceLT, Int.reduceLE, Int.reduceNe, Nat.reduceEqDiff, Nat.reduceLeDiff, and_false, false_and, and_true, true_and, or_false, false_or, or_true, true_or, if_true, if_false, not_true_eq_false, not_false_eq_true, eq_self, ne_eq, reduceCtorEq, false_implies, true_implies, implies_true, fI_pushS, aI_pushS, aJ_pushS, fI_gmodeS, aI_gmodeS, aJ_gmodeS, fI_modeS, aI_modeS, aJ_modeS, fI_giveS, aI_giveS, M5.1.2.1, M5.2.1, M5.2.2.1]; try omega)
            have D4 : DQ c cl s0 (pushS (uI sD 1764447916 ((t2 : Int) + 1 + 1)) 4 0 0 0 0) t0 (t2 + 1 + 1) (g + 1 + 1) := by
              refine r10.ctl (t2 := t2 + 1 + 1) (by omega) a2 ?_ ?_ ?_ ?_ ?_ ?_
              · simp (config := {implicitDefEqProofs := false}) only [fI_uI, fI_uJ, fI_vI, fI_vJ, fJ_uI, fJ_uJ, fJ_vI, fJ_vJ, aI_uI, aI_uJ, aI_vI, aI_vJ, aJ_uI, aJ_uJ, aJ_vI, aJ_vJ, bnd_v, bnd_x, pu_s, pu_n, b01_T, b01_F, Int.reduceEq, Int.reduceLT, Int.reduceLE, Int.reduceNe, Nat.reduceEqDiff, Nat.reduceLeDiff, and_false, false_and, and_true, true_and, or_false, false_or, or_true, true_or, if_true, if_false, not_true_eq_false, not_false_eq_true, eq_self, ne_eq, reduceCtorEq, false_implies, true_implies, implies_true, fI_pushS, aI_pushS, aJ_pushS, fI_gmodeS, aI_gmodeS, aJ_gmodeS, fI_modeS, aI_modeS, aJ_modeS, fI_giveS, aI_giveS, g5]
              · simp (config := {implicitDefEqProofs := false}) only [fI_uI, fI_uJ, fI_vI, fI_vJ, fJ_uI, fJ_uJ, fJ_vI, fJ_vJ, aI_uI, aI_uJ, aI_vI, aI_vJ, aJ_uI, aJ_uJ, aJ_vI, aJ_vJ, bnd_v, bnd_x, pu_s, pu_n, b01_T, b01_F, Int.reduceEq, Int.reduceLT, Int.reduceLE, Int.reduceNe, Nat.reduceEqDiff, Nat.reduceLeDiff, and_false, false_and, and_true, true_and, or_false, false_or, or_true, true_or, if_true, if_false, not_true_eq_false, not_false_eq_true, eq_self, ne_eq, reduceCtorEq, false_implies, true_implies, implies_true, fI_pushS, aI_pushS, aJ_pushS, fI_gmodeS, aI_gmodeS, aJ_gmodeS, fI_modeS, aI_modeS, aJ_modeS, fI_giveS, aI_giveS]
              · simp (config := {implicitDefEqProofs := false}) only [fI_uI, fI_uJ, fI_vI, fI_vJ, fJ_uI, fJ_uJ, fJ_vI, fJ_vJ, aI_uI, aI_uJ, aI_vI, aI_vJ, aJ_uI, aJ_uJ, aJ_vI, aJ_vJ, bnd_v, bnd_x, pu_s, pu_n, b01_T, b01_F, Int.reduceEq, Int.reduceLT, Int.reduceLE, Int.reduceNe, Nat.reduceEqDiff, Nat.reduceLeDiff, and_false, false_and, and_true, true_and, or_false, false_or, or_true, true_or, if_true, if_false, not_true_eq_false, not_false_eq_true, eq_self, ne_eq, reduceCtorEq, false_implies, true_implies, implies_true, fI_pushS, aI_pushS, aJ_pushS, fI_gmodeS, aI_gmodeS, aJ_gmodeS, fI_modeS, aI_modeS, aJ_modeS, fI_giveS, aI_giveS, M5.1.2.1]; omega
              · simp (config := {implicitDefEqProofs := false}) only [fI_uI, fI_uJ, fI_vI, fI_vJ, fJ_uI, fJ_uJ, fJ_vI, fJ_vJ, aI_uI, aI_uJ, aI_vI, aI_vJ, aJ_uI, aJ_uJ, aJ_vI, aJ_vJ, bnd_v, bnd_x, pu_s, pu_n, b01_T, b01_F, Int.reduceEq, Int.reduceLT, Int.reduceLE, Int.reduceNe, Nat.reduceEqDiff, Nat.reduceLeDiff, and_false, false_and, and_true, true_and, or_false, false_or, or_true, true_or, if_true, if_false, not_true_eq_false, not_false_eq_true, eq_self, ne_eq, reduceCtorEq, false_implies, true_implies, implies_true, fI_pushS, aI_pushS, aJ_pushS, fI_gmodeS, aI_gmodeS, aJ_gmodeS, fI_modeS, aI_modeS, aJ_modeS, fI_giveS, aI_giveS]; have := r10.2.2.2.2.1; omega
              · simp (config := {implicitDefEqProofs := false}) only [fI_uI, fI_uJ, fI_vI, fI_vJ, fJ_uI, fJ_uJ, fJ_vI, fJ_vJ, aI_uI, aI_uJ, aI_vI, aI_vJ, aJ_uI, aJ_uJ, aJ_vI, aJ_vJ, bnd_v, bnd_x, pu_s, pu_n, b01_T, b01_F, Int.reduceEq, Int.reduceLT, Int.reduceLE, Int.reduceNe, Nat.reduceEqDiff, Nat.reduceLeDiff, and_false, false_and, and_true, true_and, or_false, false_or, or_true, true_or, if_true, if_false, not_true_eq_false, not_false_eq_true, eq_self, ne_eq, reduceCtorEq, false_implies, true_implies, implies_true, fI_pushS, aI_pushS, aJ_pushS, fI_gmodeS, aI_gmodeS, aJ_gmodeS, fI_modeS, aI_modeS, aJ_modeS, fI_giveS, aI_giveS]; omega
              · simp (config := {implicitDefEqProofs := false}) only [fI_uI, fI_uJ, fI_vI, fI_vJ, fJ_uI, fJ_uJ, fJ_vI, fJ_vJ, aI_uI, aI_uJ, aI_vI, aI_vJ, aJ_uI, aJ_uJ, aJ_vI, aJ_vJ, bnd_v, bnd_x, pu_s, pu_n, b01_T, b01_F, Int.reduceEq, Int.reduceLT, Int.reduceLE, Int.reduceNe, Nat.reduceEqDiff, Nat.reduceLeDiff, and_false, false_and, and_true, true_and, or_false, false_or, or_true, true_or, if_true, if_false, not_true_eq_false, not_false_eq_true, eq_self, ne_eq, reduceCtorEq, false_implies, true_implies, implies_true, fI_pushS, aI_pushS, aJ_pushS, fI_gmodeS, aI_gmodeS, aJ_gmodeS, fI_modeS, aI_modeS, aJ_modeS, fI_giveS, aI_giveS]; omega
            have Pre4 : DPre (pushS (uI sD 1764447916 ((t2 : Int) + 1 + 1)) 4 0 0 0 0) o (g + 1) 0 := by
              refine ⟨?_, pg0, Pre.2.2.1, ?_, ?_, ?_, Or.inl rfl⟩
              all_goals simp (config := {implicitDefEqProofs := false}) only [fI_uI, fI_uJ, fI_vI, fI_vJ, fJ_uI, fJ_uJ, fJ_vI, fJ_vJ, aI_uI, aI_uJ, aI_vI, aI_vJ, aJ_uI, aJ_uJ, aJ_vI, aJ_vJ, bnd_v, bnd_x, pu_s, pu_n, b01_T, b01_F, Int.reduceEq, Int.reduceLT, Int.reduceLE, Int.reduceNe, Nat.reduceEqDiff, Nat.reduceLeDiff, and_false, false_and, and_true, true_and, or_false, false_or, or_true, true_or, if_true, if_false, not_true_eq_false, not_false_eq_true, eq_self, ne_eq, reduceCtorEq, false_implies, true_implies, implies_true, fI_pushS, aI_pushS, aJ_pushS, fI_gmodeS, aI_gmodeS, aJ_gmodeS, fI_modeS, aI_modeS, aJ_modeS, fI_giveS, aI_giveS, g5]
            have MQ4 : MeQ (pushS (uI sD 1764447916 ((t2 : Int) + 1 + 1)) 4 0 0 0 0) g 6 G T (ids ++ [i2]) := by
              refine ⟨⟨?_, ?_, ?_, ?_⟩, r8.2.1, ?_, fun j hj => ?_⟩
              · simp (config := {implicitDefEqProofs := false}) only [fI_uI, fI_uJ, fI_vI, fI_vJ, fJ_uI, fJ_uJ, fJ_vI, fJ_vJ, aI_uI, aI_uJ, aI_vI, aI_vJ, aJ_uI, aJ_uJ, aJ_vI, aJ_vJ, bnd_v, bnd_x, pu_s, pu_n, b01_T, b01_F, Int.reduceEq, Int.reduceLT, Int.reduceLE, Int.reduceNe, Nat.reduceEqDiff, Nat.reduceLeDiff, and_false, false_and, and_true, true_and, or_false, false_or, or_true, true_or, if_true, if_false, not_true_eq_false, not_false_eq_true, eq_self, ne_eq, reduceCtorEq, false_implies, true_implies, implies_true, fI_pushS, aI_pushS, aJ_pushS, fI_gmodeS, aI_gmodeS, aJ_gmodeS, fI_modeS, aI_modeS, aJ_modeS, fI_giveS, aI_giveS, g5, ne]; exact r8.1.1
              · simp (config := {implicitDefEqProofs := false}) only [fI_uI, fI_uJ, fI_vI, fI_vJ, fJ_uI, fJ_uJ, fJ_vI, fJ_vJ, aI_uI, aI_uJ, aI_vI, aI_vJ, aJ_uI, aJ_uJ, aJ_vI, aJ_vJ, bnd_v, bnd_x, pu_s, pu_n, b01_T, b01_F, Int.reduceEq, Int.reduceLT, Int.reduceLE, Int.reduceNe, Nat.reduceEqDiff, Nat.reduceLeDiff, and_false, false_and, and_true, true_and, or_false, false_or, or_true, true_or, if_true, if_false, not_true_eq_false, not_false_eq_true, eq_self, ne_eq, reduceCtorEq, false_implies, true_implies, implies_true, fI_pushS, aI_pushS, aJ_pushS, fI_gmodeS, aI_gmodeS, aJ_gmodeS, fI_modeS, aI_modeS, aJ_modeS, fI_giveS, aI_giveS, g5, ne]; exact r8.1.2.1
              · simp (config := {implicitDefEqProofs := false}) only [fI_uI, fI_uJ, fI_vI, fI_vJ, fJ_uI, fJ_uJ, fJ_vI, fJ_vJ, aI_uI, aI_uJ, aI_vI, aI_vJ, aJ_uI, aJ_uJ, aJ_vI, aJ_vJ, bnd_v, bnd_x, pu_s, pu_n, b01_T, b01_F, Int.reduceEq, Int.reduceLT, Int.reduceLE, Int.reduceNe, Nat.reduceEqDiff, Nat.reduceLeDiff, and_false, false_and, and_true, true_and, or_false, false_or, or_true, true_or, if_true, if_false, not_true_eq_false, not_false_eq_true, eq_self, ne_eq, reduceCtorEq, false_implies, true_implies, implies_true, fI_pushS, aI_pushS, aJ_pushS, fI_gmodeS, aI_gmodeS, aJ_gmodeS, fI_modeS, aI_modeS, aJ_modeS, fI_giveS, aI_giveS, g5, ne]; exact r8.1.2.2.1
              · simp (config := {implicitDefEqProofs := false}) only [fI_uI, fI_uJ, fI_vI, fI_vJ, fJ_uI, fJ_uJ, fJ_vI, fJ_vJ, aI_uI, aI_uJ, aI_vI, aI_vJ, aJ_uI, aJ_uJ, aJ_vI, aJ_vJ, bnd_v, bnd_x, pu_s, pu_n, b01_T, b01_F, Int.reduceEq, Int.reduceLT, Int.reduceLE, Int.reduceNe, Nat.reduceEqDiff, Nat.reduceLeDiff, and_false, false_and, and_true, true_and, or_false, false_or, or_true, true_or, if_true, if_false, not_true_eq_false, not_false_eq_true, eq_self, ne_eq, reduceCtorEq, false_implies, true_implies, implies_true, fI_pushS, aI_pushS, aJ_pushS, fI_gmodeS, aI_gmodeS, aJ_gmodeS, fI_modeS, aI_modeS, aJ_modeS, fI_giveS, aI_giveS, g5, ne]; exact r8.1.2.2.2
              · simp (config := {implicitDefEqProofs := false}) only [fI_uI, fI_uJ, fI_vI, fI_vJ, fJ_uI, fJ_uJ, fJ_vI, fJ_vJ, aI_uI, aI_uJ, aI_vI, aI_vJ, aJ_uI, aJ_uJ, aJ_vI, aJ_vJ, bnd_v, bnd_x, pu_s, pu_n, b01_T, b01_F, Int.reduceEq, Int.reduceLT, Int.reduceLE, Int.reduceNe, Nat.reduceEqDiff, Nat.reduceLeDiff, and_false, false_and, and_true, true_and, or_false, false_or, or_true, true_or, if_true, if_false, not_true_eq_false, not_false_eq_true, eq_self, ne_eq, reduceCtorEq, false_implies, true_implies, implies_true, fI_pushS, aI_pushS, aJ_pushS, fI_gmodeS, aI_gmodeS, aJ_gmodeS, fI_modeS, aI_modeS, aJ_modeS, fI_giveS, aI_giveS]; exact e5
              · simp (config := {implicitDefEqProofs := false}) only [fI_uI, fI_uJ, fI_vI, fI_vJ, fJ_uI, fJ_uJ, fJ_vI, fJ_vJ, aI_uI, aI_uJ, aI_vI, aI_vJ, aJ_uI, aJ_uJ, aJ_vI, aJ_vJ, bnd_v, bnd_x, pu_s, pu_n, b01_T, b01_F, Int.reduceEq, Int.reduceLT, Int.reduceLE, Int.reduceNe, Nat.reduceEqDiff, Nat.reduceLeDiff, and_false, false_and, and_true, true_and, or_false, false_or, or_true, true_or, if_true, if_false, not_true_eq_false, not_false_eq_true, eq_self, ne_eq, reduceCtorEq, false_implies, true_implies, implies_true, fI_pushS, aI_pushS, aJ_pushS, fI_gmodeS, aI_gmodeS, aJ_gmodeS, fI_modeS, aI_modeS, aJ_modeS, fI_giveS, aI_giveS]; exact r8.2.2.2 j hj
            have mt4 : MT (pushS (uI sD 1764447916 ((t2 : Int) + 1 + 1)) 4 0 0 0 0) G (tg ++ [wd l t2]) := fun i hi => by simp (config := {implicitDefEqProofs := false}) only [fI_uI, fI_uJ, fI_vI, fI_vJ, fJ_uI, fJ_uJ, fJ_vI, fJ_vJ, aI_uI, aI_uJ, aI_vI, aI_vJ, aJ_uI, aJ_uJ, aJ_vI, aJ_vJ, bnd_v, bnd_x, pu_s, pu_n, b01_T, b01_F, Int.reduceEq, Int.reduceLT, Int.reduceLE, Int.reduceNe, Nat.reduceEqDiff, Nat.reduceLeDiff, and_false, false_and, and_true, true_and, or_false, false_or, or_true, true_or, if_true, if_false, not_true_eq_false, not_false_eq_true, eq_self, ne_eq, reduceCtorEq, false_implies, true_implies, implies_true, fI_pushS, aI_pushS, aJ_pushS, fI_gmodeS, aI_gmodeS, aJ_gmodeS, fI_modeS, aI_modeS, aJ_modeS, fI_giveS, aI_giveS]; exact r9 i hi
            have nx1 : fI sD 1789613740 ≤ fI (pushS (uI sD 1764447916 ((t2 : Int) + 1 + 1)) 4 0 0 0 0) 1789613740 := by simp (config := {implicitDefEqProofs := false}) only [fI_uI, fI_uJ, fI_vI, fI_vJ, fJ_uI, fJ_uJ, fJ_vI, fJ_vJ, aI_uI, aI_uJ, aI_vI, aI_vJ, aJ_uI, aJ_uJ, aJ_vI, aJ_vJ, bnd_v, bnd_x, pu_s, pu_n, b01_T, b01_F, Int.reduceEq, Int.reduceLT, Int.reduceLE, Int.reduceNe, Nat.reduceEqDiff, Nat.reduceLeDiff, and_false, false_and, and_true, true_and, or_false, false_or, or_true, true_or, if_true, if_false, not_true_eq_false, not_false_eq_true, eq_self, ne_eq, reduceCtorEq, false_implies, true_implies, implies_true, fI_pushS, aI_pushS, aJ_pushS, fI_gmodeS, aI_gmodeS, aJ_gmodeS, fI_modeS, aI_modeS, aJ_modeS, fI_giveS, aI_giveS]; exact Int.le_refl _
            have nx2 : fI sD 1848333996 ≤ fI (pushS (uI sD 1764447916 ((t2 : Int) + 1 + 1)) 4 0 0 0 0) 1848333996 := by simp (config := {implicitDefEqProofs := false}) only [fI_uI, fI_uJ, fI_vI, fI_vJ, fJ_uI, fJ_uJ, fJ_vI, fJ_vJ, aI_uI, aI_uJ, aI_vI, aI_vJ, aJ_uI, aJ_uJ, aJ_vI, aJ_vJ, bnd_v, bnd_x, pu_s, pu_n, b01_T, b01_F, Int.reduceEq, Int.reduceLT, Int.reduceLE, Int.reduceNe, Nat.reduceEqDiff, Nat.reduceLeDiff, and_false, false_and, and_true, true_and, or_false, false_or, or_true, true_or, if_true, if_false, not_true_eq_false, not_false_eq_true, eq_self, ne_eq, reduceCtorEq, false_implies, true_implies, implies_true, fI_pushS, aI_pushS, aJ_pushS, fI_gmodeS, aI_gmodeS, aJ_gmodeS, fI_modeS, aI_modeS, aJ_modeS, fI_giveS, aI_giveS]; exact Int.le_refl _
            have tw3 : ∀ j : Nat, aI (pushS (uI sD 1764447916 ((t2 : Int) + 1 + 1)) 4 0 0 0 0) 32 j = aI sD 32 j := fun j => by simp (config := {implicitDefEqProofs := false}) only [fI_uI, fI_uJ, fI_vI, fI_vJ, fJ_uI, fJ_uJ, fJ_vI, fJ_vJ, aI_uI, aI_uJ, aI_vI, aI_vJ, aJ_uI, aJ_uJ, aJ_vI, aJ_vJ, bnd_v, bnd_x, pu_s, pu_n, b01_T, b01_F, Int.reduceEq, Int.reduceLT, Int.reduceLE, Int.reduceNe, Nat.reduceEqDiff, Nat.reduceLeDiff, and_false, false_and, and_true, true_and, or_false, false_or, or_true, true_or, if_true, if_false, not_true_eq_false, not_false_eq_true, eq_self, ne_eq, reduceCtorEq, false_implies, true_implies, implies_true, fI_pushS, aI_pushS, aJ_pushS, fI_gmodeS, aI_gmodeS, aJ_gmodeS, fI_modeS, aI_modeS, aJ_modeS, fI_giveS, aI_giveS]
            have fw := frm M5 a2
            clear ne
            generalize hs3 : (pushS (uI sD 1764447916 ((t2 : Int) + 1 + 1)) 4 0 0 0 0) = s3 at tw3 RCm a1 a2 M1 D4 Pre4 MQ4 mt4 nx1 nx2 fw
            clear hs3
            have J6 := J5.step E6 (fun x w => Or.inr w) X6 F6 a1 M1 (by omega) (Int.le_refl _) (Int.le_refl _) (by show _ ≤ (1000000 : Int); omega) nx1 nx2
            have TA6 : TA (pI h5 1285834896 p ((t2 + 1 + 1 : Nat) : Int)) p ta O5 (tg ++ [wd l t2]) := r7.ev E6 (fun w => by have := r7.2.2.2.1.1; omega) (fun x w => Or.inl w)
            have PQ6 : PQ P2 (qs ++ [q2]) (ids ++ [i2]) := PQ3
            rcases ih _ _ _ _ _ _ _ _ _ (vI (qs.length : Int)) (vI (pl l t2)) (vI (qs.length : Int)) hn8' n0 J6 (fun j w => by have := hX j w; omega) zb' BQ6 MQ4 PQ6 TA6 tll mt4 Pre4 D4 with A | A
            · left
              exact bfw_up A (fun e h5 w => w) E7 (fun _ _ w => w) (b2.tr RCm) (((frm M b6.1).tr r12).tr fw) (Nat.le_refl _)
            · right
              obtain ⟨h8, s8, t8, P8, O8, Z8, qs8, ids8, tg8, u8, j8', p8, f1, f2, f3, f4, f5, f6, f7, f8, f9, f10, f11, f12, f13, ⟨f14, f15, f16⟩, f17, f18⟩ := A
              have hn5 : hn h ≤ hn h5 := E5.1.1
              exact ⟨h8, s8, t8, P8, O8, Z8, qs8, ids8, tg8, _, j8', p8, f1, f2, by omega, (b2.tr RCm).tr f4, f5, f6, f7, f8, f9, f10, f11, f12, E7.tr f13 (fun _ _ w => w), ⟨fun x w => f14 x (r5 x (b8 x w)), fun x w => (f15 x w).elim (fun y => O5x x y) (fun y => Or.inr (Nat.le_trans hn5 y)), fun e w => f16 e (b10 e w)⟩, fun j hj => (f17 j (by omega)).trans ((tw3 j).trans ((rF j (by omega)).trans (tw2 j hj))), ((b14.tr (nmp_k qt (by decide))).tr (nmp_k qc.1 (by decide))).tr f18⟩
        · rw [f_takesN (d + 5) X5 (c := 44) (w := 44) (by decide) qc, bnd_v, pu_s, c_X11_structure_151, if_pos rfl, c_X11_structure_154 _ _ _ _ _ _ _ _ X5.g]
          by_cases qp : kd l (t2 + 1) = 5 ∧ sI l (t2 + 1) = 41
          · right
            rw [f_markY (d + 4) X5 (c := 41) (w := 41) (by decide) qp, bnd_v, pu_n]
            have RCe := rE.2.2.2 qp.1 qp.2
            have e9 : aI s2 38 g = T := MQ2.1.2.2.2
            rw [← r11.1, e9] at RCe
            have r10' : DQ c cl s0 sD t0 (t2 + 1) (g + 1) := ⟨r10.1, r10.2.1, r10.2.2.1, r10.2.2.2.1, r10.2.2.2.2.1, r10.2.2.2.2.2.1, by have := r10.2.2.2.2.2.2; omega⟩
            exact ⟨h5, sD, t2 + 1, P2, O5, Z5, qs ++ [q2], ids ++ [i2], tg ++ [wd l t2], _, (qs.length : Int), pl l t2, rfl, qp, by omega, b2.tr RCe, J5, by omega, BQ5, r8, PQ3, ⟨r7, tll, r9⟩, ⟨by omega, fun w => by rw [w] at ql; exact absurd ql (by simp)⟩, r10', E5, ⟨fun x w => r5 x (b8 x w), O5x, b10⟩, fun j hj => (rF j (by omega)).trans (tw2 j hj), b14.tr (nmp_k qt (by decide))⟩
          · left
            obtain ⟨e, h4, w1, w2, w3⟩ := f_markN (d + 4) X5 (rm5.le (by omega)) (c := 41) (w := 41) (by decide) qp
            have RCb := rE.2.2.1 qc qp
            have af : Fr (Lq sD g) (-1) sD (uI sD 1772836524 (pl l (t2 + 1))) := Fr.uI Fr.rf (by decide)
            have hb5 : fI (uI sD 1772836524 (pl l (t2 + 1))) 1772836524 = pl l (t2 + 1) := by simp (config := {implicitDefEqProofs := false}) only [fI_uI, fI_uJ, fI_vI, fI_vJ, fJ_uI, fJ_uJ, fJ_vI, fJ_vJ, aI_uI, aI_uJ, aI_vI, aI_vJ, aJ_uI, aJ_uJ, aJ_vI, aJ_vJ, bnd_v, bnd_x, pu_s, pu_n, b01_T, b01_F, Int.reduceEq, Int.reduceLT, Int.reduceLE, Int.reduceNe, Nat.reduceEqDiff, Nat.reduceLeDiff, and_false, false_and, and_true, true_and, or_false, false_or, or_true, true_or, if_true, if_false, not_true_eq_false, not_false_eq_true, eq_self, ne_eq, reduceCtorEq, false_implies, true_implies, implies_true, fI_pushS, aI_pushS, aJ_pushS, fI_gmodeS, aI_gmodeS, aJ_gmodeS, fI_modeS, aI_modeS, aJ_modeS, fI_giveS, aI_giveS]
            refine bfw_now (k := t2 + 1) J5.2.2.2.2.2.2.2 J5.i J5.hp ht3 E5 ?_ w2 w3 (by omega) (b2.tr RCb) hb5 (((frm M b6.1).tr r12).tr (frw M5 af))
            rw [w1, bnd_x]
      · left
        obtain ⟨e, h4, w1, w2, w3⟩ := f_tagN (d + 4) X3 (rm3.le (by omega)) qt
        have RCb : Reach s2 (uI s2 1772836524 (pl l t2)) := Reach.one (by rw [g2]; omega) (by have := M2.2.2.1; omega) (step_of g2 ⟨g0, by omega⟩ MQ2.1.1 (by decide) (me_bad M2 ho24 g2 g0 (by omega) MQ2.1.2.1 qt))
        have af : Fr (Lq s2 g) (-1) s2 (uI s2 1772836524 (pl l t2)) := Fr.uI Fr.rf (by decide)
        have hb5 : fI (uI s2 1772836524 (pl l t2)) 1772836524 = pl l t2 := by simp (config := {implicitDefEqProofs := false}) only [fI_uI, fI_uJ, fI_vI, fI_vJ, fJ_uI, fJ_uJ, fJ_vI, fJ_vJ, aI_uI, aI_uJ, aI_vI, aI_vJ, aJ_uI, aJ_uJ, aJ_vI, aJ_vJ, bnd_v, bnd_x, pu_s, pu_n, b01_T, b01_F, Int.reduceEq, Int.reduceLT, Int.reduceLE, Int.reduceNe, Nat.reduceEqDiff, Nat.reduceLeDiff, and_false, false_and, and_true, true_and, or_false, false_or, or_true, true_or, if_true, if_false, not_true_eq_false, not_false_eq_true, eq_self, ne_eq, reduceCtorEq, false_implies, true_implies, implies_true, fI_pushS, aI_pushS, aJ_pushS, fI_gmodeS, aI_gmodeS, aJ_gmodeS, fI_modeS, aI_modeS, aJ_modeS, fI_giveS, aI_giveS]
        refine bfw_now (k := t2) J3.2.2.2.2.2.2.2 J3.i J3.hp tx2 E3 ?_ w2 w3 (by omega) (b2.tr RCb) hb5 ((frm M b6.1).tr (frw M2 af))
        rw [c_X11_structure_85 _ _ _ _ _ _ _ _ _ X3.g, fpl _ X3, bnd_v, pu_s, c_X11_structure_90 _ _ _ _ _ _ _ _ _ X3.g, w1, bnd_x]
end DS
