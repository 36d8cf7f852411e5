/-! READING DECLARERS: members, the loop -/
set_option maxRecDepth 100000
set_option maxHeartbeats 1000000
section DL
variable {p lx o : Nat} {X : Nat → Prop} {l : List TokE} {PR : Int} {Z0 : Nat}
theorem mem_loop {k : Nat} {z : Int} (hz27 : z = 2 ∨ z = 7) (IH : DeclC k) (hK : 24 ≤ o + k) {s0 : MS} {t0 B : Nat} {g G T c cl : Int} {q0 r0 d : Nat} (hB : B ≤ 80000) (hB2 : B - Z0 ≤ 11800) (hZ0 : Z0 ≤ B) (dd : 100 + 40 * (24 - o) ≤ d + 10) (g0 : 0 ≤ g) (g61 : g < 580) (hs0 : fI s0 2066437804 = g + 1) (hG : fI s0 2234209964 ≤ G) : ∀ (n : Nat) (h : PH) (s : MS) (t : Nat) (P : List (Nat × Int)) (O : Nat → Prop) (Z : Nat) (qs : List Nat) (ids : List Int), qs.length + n = 8 → 0 < n → JD h s p lx l t o PR P X O Z0 Z → (∀ j, X j → j < t) → Z + 24 * (482 - t) + 20 ≤ B → BQ h p q0 r0 O qs → MeQ s g z G T ids → PQ P qs ids → DPre s o (g + 1) 0 → DQ c cl s0 s t0 t (g + 1 + 1) → BFw (fun x => W7 p x ∨ x = r0) (FA (F (d + 10)) 115941954 29 [vR p, vR q0] [] h) h s p l Z0 (B + 10) ∨ ∃ h1 s1 t1 P1 O1 Z1 qs1 ids1 i u, FA (F (d + 10)) 115941954 29 [vR p, vR q0] [] h = FA (F (d + 10)) 115941954 76 [vR p, vR q0] [] (pI h1 1285834896 p ((t1 + 1 : Nat) : Int)) ∧ (kd l t1 = 5 ∧ sI l t1 = 41) ∧ t < t1 ∧ Reach s s1 ∧ JD h1 s1 p lx l t1 o PR P1 X O1 Z0 Z1 ∧ Z1 + 24 * (482 - t1) + 10 ≤ B ∧ BQ h1 p q0 r0 O1 qs1 ∧ MeQ s1 g z G T ids1 ∧ PQ P1 qs1 (ids1 ++ [i]) ∧ fI s1 2133546668 = i ∧ qs1.length ≤ 8 ∧ DQ c (cl + 1) s0 s1 t0 t1 (g + 1) ∧ Ev (fun x => W7 p x ∨ x = r0) u h h1 ∧ ((∀ x, O x → O1 x) ∧ (∀ x, O1 x → O x ∨ hn h ≤ x) ∧ (∀ e ∈ P, e ∈ P1)) ∧ (∀ j : Nat, j < t → aI s1 32 j = aI s 32 j) ∧ NMP l t t1 := by
  intro n
  induction n with
  | zero => intro h s t P O Z qs ids _ h0; exact absurd h0 (Nat.lt_irrefl _)
  | succ n ih =>
    intro h s t P O Z qs ids hn8 _ J hX zb BQ0 MQ0 PQ0 Pre D0
    have Y := J.x
    have M := J.m
    have hp := J.hp
    have z0 := J.2.2.2.2.2.2.2.2.2.1
    have hp0 : p ≠ 0 := fun z => by have := Y.1; rw [z, Y.c.1.1] at this; cases this
    have tx : t < xc l := Y.2.2.2.2.1
    have xll : xc l ≤ l.length := M.1.1.x
    have hl2 := M.1.1.2.1
    have ho24 : o ≤ 24 := Y.2.2.2.2.2.1
    have sz := f_size (d + 9) BQ0.2.2.1
    have ns8 : ¬ ((qs.length : Int) = 8) := by omega
    have h48 : hc h r0 = 48 := BQ0.2.2.1.1
    rw [c_X11_declarers_29 _ _ _ _ (i11 BQ0.1) (by rw [BQ0.2.1]; exact i11 h48), BQ0.2.1, sz]
    rcases IH _ _ _ _ _ _ _ _ _ _ _ _ _ _ _ (d + 10) hK J hX (by omega) (by omega) Pre dd with A | A
    · left
      refine bfw_up A (fun e h2 hb => ?_) (Ev.rf J.i) (fun x _ w => Or.inl w) Reach.rf (frw (g := 0) (v := -1) M Fr.rf) (by omega)
      have hb : F (d + 10) 104145474 [vR p, vI 0] h = some (.inr e, h2) := hb
      simp (config := {implicitDefEqProofs := false}) only [c_X11_declarers_36, c_X11_declarers_41, c_X11_declarers_45, c_X11_declarers_46, c_X11_declarers_55, c_X11_declarers_58, c_X11_declarers_66, c_X11_declarers_69, bnd_v, bnd_x, pu_s, pu_n, b01_T, b01_F, Int.reduceEq, Int.reduceLT, Int.reduceLE, Int.reduceNe, Nat.reduceEqDiff, Nat.reduceLeDiff, and_false, false_and, and_true, true_and, or_false, false_or, or_true, true_or, if_true, if_false, not_true_eq_false, not_false_eq_true, eq_self, ne_eq, reduceCtorEq, false_implies, true_implies, implies_true, inT, inA, rmO, rmA, rI_pI, rI_pJ, rI_pR, rI_qI, rI_qJ, rI_qR, rJ_pI, rJ_pJ, rJ_pR, rJ_qI, rJ_qJ, rJ_qR, rR_pI, rR_pJ, rR_pR, rR_qI, rR_qJ, rR_qR, sI_pI, sI_pJ, sI_pR, sI_qI, sI_qJ, sI_qR, sJ_pI, sJ_pJ, sJ_pR, sJ_qI, sJ_qJ, sJ_qR, sR_pI, sR_pJ, sR_pR, sR_qI, sR_qJ, sR_qR, hc_pI, hc_pJ, hc_pR, hc_qI, hc_qJ, hc_qR, hl_pI, hl_pJ, hl_pR, hl_qI, hl_qJ, hl_qR, hk_pI, hk_pJ, hk_pR, hk_qI, hk_qJ, hk_qR, hs_pI, hs_pJ, hs_pR, hs_qI, hs_qJ, hs_qR, hn_pI, hn_pJ, hn_pR, hn_qI, hn_qJ, hn_qR, hc_nO', hc_nA', hl_nO, hl_nA', hn_nO, hn_nA, hk_nO, hk_nA, hs_nO, hs_nA, rI_nO, rI_nA, rJ_nO, rJ_nA, rR_nO, rR_nA, Nat.le_refl, Y.1, BQ0.1, BQ0.2.1, hb, ns8]
    · obtain ⟨q2, i2, h2, s2, t2, P2, X2, O2, b1, b2, b3, ⟨b4, b5⟩, b6, ⟨u2, b7⟩, ⟨b8, b9, b10⟩, b11, -, b13, b14⟩ := A
      have b1 : F (d + 10) 104145474 [vR p, vI 0] h = some (.inl (some (vR q2)), h2) := b1
      have eX : X2 = X := by
        rcases b13 with w | w
        · exact absurd w.1 (by decide)
        · exact w.2
      subst eX
      have tw2 : ∀ j : Nat, j < t → aI s2 32 j = aI s 32 j := fun j hj => (b6.1.1 32 j (Or.inr ⟨⟨by omega, by show (j : Int) < fI s 1764447916; rw [M.1.2.1]; omega⟩, fun w => absurd w (by decide)⟩)).1
      have M2 := b3.m
      have mm2 := M2.2.2.2.2
      have tx2 : t2 < xc l := b3.x.2.2.2.2.1
      have g2 : fI s2 2066437804 = g + 1 := b6.2.1
      have hat2 : fI s 1764447916 ≤ fI s2 1764447916 := by rw [M.1.2.1, M2.1.2.1]; omega
      have D2 := D0.sub (g1 := g + 1) (by omega) hat2 b6
      have BQ2 := BQ0.ev Y.c b7 (fun w => by have := w.2; have := BQ0.2.2.2.1.1; omega) (fun w => by have := w.2; have := BQ0.2.2.2.2.1.1; omega) (fun w => by have := w.1; omega) b9
      have MQ2 := MQ0.fr b6.1 g0 (by have := Pre.1; omega) b6.2.2.1
      have rm2 := (b3.room (by omega) (by omega))
      obtain ⟨h3, c1, c2, c3⟩ := f_add (v := q2) (d + 4) b3.i BQ2.2.2.1 (ok_of (b3.2.2.2.2.1.2 q2 i2 b4).1.1 (by decide)) (by omega) (rm2.le (by omega))
      have u3 : qs.length / 32 + 2 ≤ 2 := by omega
      have c2 := c2.mono (W' := (· = r0)) (fun _ _ w => w) u3
      have X3 : PXs h3 p lx l t2 o := b3.x.ev c2 (fun x w => by have := BQ2.2.2.2.2.1.1; omega)
      have F3 : XFd h3 p := b3.2.1.ev b3.x c2 (fun w => by have := BQ2.2.2.2.2.1.1; omega)
      have J3 := b3.step c2 (fun x w => Or.inl (by rw [w]; exact BQ2.2.2.2.2.2.2)) X3 F3 (Fr.rf (L := fun _ => 1000000) (v := -1)) M2 (Nat.le_refl _) (by show _ ≤ (1000000 : Int); omega) (by show _ ≤ (1000000 : Int); omega) (by show _ ≤ (1000000 : Int); omega) (Int.le_refl _) (Int.le_refl _)
      have q3 : hc h3 q0 = 9 ∧ gR h3 646517286 q0 = r0 := by
        have S := c2.ob BQ2.2.2.2.1.2 (fun w => by have := BQ2.2.2.1.1; rw [← w, BQ2.1] at this; cases this) (by rw [BQ2.1]; decide)
        exact ⟨S.1.trans BQ2.1, (S.2.2.2.2.1 _).trans BQ2.2.1⟩
      have BQ3 : BQ h3 p q0 r0 O2 (qs ++ [q2]) := ⟨q3.1, q3.2, c3, by have := c2.1.1; have := BQ2.2.2.2.1; omega, by have := c2.1.1; have := BQ2.2.2.2.2.1; omega, BQ2.2.2.2.2.2⟩
      have E3 : Ev (fun x => W7 p x ∨ x = r0) (u2 + 2) h h3 := (b7.mono (W' := fun x => W7 p x ∨ x = r0) (fun _ _ w => Or.inl w) (Nat.le_refl _)).tr c2 (fun x _ w => Or.inr w)
      have h48' : hc h2 r0 = 48 := BQ2.2.2.1.1
      have PQ3 := PQ0.app b10 b4
      have gbm : 0 ≤ aI s2 37 g ∧ aI s2 37 g ≤ fI s2 2234209964 := by rw [MQ2.1.2.2.1]; have := MQ2.2.2.1; have := MQ2.2.1; omega
      have hq3 : fI s2 2234209964 < 482 := by omega
      have il : ids.length = qs.length := PQ0.1
      have g8 : fI s2 2234209964 + 1 - aI s2 37 g = (qs.length : Int) + 1 := by rw [MQ2.1.2.2.1]; have := MQ2.2.2.1; omega
      have x0 : bnd (some (Sum.inl (some (vI (qs.length : Int))), h)) (fun v h' => FA (F (d + 10)) 115941954 36 [vR p, vR q0] (pu v []) h') = bnd (F (d + 10) 106242626 [vR p, vJ 44] h3) (fun v h' => FA (F (d + 10)) 115941954 66 [vR p, vR q0] (pu v []) h') := by
        simp (config := {implicitDefEqProofs := false}) only [c_X11_declarers_36, c_X11_declarers_41, c_X11_declarers_45, c_X11_declarers_46, c_X11_declarers_55, c_X11_declarers_58, c_X11_declarers_66, c_X11_declarers_69, bnd_v, bnd_x, pu_s, pu_n, b01_T, b01_F, Int.reduceEq, Int.reduceLT, Int.reduceLE, Int.reduceNe, Nat.reduceEqDiff, Nat.reduceLeDiff, and_false, false_and, and_true, true_and, or_false, false_or, or_true, true_or, if_true, if_false, not_true_eq_false, not_false_eq_true, eq_self, ne_eq, reduceCtorEq, false_implies, true_implies, implies_true, inT, inA, rmO, rmA, rI_pI, rI_pJ, rI_pR, rI_qI, rI_qJ, rI_qR, rJ_pI, rJ_pJ, rJ_pR, rJ_qI, rJ_qJ, rJ_qR, rR_pI, rR_pJ, rR_pR, rR_qI, rR_qJ, rR_qR, sI_pI, sI_pJ, sI_pR, sI_qI, sI_qJ, sI_qR, sJ_pI, sJ_pJ, sJ_pR, sJ_qI, sJ_qJ, sJ_qR, sR_pI, sR_pJ, sR_pR, sR_qI, sR_qJ, sR_qR, hc_pI, hc_pJ, hc_pR, hc_qI, hc_qJ, hc_qR, hl_pI, hl_pJ, hl_pR, hl_qI, hl_qJ, hl_qR, hk_pI, hk_pJ, hk_pR, hk_qI, hk_qJ, hk_qR, hs_pI, hs_pJ, hs_pR, hs_qI, hs_qJ, hs_qR, hn_pI, hn_pJ, hn_pR, hn_qI, hn_qJ, hn_qR, hc_nO', hc_nA', hl_nO, hl_nA', hn_nO, hn_nA, hk_nO, hk_nA, hs_nO, hs_nA, rI_nO, rI_nA, rJ_nO, rJ_nA, rR_nO, rR_nA, Nat.le_refl, Y.1, BQ0.1, BQ0.2.1, b1, ns8, h48', c1, X3.1]
      rw [x0]
      by_cases qc : kd l t2 = 5 ∧ sI l t2 = 44
      · have ht3 : t2 + 1 < xc l := X3.next tx2 (by rw [qc.1]; decide) (by rw [qc.1]; decide)
        have hl3 : t2 + 1 < l.length := by omega
        rw [f_takesY (d + 5) X3 (c := 44) (w := 44) (by decide) qc, bnd_v, pu_s, c_X11_declarers_66, if_neg (by decide)]
        have X4 := X3.setT (t' := t2 + 1) ht3
        have F4 : XFd (pI h3 1285834896 p ((t2 + 1 : Nat) : Int)) p := F3
        have E4 : Ev (· = p) 0 h3 (pI h3 1285834896 p ((t2 + 1 : Nat) : Int)) := (Ev.rf X3.i).cI (Or.inl rfl) (by rw [X3.1]; rfl)
        have E5 := E3.tr (E4.mono (W' := fun x => W7 p x ∨ x = r0) (fun x _ w => Or.inl ⟨by omega, by omega⟩) (Nat.le_refl _)) (fun _ _ w => w)
        by_cases q8 : qs.length + 1 = 8
        · left
          have sz3 := f_size (d + 9) c3
          have e8 : ((qs ++ [q2]).length : Int) = 8 := by rw [List.length_append, List.length_singleton]; omega
          have BQ4 : AL (pI h3 1285834896 p ((t2 + 1 : Nat) : Int)) r0 (qs ++ [q2]) := E4.al X3.c (fun w => by have := BQ3.2.2.2.2.1.1; omega) (fun w => hp0 w.symm) c3
          have sz4 := f_size (d + 9) BQ4
          rw [e8] at sz4
          obtain ⟨e, h4, w1, w2, w3⟩ := f_wrong (d + 5) X4 (rm2.le (u' := 100) (by omega) |>.ev (u := 2) (u' := 98) c2 |>.le (by omega))
          have w2' : hc h4 e = 44 := w2.1
          have RCf : Reach s2 (uI (uI (uI (vJ' (vI' s2 44 (fI s2 2234209964) (fI s2 2133546668)) 45 (fI s2 2234209964) 0) 2234209964 (fI s2 2234209964 + 1)) 1764447916 ((t2 : Int) + 1)) 1772836524 (pl l (t2 + 1))) := by
            rcases hz27 with w | w <;> subst w
            · exact Reach.one (by rw [g2]; omega) (by have := M2.2.2.1; omega) (step_of g2 ⟨g0, by omega⟩ MQ2.1.1 (by decide) (mc_full2 M2 ho24 g2 g0 (by omega) MQ2.1.2.1 qc.1 qc.2 gbm.1 gbm.2 hq3 hl3 (by omega)))
            · exact Reach.one (by rw [g2]; omega) (by have := M2.2.2.1; omega) (step_of g2 ⟨g0, by omega⟩ MQ2.1.1 (by decide) (mc_full7 M2 ho24 g2 g0 (by omega) MQ2.1.2.1 qc.1 qc.2 gbm.1 gbm.2 hq3 hl3 (by omega)))
          have af : Fr (Lq s2 g) (-1) s2 (uI (uI (uI (vJ' (vI' s2 44 (fI s2 2234209964) (fI s2 2133546668)) 45 (fI s2 2234209964) 0) 2234209964 (fI s2 2234209964 + 1)) 1764447916 ((t2 : Int) + 1)) 1772836524 (pl l (t2 + 1))) := by
            refine (Fr.uI (Fr.uI (Fr.uI (Fr.vJ (Fr.vI Fr.rf (by decide) (Or.inl ?_)) (by decide) ?_) (by decide)) (by decide)) (by decide))
            all_goals exact Int.le_refl _
          have hn3 : p + 6 < hn h3 := by have := BQ3.2.2.2.1; omega
          have Bd := J3.2.2.2.2.2.2.2.st J3.i hn3 E4 (fun x y w v => by omega)
          refine bfw_now (k := t2 + 1) Bd X4.i hn3 ht3 E5 ?_ w2 w3 (by omega) (b2.tr RCf) (by simp (config := {implicitDefEqProofs := false}) only [fI_uI, fI_uJ, fI_vI, fI_vJ, fJ_uI, fJ_uJ, fJ_vI, fJ_vJ, aI_uI, aI_uJ, aI_vI, aI_vJ, aJ_uI, aJ_uJ, aJ_vI, aJ_vJ, bnd_v, bnd_x, pu_s, pu_n, b01_T, b01_F, Int.reduceEq, Int.reduceLT, Int.reduceLE, Int.reduceNe, Nat.reduceEqDiff, Nat.reduceLeDiff, and_false, false_and, and_true, true_and, or_false, false_or, or_true, true_or, if_true, if_false, not_true_eq_false, not_false_eq_true, eq_self, ne_eq, reduceCtorEq, false_implies, true_implies, implies_true, fI_pushS, aI_pushS, aJ_pushS, fI_gmodeS, aI_gmodeS, aJ_gmodeS, fI_modeS, aI_modeS, aJ_modeS, fI_giveS, aI_giveS]) ((frm M b6.1).tr (frw M2 af))
          · rw [c_X11_declarers_29 _ _ _ _ (i11 (show hc (pI h3 1285834896 p ((t2 + 1 : Nat) : Int)) q0 = 9 from q3.1)) (by show inT 48 48 (hc h3 (gR h3 646517286 q0)); rw [q3.2]; exact i11 c3.1)]
            simp (config := {implicitDefEqProofs := false}) only [c_X11_declarers_36, c_X11_declarers_41, c_X11_declarers_45, c_X11_declarers_46, c_X11_declarers_55, c_X11_declarers_58, c_X11_declarers_66, c_X11_declarers_69, bnd_v, bnd_x, pu_s, pu_n, b01_T, b01_F, Int.reduceEq, Int.reduceLT, Int.reduceLE, Int.reduceNe, Nat.reduceEqDiff, Nat.reduceLeDiff, and_false, false_and, and_true, true_and, or_false, false_or, or_true, true_or, if_true, if_false, not_true_eq_false, not_false_eq_true, eq_self, ne_eq, reduceCtorEq, false_implies, true_implies, implies_true, inT, inA, rmO, rmA, rI_pI, rI_pJ, rI_pR, rI_qI, rI_qJ, rI_qR, rJ_pI, rJ_pJ, rJ_pR, rJ_qI, rJ_qJ, rJ_qR, rR_pI, rR_pJ, rR_pR, rR_qI, rR_qJ, rR_qR, sI_pI, sI_pJ, sI_pR, sI_qI, sI_qJ, sI_qR, sJ_pI, sJ_pJ, sJ_pR, sJ_qI, sJ_qJ, sJ_qR, sR_pI, sR_pJ, sR_pR, sR_qI, sR_qJ, sR_qR, hc_pI, hc_pJ, hc_pR, hc_qI, hc_qJ, hc_qR, hl_pI, hl_pJ, hl_pR, hl_qI, hl_qJ, hl_qR, hk_pI, hk_pJ, hk_pR, hk_qI, hk_qJ, hk_qR, hs_pI, hs_pJ, hs_pR, hs_qI, hs_qJ, hs_qR, hn_pI, hn_pJ, hn_pR, hn_qI, hn_qJ, hn_qR, hc_nO', hc_nA', hl_nO, hl_nA', hn_nO, hn_nA, hk_nO, hk_nA, hs_nO, hs_nA, rI_nO, rI_nA, rJ_nO, rJ_nA, rR_nO, rR_nA, Nat.le_refl, X3.1, q3.2, sz4, w1, w2']
        · have hn8' : (qs ++ [q2]).length + n = 8 := by rw [List.length_append, List.length_singleton]; omega
          have n0 : 0 < n := by omega
          have zb' : Z + 24 * (t2 - t) + 2 + 0 + 24 * (482 - (t2 + 1)) + 20 ≤ B := by omega
          have pg0 : 0 ≤ g + 1 := by omega
          have ne : ¬ (g = g + 1) := by omega
          have RCm : Reach s2 (pushS (uI (uI (vJ' (vI' s2 44 (fI s2 2234209964) (fI s2 2133546668)) 45 (fI s2 2234209964) 0) 2234209964 (fI s2 2234209964 + 1)) 1764447916 ((t2 : Int) + 1)) 4 0 0 0 0) := by
            rcases hz27 with w | w <;> subst w
            · exact Reach.one (by rw [g2]; omega) (by have := M2.2.2.1; omega) (step_of g2 ⟨g0, by omega⟩ MQ2.1.1 (by decide) (mc_more2 M2 ho24 g2 g0 (by omega) MQ2.1.2.1 qc.1 qc.2 gbm.1 gbm.2 hq3 (by omega)))
            · exact Reach.one (by rw [g2]; omega) (by have := M2.2.2.1; omega) (step_of g2 ⟨g0, by omega⟩ MQ2.1.1 (by decide) (mc_more7 M2 ho24 g2 g0 (by omega) MQ2.1.2.1 qc.1 qc.2 gbm.1 gbm.2 hq3 (by omega)))
          have a1 : Fr (Lq s2 (g + 1)) (-1) s2 (pushS (uI (uI (vJ' (vI' s2 44 (fI s2 2234209964) (fI s2 2133546668)) 45 (fI s2 2234209964) 0) 2234209964 (fI s2 2234209964 + 1)) 1764447916 ((t2 : Int) + 1)) 4 0 0 0 0) := by
            refine (Fr.push (Fr.uI (Fr.uI (Fr.vJ (Fr.vI Fr.rf (by decide) (Or.inl ?_)) (by decide) ?_) (by decide)) (by decide)) ?_)
            all_goals (first | exact Int.le_refl _ | (show g + 1 ≤ fI s2 2066437804; omega) | (show fI s2 2066437804 - 1 ≤ _; omega) | (show fI s2 2066437804 - 1 ≤ fI s2 2066437804; omega))
          have a2 : Fr (Lm s2) (-1) s2 (pushS (uI (uI (vJ' (vI' s2 44 (fI s2 2234209964) (fI s2 2133546668)) 45 (fI s2 2234209964) 0) 2234209964 (fI s2 2234209964 + 1)) 1764447916 ((t2 : Int) + 1)) 4 0 0 0 0) := by
            refine (Fr.push (Fr.uI (Fr.uI (Fr.vJ (Fr.vI Fr.rf (by decide) (Or.inl ?_)) (by decide) ?_) (by decide)) (by decide)) ?_)
            all_goals (first | exact Int.le_refl _ | (show g + 1 ≤ fI s2 2066437804; omega) | (show fI s2 2066437804 - 1 ≤ _; omega) | (show fI s2 2066437804 - 1 ≤ fI s2 2066437804; omega))
          have M1 : MJ (pushS (uI (uI (vJ' (vI' s2 44 (fI s2 2234209964) (fI s2 2133546668)) 45 (fI s2 2234209964) 0) 2234209964 (fI s2 2234209964 + 1)) 1764447916 ((t2 : Int) + 1)) 4 0 0 0 0) l (t2 + 1) (o) PR := by
            refine M2.fr a1 ?_ (by omega) (by omega) ?_ ?_ ?_ ?_ ?_ ?_
            all_goals (simp (config := {implicitDefEqProofs := false}) only [fI_uI, fI_uJ, fI_vI, fI_vJ, fJ_uI, fJ_uJ, fJ_vI, fJ_vJ, aI_uI, aI_uJ, aI_vI, aI_vJ, aJ_uI, aJ_uJ, aJ_vI, aJ_vJ, bnd_v, bnd_x, pu_s, pu_n, b01_T, b01_F, Int.reduceEq, Int.reduceLT, Int.reduceLE, Int.reduceNe, Nat.reduceEqDiff, Nat.reduceLeDiff, and_false, false_and, and_true, true_and, or_false, false_or, or_true, true_or, if_true, if_false, not_true_eq_false, not_false_eq_true, eq_self, ne_eq, reduceCtorEq, false_implies, true_implies, implies_true, fI_pushS, aI_pushS, aJ_pushS, fI_gmodeS, aI_gmodeS, aJ_gmodeS, fI_modeS, aI_modeS, aJ_modeS, fI_giveS, aI_giveS, M2.1.2.1, M2.2.1, M2.2.2.1]; try omega)
          have D4 : DQ c cl s0 (pushS (uI (uI (vJ' (vI' s2 44 (fI s2 2234209964) (fI s2 2133546668)) 45 (fI s2 2234209964) 0) 2234209964 (fI s2 2234209964 + 1)) 1764447916 ((t2 : Int) + 1)) 4 0 0 0 0) t0 (t2 + 1) (g + 1 + 1) := by
            refine D2.ctl (t2 := t2 + 1) (by omega) a2 ?_ ?_ ?_ ?_ ?_ ?_
            · simp (config := {implicitDefEqProofs := false}) only [fI_uI, fI_uJ, fI_vI, fI_vJ, fJ_uI, fJ_uJ, fJ_vI, fJ_vJ, aI_uI, aI_uJ, aI_vI, aI_vJ, aJ_uI, aJ_uJ, aJ_vI, aJ_vJ, bnd_v, bnd_x, pu_s, pu_n, b01_T, b01_F, Int.reduceEq, Int.reduceLT, Int.reduceLE, Int.reduceNe, Nat.reduceEqDiff, Nat.reduceLeDiff, and_false, false_and, and_true, true_and, or_false, false_or, or_true, true_or, if_true, if_false, not_true_eq_false, not_false_eq_true, eq_self, ne_eq, reduceCtorEq, false_implies, true_implies, implies_true, fI_pushS, aI_pushS, aJ_pushS, fI_gmodeS, aI_gmodeS, aJ_gmodeS, fI_modeS, aI_modeS, aJ_modeS, fI_giveS, aI_giveS, g2]
            · simp (config := {implicitDefEqProofs := false}) only [fI_uI, fI_uJ, fI_vI, fI_vJ, fJ_uI, fJ_uJ, fJ_vI, fJ_vJ, aI_uI, aI_uJ, aI_vI, aI_vJ, aJ_uI, aJ_uJ, aJ_vI, aJ_vJ, bnd_v, bnd_x, pu_s, pu_n, b01_T, b01_F, Int.reduceEq, Int.reduceLT, Int.reduceLE, Int.reduceNe, Nat.reduceEqDiff, Nat.reduceLeDiff, and_false, false_and, and_true, true_and, or_false, false_or, or_true, true_or, if_true, if_false, not_true_eq_false, not_false_eq_true, eq_self, ne_eq, reduceCtorEq, false_implies, true_implies, implies_true, fI_pushS, aI_pushS, aJ_pushS, fI_gmodeS, aI_gmodeS, aJ_gmodeS, fI_modeS, aI_modeS, aJ_modeS, fI_giveS, aI_giveS]
            · simp (config := {implicitDefEqProofs := false}) only [fI_uI, fI_uJ, fI_vI, fI_vJ, fJ_uI, fJ_uJ, fJ_vI, fJ_vJ, aI_uI, aI_uJ, aI_vI, aI_vJ, aJ_uI, aJ_uJ, aJ_vI, aJ_vJ, bnd_v, bnd_x, pu_s, pu_n, b01_T, b01_F, Int.reduceEq, Int.reduceLT, Int.reduceLE, Int.reduceNe, Nat.reduceEqDiff, Nat.reduceLeDiff, and_false, false_and, and_true, true_and, or_false, false_or, or_true, true_or, if_true, if_false, not_true_eq_false, not_false_eq_true, eq_self, ne_eq, reduceCtorEq, false_implies, true_implies, implies_true, fI_pushS, aI_pushS, aJ_pushS, fI_gmodeS, aI_gmodeS, aJ_gmodeS, fI_modeS, aI_modeS, aJ_modeS, fI_giveS, aI_giveS, M2.1.2.1]; omega
            · simp (config := {implicitDefEqProofs := false}) only [fI_uI, fI_uJ, fI_vI, fI_vJ, fJ_uI, fJ_uJ, fJ_vI, fJ_vJ, aI_uI, aI_uJ, aI_vI, aI_vJ, aJ_uI, aJ_uJ, aJ_vI, aJ_vJ, bnd_v, bnd_x, pu_s, pu_n, b01_T, b01_F, Int.reduceEq, Int.reduceLT, Int.reduceLE, Int.reduceNe, Nat.reduceEqDiff, Nat.reduceLeDiff, and_false, false_and, and_true, true_and, or_false, false_or, or_true, true_or, if_true, if_false, not_true_eq_false, not_false_eq_true, eq_self, ne_eq, reduceCtorEq, false_implies, true_implies, implies_true, fI_pushS, aI_pushS, aJ_pushS, fI_gmodeS, aI_gmodeS, aJ_gmodeS, fI_modeS, aI_modeS, aJ_modeS, fI_giveS, aI_giveS]; have := MQ2.2.2.1; omega
            · simp (config := {implicitDefEqProofs := false}) only [fI_uI, fI_uJ, fI_vI, fI_vJ, fJ_uI, fJ_uJ, fJ_vI, fJ_vJ, aI_uI, aI_uJ, aI_vI, aI_vJ, aJ_uI, aJ_uJ, aJ_vI, aJ_vJ, bnd_v, bnd_x, pu_s, pu_n, b01_T, b01_F, Int.reduceEq, Int.reduceLT, Int.reduceLE, Int.reduceNe, Nat.reduceEqDiff, Nat.reduceLeDiff, and_false, false_and, and_true, true_and, or_false, false_or, or_true, true_or, if_true, if_false, not_true_eq_false, not_false_eq_true, eq_self, ne_eq, reduceCtorEq, false_implies, true_implies, implies_true, fI_pushS, aI_pushS, aJ_pushS, fI_gmodeS, aI_gmodeS, aJ_gmodeS, fI_modeS, aI_modeS, aJ_modeS, fI_giveS, aI_giveS]; omega
            · simp (config := {implicitDefEqProofs := false}) only [fI_uI, fI_uJ, fI_vI, fI_vJ, fJ_uI, fJ_uJ, fJ_vI, fJ_vJ, aI_uI, aI_uJ, aI_vI, aI_vJ, aJ_uI, aJ_uJ, aJ_vI, aJ_vJ, bnd_v, bnd_x, pu_s, pu_n, b01_T, b01_F, Int.reduceEq, Int.reduceLT, Int.reduceLE, Int.reduceNe, Nat.reduceEqDiff, Nat.reduceLeDiff, and_false, false_and, and_true, true_and, or_false, false_or, or_true, true_or, if_true, if_false, not_true_eq_false, not_false_eq_true, eq_self, ne_eq, reduceCtorEq, false_implies, true_implies, implies_true, fI_pushS, aI_pushS, aJ_pushS, fI_gmodeS, aI_gmodeS, aJ_gmodeS, fI_modeS, aI_modeS, aJ_modeS, fI_giveS, aI_giveS]; omega
          have Pre4 : DPre (pushS (uI (uI (vJ' (vI' s2 44 (fI s2 2234209964) (fI s2 2133546668)) 45 (fI s2 2234209964) 0) 2234209964 (fI s2 2234209964 + 1)) 1764447916 ((t2 : Int) + 1)) 4 0 0 0 0) o (g + 1) 0 := by
            refine ⟨?_, pg0, Pre.2.2.1, ?_, ?_, ?_, Or.inl rfl⟩
            all_goals simp (config := {implicitDefEqProofs := false}) only [fI_uI, fI_uJ, fI_vI, fI_vJ, fJ_uI, fJ_uJ, fJ_vI, fJ_vJ, aI_uI, aI_uJ, aI_vI, aI_vJ, aJ_uI, aJ_uJ, aJ_vI, aJ_vJ, bnd_v, bnd_x, pu_s, pu_n, b01_T, b01_F, Int.reduceEq, Int.reduceLT, Int.reduceLE, Int.reduceNe, Nat.reduceEqDiff, Nat.reduceLeDiff, and_false, false_and, and_true, true_and, or_false, false_or, or_true, true_or, if_true, if_false, not_true_eq_false, not_false_eq_true, eq_self, ne_eq, reduceCtorEq, false_implies, true_implies, implies_true, fI_pushS, aI_pushS, aJ_pushS, fI_gmodeS, aI_gmodeS, aJ_gmodeS, fI_modeS, aI_modeS, aJ_modeS, fI_giveS, aI_giveS, g2]
          have MQ4 : MeQ (pushS (uI (uI (vJ' (vI' s2 44 (fI s2 2234209964) (fI s2 2133546668)) 45 (fI s2 2234209964) 0) 2234209964 (fI s2 2234209964 + 1)) 1764447916 ((t2 : Int) + 1)) 4 0 0 0 0) g z G T (ids ++ [i2]) := by
            have e5 : fI s2 2234209964 = G + ids.length := MQ2.2.2.1
            refine ⟨⟨?_, ?_, ?_, ?_⟩, MQ2.2.1, ?_, fun j hj => ?_⟩
            · simp (config := {implicitDefEqProofs := false}) only [fI_uI, fI_uJ, fI_vI, fI_vJ, fJ_uI, fJ_uJ, fJ_vI, fJ_vJ, aI_uI, aI_uJ, aI_vI, aI_vJ, aJ_uI, aJ_uJ, aJ_vI, aJ_vJ, bnd_v, bnd_x, pu_s, pu_n, b01_T, b01_F, Int.reduceEq, Int.reduceLT, Int.reduceLE, Int.reduceNe, Nat.reduceEqDiff, Nat.reduceLeDiff, and_false, false_and, and_true, true_and, or_false, false_or, or_true, true_or, if_true, if_false, not_true_eq_false, not_false_eq_true, eq_self, ne_eq, reduceCtorEq, false_implies, true_implies, implies_true, fI_pushS, aI_pushS, aJ_pushS, fI_gmodeS, aI_gmodeS, aJ_gmodeS, fI_modeS, aI_modeS, aJ_modeS, fI_giveS, aI_giveS, g2, ne]; exact MQ2.1.1
            · simp (config := {implicitDefEqProofs := false}) only [fI_uI, fI_uJ, fI_vI, fI_vJ, fJ_uI, fJ_uJ, fJ_vI, fJ_vJ, aI_uI, aI_uJ, aI_vI, aI_vJ, aJ_uI, aJ_uJ, aJ_vI, aJ_vJ, bnd_v, bnd_x, pu_s, pu_n, b01_T, b01_F, Int.reduceEq, Int.reduceLT, Int.reduceLE, Int.reduceNe, Nat.reduceEqDiff, Nat.reduceLeDiff, and_false, false_and, and_true, true_and, or_false, false_or, or_true, true_or, if_true, if_false, not_true_eq_false, not_false_eq_true, eq_self, ne_eq, reduceCtorEq, false_implies, true_implies, implies_true, fI_pushS, aI_pushS, aJ_pushS, fI_gmodeS, aI_gmodeS, aJ_gmodeS, fI_modeS, aI_modeS, aJ_modeS, fI_giveS, aI_giveS, g2, ne]; exact MQ2.1.2.1
            · simp (config := {implicitDefEqProofs := false}) only [fI_uI, fI_uJ, fI_vI, fI_vJ, fJ_uI, fJ_uJ, fJ_vI, fJ_vJ, aI_uI, aI_uJ, aI_vI, aI_vJ, aJ_uI, aJ_uJ, aJ_vI, aJ_vJ, bnd_v, bnd_x, pu_s, pu_n, b01_T, b01_F, Int.reduceEq, Int.reduceLT, Int.reduceLE, Int.reduceNe, Nat.reduceEqDiff, Nat.reduceLeDiff, and_false, false_and, and_true, true_and, or_false, false_or, or_true, true_or, if_true, if_false, not_true_eq_false, not_false_eq_true, eq_self, ne_eq, reduceCtorEq, false_implies, true_implies, implies_true, fI_pushS, aI_pushS, aJ_pushS, fI_gmodeS, aI_gmodeS, aJ_gmodeS, fI_modeS, aI_modeS, aJ_modeS, fI_giveS, aI_giveS, g2, ne]; exact MQ2.1.2.2.1
            · simp (config := {implicitDefEqProofs := false}) only [fI_uI, fI_uJ, fI_vI, fI_vJ, fJ_uI, fJ_uJ, fJ_vI, fJ_vJ, aI_uI, aI_uJ, aI_vI, aI_vJ, aJ_uI, aJ_uJ, aJ_vI, aJ_vJ, bnd_v, bnd_x, pu_s, pu_n, b01_T, b01_F, Int.reduceEq, Int.reduceLT, Int.reduceLE, Int.reduceNe, Nat.reduceEqDiff, Nat.reduceLeDiff, and_false, false_and, and_true, true_and, or_false, false_or, or_true, true_or, if_true, if_false, not_true_eq_false, not_false_eq_true, eq_self, ne_eq, reduceCtorEq, false_implies, true_implies, implies_true, fI_pushS, aI_pushS, aJ_pushS, fI_gmodeS, aI_gmodeS, aJ_gmodeS, fI_modeS, aI_modeS, aJ_modeS, fI_giveS, aI_giveS, g2, ne]; exact MQ2.1.2.2.2
            · simp (config := {implicitDefEqProofs := false}) only [fI_uI, fI_uJ, fI_vI, fI_vJ, fJ_uI, fJ_uJ, fJ_vI, fJ_vJ, aI_uI, aI_uJ, aI_vI, aI_vJ, aJ_uI, aJ_uJ, aJ_vI, aJ_vJ, bnd_v, bnd_x, pu_s, pu_n, b01_T, b01_F, Int.reduceEq, Int.reduceLT, Int.reduceLE, Int.reduceNe, Nat.reduceEqDiff, Nat.reduceLeDiff, and_false, false_and, and_true, true_and, or_false, false_or, or_true, true_or, if_true, if_false, not_true_eq_false, not_false_eq_true, eq_self, ne_eq, reduceCtorEq, false_implies, true_implies, implies_true, fI_pushS, aI_pushS, aJ_pushS, fI_gmodeS, aI_gmodeS, aJ_gmodeS, fI_modeS, aI_modeS, aJ_modeS, fI_giveS, aI_giveS, e5, List.length_append, List.length_singleton]; omega
            · have hj : j < ids.length + 1 := by simpa using hj
              by_cases w : j = ids.length
              · rw [w, gdI_app2]
                simp (config := {implicitDefEqProofs := false}) only [fI_uI, fI_uJ, fI_vI, fI_vJ, fJ_uI, fJ_uJ, fJ_vI, fJ_vJ, aI_uI, aI_uJ, aI_vI, aI_vJ, aJ_uI, aJ_uJ, aJ_vI, aJ_vJ, bnd_v, bnd_x, pu_s, pu_n, b01_T, b01_F, Int.reduceEq, Int.reduceLT, Int.reduceLE, Int.reduceNe, Nat.reduceEqDiff, Nat.reduceLeDiff, and_false, false_and, and_true, true_and, or_false, false_or, or_true, true_or, if_true, if_false, not_true_eq_false, not_false_eq_true, eq_self, ne_eq, reduceCtorEq, false_implies, true_implies, implies_true, fI_pushS, aI_pushS, aJ_pushS, fI_gmodeS, aI_gmodeS, aJ_gmodeS, fI_modeS, aI_modeS, aJ_modeS, fI_giveS, aI_giveS, e5]
                exact b5
              · have e6 : ¬ (G + (j : Int) = G + (ids.length : Int)) := by omega
                rw [gdI_app1 (by omega), ← MQ2.2.2.2 j (by omega)]
                simp (config := {implicitDefEqProofs := false}) only [fI_uI, fI_uJ, fI_vI, fI_vJ, fJ_uI, fJ_uJ, fJ_vI, fJ_vJ, aI_uI, aI_uJ, aI_vI, aI_vJ, aJ_uI, aJ_uJ, aJ_vI, aJ_vJ, bnd_v, bnd_x, pu_s, pu_n, b01_T, b01_F, Int.reduceEq, Int.reduceLT, Int.reduceLE, Int.reduceNe, Nat.reduceEqDiff, Nat.reduceLeDiff, and_false, false_and, and_true, true_and, or_false, false_or, or_true, true_or, if_true, if_false, not_true_eq_false, not_false_eq_true, eq_self, ne_eq, reduceCtorEq, false_implies, true_implies, implies_true, fI_pushS, aI_pushS, aJ_pushS, fI_gmodeS, aI_gmodeS, aJ_gmodeS, fI_modeS, aI_modeS, aJ_modeS, fI_giveS, aI_giveS, e5, e6]
          have nx1 : fI s2 1789613740 ≤ fI (pushS (uI (uI (vJ' (vI' s2 44 (fI s2 2234209964) (fI s2 2133546668)) 45 (fI s2 2234209964) 0) 2234209964 (fI s2 2234209964 + 1)) 1764447916 ((t2 : Int) + 1)) 4 0 0 0 0) 1789613740 := by simp (config := {implicitDefEqProofs := false}) only [fI_uI, fI_uJ, fI_vI, fI_vJ, fJ_uI, fJ_uJ, fJ_vI, fJ_vJ, aI_uI, aI_uJ, aI_vI, aI_vJ, aJ_uI, aJ_uJ, aJ_vI, aJ_vJ, bnd_v, bnd_x, pu_s, pu_n, b01_T, b01_F, Int.reduceEq, Int.reduceLT, Int.reduceLE, Int.reduceNe, Nat.reduceEqDiff, Nat.reduceLeDiff, and_false, false_and, and_true, true_and, or_false, false_or, or_true, true_or, if_true, if_false, not_true_eq_false, not_false_eq_true, eq_self, ne_eq, reduceCtorEq, false_implies, true_implies, implies_true, fI_pushS, aI_pushS, aJ_pushS, fI_gmodeS, aI_gmodeS, aJ_gmodeS, fI_modeS, aI_modeS, aJ_modeS, fI_giveS, aI_giveS]; exact Int.le_refl _
          have nx2 : fI s2 1848333996 ≤ fI (pushS (uI (uI (vJ' (vI' s2 44 (fI s2 2234209964) (fI s2 2133546668)) 45 (fI s2 2234209964) 0) 2234209964 (fI s2 2234209964 + 1)) 1764447916 ((t2 : Int) + 1)) 4 0 0 0 0) 1848333996 := by simp (config := {implicitDefEqProofs := false}) only [fI_uI, fI_uJ, fI_vI, fI_vJ, fJ_uI, fJ_uJ, fJ_vI, fJ_vJ, aI_uI, aI_uJ, aI_vI, aI_vJ, aJ_uI, aJ_uJ, aJ_vI, aJ_vJ, bnd_v, bnd_x, pu_s, pu_n, b01_T, b01_F, Int.reduceEq, Int.reduceLT, Int.reduceLE, Int.reduceNe, Nat.reduceEqDiff, Nat.reduceLeDiff, and_false, false_and, and_true, true_and, or_false, false_or, or_true, true_or, if_true, if_false, not_true_eq_false, not_false_eq_true, eq_self, ne_eq, reduceCtorEq, false_implies, true_implies, implies_true, fI_pushS, aI_pushS, aJ_pushS, fI_gmodeS, aI_gmodeS, aJ_gmodeS, fI_modeS, aI_modeS, aJ_modeS, fI_giveS, aI_giveS]; exact Int.le_refl _
          have tw3 : ∀ j : Nat, aI (pushS (uI (uI (vJ' (vI' s2 44 (fI s2 2234209964) (fI s2 2133546668)) 45 (fI s2 2234209964) 0) 2234209964 (fI s2 2234209964 + 1)) 1764447916 ((t2 : Int) + 1)) 4 0 0 0 0) 32 j = aI s2 32 j := fun j => by simp (config := {implicitDefEqProofs := false}) only [fI_uI, fI_uJ, fI_vI, fI_vJ, fJ_uI, fJ_uJ, fJ_vI, fJ_vJ, aI_uI, aI_uJ, aI_vI, aI_vJ, aJ_uI, aJ_uJ, aJ_vI, aJ_vJ, bnd_v, bnd_x, pu_s, pu_n, b01_T, b01_F, Int.reduceEq, Int.reduceLT, Int.reduceLE, Int.reduceNe, Nat.reduceEqDiff, Nat.reduceLeDiff, and_false, false_and, and_true, true_and, or_false, false_or, or_true, true_or, if_true, if_false, not_true_eq_false, not_false_eq_true, eq_self, ne_eq, reduceCtorEq, false_implies, true_implies, implies_true, fI_pushS, aI_pushS, aJ_pushS, fI_gmodeS, aI_gmodeS, aJ_gmodeS, fI_modeS, aI_modeS, aJ_modeS, fI_giveS, aI_giveS]
          have fw := frw M2 a1
          clear ne
          generalize hs3 : (pushS (uI (uI (vJ' (vI' s2 44 (fI s2 2234209964) (fI s2 2133546668)) 45 (fI s2 2234209964) 0) 2234209964 (fI s2 2234209964 + 1)) 1764447916 ((t2 : Int) + 1)) 4 0 0 0 0) = s3 at tw3 RCm a1 a2 M1 D4 Pre4 MQ4 nx1 nx2 fw
          clear hs3
          have J4 := J3.step E4 (fun x w => Or.inr w) X4 F4 a1 M1 (by omega) (Int.le_refl _) (Int.le_refl _) (by show _ ≤ (1000000 : Int); omega) nx1 nx2
          have BQ4 : BQ (pI h3 1285834896 p ((t2 + 1 : Nat) : Int)) p q0 r0 O2 (qs ++ [q2]) := BQ3.ev X3.c E4 (fun w => by have := BQ3.2.2.2.1.1; omega) (fun w => by have := BQ3.2.2.2.2.1.1; omega) (fun w => hp0 w.symm) (fun x w => Or.inl w)
          rcases ih _ _ _ _ _ _ _ _ hn8' n0 J4 (fun j w => by have := hX j w; omega) zb' BQ4 MQ4 PQ3 Pre4 D4 with A | A
          · left
            exact bfw_up A (fun e h5 w => w) E5 (fun _ _ w => w) (b2.tr RCm) ((frm M b6.1).tr fw) (Nat.le_refl _)
          · right
            obtain ⟨h5, s5, t5, P5, O5, Z5, qs5, ids5, i5, u5, f1, f2, f3, f4, f5, f6, f7, f8, f9, f10, f11, f12, f13, ⟨f14, f15, f16⟩, f17, f18⟩ := A
            have hn3 : hn h ≤ hn h3 := E3.1.1
            exact ⟨h5, s5, t5, P5, O5, Z5, qs5, ids5, i5, _, f1, f2, by omega, (b2.tr RCm).tr f4, f5, f6, f7, f8, f9, f10, f11, f12, E5.tr f13 (fun _ _ w => w), ⟨fun x w => f14 x (b8 x w), fun x w => (f15 x w).elim (fun y => b9 x y) (fun y => Or.inr (Nat.le_trans hn3 y)), fun e w => f16 e (b10 e w)⟩, fun j hj => (f17 j (by omega)).trans ((tw3 j).trans (tw2 j hj)), (b14.tr (nmp_k qc.1 (by decide))).tr f18⟩
      · rw [f_takesN (d + 5) X3 (c := 44) (w := 44) (by decide) qc, bnd_v, pu_s, c_X11_declarers_66, if_pos rfl, c_X11_declarers_69 _ _ _ _ X3.g]
        by_cases qp : kd l t2 = 5 ∧ sI l t2 = 41
        · right
          rw [f_markY (d + 4) X3 (c := 41) (w := 41) (by decide) qp, bnd_v, pu_n]
          exact ⟨h3, s2, t2, P2, O2, Z + 24 * (t2 - t) + 2, qs ++ [q2], ids, i2, u2 + 2, rfl, qp, b11, b2, J3, by omega, BQ3, MQ2, PQ3, b5, by rw [List.length_append, List.length_singleton]; omega, D2, E3, ⟨b8, b9, b10⟩, tw2, b14⟩
        · left
          obtain ⟨e, h4, w1, w2, w3⟩ := f_markN (d + 4) X3 (rm2.le (u' := 100) (by omega) |>.ev (u := 2) (u' := 98) c2 |>.le (by omega)) (c := 41) (w := 41) (by decide) qp
          have RCb : Reach s2 (uI (uI (vJ' (vI' s2 44 (fI s2 2234209964) (fI s2 2133546668)) 45 (fI s2 2234209964) 0) 2234209964 (fI s2 2234209964 + 1)) 1772836524 (pl l t2)) := by
            rcases hz27 with w | w <;> subst w
            · exact Reach.one (by rw [g2]; omega) (by have := M2.2.2.1; omega) (step_of g2 ⟨g0, by omega⟩ MQ2.1.1 (by decide) (mc_bad2 M2 ho24 g2 g0 (by omega) MQ2.1.2.1 qc qp gbm.1 gbm.2 hq3))
            · exact Reach.one (by rw [g2]; omega) (by have := M2.2.2.1; omega) (step_of g2 ⟨g0, by omega⟩ MQ2.1.1 (by decide) (mc_bad7 M2 ho24 g2 g0 (by omega) MQ2.1.2.1 qc qp gbm.1 gbm.2 hq3))
          have af : Fr (Lq s2 g) (-1) s2 (uI (uI (vJ' (vI' s2 44 (fI s2 2234209964) (fI s2 2133546668)) 45 (fI s2 2234209964) 0) 2234209964 (fI s2 2234209964 + 1)) 1772836524 (pl l t2)) := by
            refine (Fr.uI (Fr.uI (Fr.vJ (Fr.vI Fr.rf (by decide) (Or.inl ?_)) (by decide) ?_) (by decide)) (by decide))
            all_goals exact Int.le_refl _
          have hn3 : p + 6 < hn h3 := by have := BQ3.2.2.2.1; omega
          refine bfw_now (k := t2) J3.2.2.2.2.2.2.2 J3.i hn3 tx2 E3 ?_ w2 w3 (by omega) (b2.tr RCb) (by simp (config := {implicitDefEqProofs := false}) only [fI_uI, fI_uJ, fI_vI, fI_vJ, fJ_uI, fJ_uJ, fJ_vI, fJ_vJ, aI_uI, aI_uJ, aI_vI, aI_vJ, aJ_uI, aJ_uJ, aJ_vI, aJ_vJ, bnd_v, bnd_x, pu_s, pu_n, b01_T, b01_F, Int.reduceEq, Int.reduceLT, Int.reduceLE, Int.reduceNe, Nat.reduceEqDiff, Nat.reduceLeDiff, and_false, false_and, and_true, true_and, or_false, false_or, or_true, true_or, if_true, if_false, not_true_eq_false, not_false_eq_true, eq_self, ne_eq, reduceCtorEq, false_implies, true_implies, implies_true, fI_pushS, aI_pushS, aJ_pushS, fI_gmodeS, aI_gmodeS, aJ_gmodeS, fI_modeS, aI_modeS, aJ_modeS, fI_giveS, aI_giveS]) ((frm M b6.1).tr (frw M2 af))
          rw [w1, bnd_x]
end DL
