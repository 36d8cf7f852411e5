/-! x's CONSTRUCTOR: its lexer -/
set_option maxRecDepth 100000
set_option maxHeartbeats 1000000
section XL1
variable {h : PH}
theorem kept_okF : ∀ j, j ≤ KEPT.length → 0 ≤ (kst (KEPT.take j)).2.1 ∧ 2 * (kst (KEPT.take j)).2.1 < 256 ^ (kst (KEPT.take j)).2.2 ∧ (kst (KEPT.take j)).2.2 ≤ 7 ∧ (kst (KEPT.take j)).1.length ≤ 40 := fun j hj => by
  have := List.all_eq_true.mp kept_ok j (List.mem_range.mpr (by rw [kept_len] at hj; omega))
  exact of_decide_eq_true this
theorem kept_finF : (kst KEPT).1 ++ [(kst KEPT).2.1] = KXL := by
  have := kept_fin
  unfold kstep at this
  rw [if_pos rfl] at this
  exact this
def lx4 (h : PH) : PH := fa (fa (fa (fa (nO h 5 8) (hn h) 302320150 66 48) (hn h) 319097366 73 482) (hn h) 327485974 65 482) (hn h) 335874582 66 482
theorem lx4_C : LexC (lx4 h) (hn h) [] := by
  unfold lx4 fa LexC
  refine ⟨?_, ?_, ?_, ?_, ?_, fun i hi => absurd hi (Nat.not_lt_zero _), ⟨?_, ?_, ?_⟩, ⟨?_, ?_, ?_⟩, ⟨?_, ?_, ?_⟩⟩
  all_goals simp (config := {implicitDefEqProofs := false}) only [bnd_v, bnd_x, pu_s, pu_n, b01_T, b01_F, Int.reduceEq, Int.reduceLT, Int.reduceLE, Int.reduceNe, Nat.reduceEqDiff, Nat.reduceLeDiff, and_false, false_and, and_true, true_and, or_false, false_or, or_true, true_or, if_true, if_false, not_true_eq_false, not_false_eq_true, eq_self, ne_eq, reduceCtorEq, false_implies, true_implies, implies_true, inT, inA, rmO, rmA, rI_pI, rI_pJ, rI_pR, rI_qI, rI_qJ, rI_qR, rJ_pI, rJ_pJ, rJ_pR, rJ_qI, rJ_qJ, rJ_qR, rR_pI, rR_pJ, rR_pR, rR_qI, rR_qJ, rR_qR, sI_pI, sI_pJ, sI_pR, sI_qI, sI_qJ, sI_qR, sJ_pI, sJ_pJ, sJ_pR, sJ_qI, sJ_qJ, sJ_qR, sR_pI, sR_pJ, sR_pR, sR_qI, sR_qJ, sR_qR, hc_pI, hc_pJ, hc_pR, hc_qI, hc_qJ, hc_qR, hl_pI, hl_pJ, hl_pR, hl_qI, hl_qJ, hl_qR, hk_pI, hk_pJ, hk_pR, hk_qI, hk_qJ, hk_qR, hs_pI, hs_pJ, hs_pR, hs_qI, hs_qJ, hs_qR, hn_pI, hn_pJ, hn_pR, hn_qI, hn_qJ, hn_qR, hc_nO', hc_nA', hl_nO, hl_nA', hn_nO, hn_nA, hk_nO, hk_nA, hs_nO, hs_nA, rI_nO, rI_nA, rJ_nO, rJ_nA, rR_nO, rR_nA, Nat.le_refl, Nat.add_assoc, Nat.reduceAdd, Nat.add_right_cancel_iff, List.length_nil]
  all_goals simp
theorem lx4_E (I : HI h) : Ev W0 26 h (lx4 h) := by
  have e0 : Ev W0 1 h (nO h 5 8) := (Ev.rf I).mO (by decide) (by decide)
  have c0 : hc (nO h 5 8) (hn h) = 5 := if_pos rfl
  have a1 := fa_ok (k := hn h) (f := 302320150) (t := 66) (n := 48) (c := 1) e0 (Nat.le_refl _) (Nat.lt_succ_self _) c0 (by decide) (by decide) (by decide) (by decide) (by decide)
  have a2 := fa_ok (k := hn h) (f := 319097366) (t := 73) (n := 482) (c := 8) a1.1 (Nat.le_refl _) (by rw [a1.2.2.2.2.2.2.2]; show hn h < hn h + 1 + 1; omega) a1.2.2.2.1 (by decide) (by decide) (by decide) (by decide) (by decide)
  have a3 := fa_ok (k := hn h) (f := 327485974) (t := 65) (n := 482) (c := 8) a2.1 (Nat.le_refl _) (by rw [a2.2.2.2.2.2.2.2, a1.2.2.2.2.2.2.2]; show hn h < hn h + 1 + 1 + 1; omega) a2.2.2.2.1 (by decide) (by decide) (by decide) (by decide) (by decide)
  have a4 := fa_ok (k := hn h) (f := 335874582) (t := 66) (n := 482) (c := 8) a3.1 (Nat.le_refl _) (by rw [a3.2.2.2.2.2.2.2, a2.2.2.2.2.2.2.2, a1.2.2.2.2.2.2.2]; show hn h < hn h + 1 + 1 + 1 + 1; omega) a3.2.2.2.1 (by decide) (by decide) (by decide) (by decide) (by decide)
  exact a4.1
theorem f_newLexer (d : Nat) (I : HI h) (rm : Room 30 h) : ∃ h1, F (d + 5) 11806801 [vR (hn h)] (nO h 5 8) = some (.inl none, h1) ∧ Ev W0 26 h h1 ∧ LexC h1 (hn h) KXL ∧ hn h1 = hn h + 5 := by
  have E := lx4_E I
  obtain ⟨g, a1, a2, a3, a4⟩ := lex_loop (fun g C => kept_S C) kept_okF kept_finF (by rw [kept_len]; decide) d (Nat.le_refl (hn h)) KEPT.length 0 (lx4 h) (by omega) E (by exact lx4_C)
  refine ⟨g, ?_, a2, a3, a4⟩
  rw [← a1]
  unfold Room at rm
  have x1 : hk h < cLim := by omega
  have x2 : hk h + 1 < cLim := by omega
  have x3 : hk h + 2 < cLim := by omega
  have x4 : hk h + 3 < cLim := by omega
  have x5 : hk h + 4 < cLim := by omega
  have t48 : Int.toNat 48 = 48 := rfl
  have t482 : Int.toNat 482 = 482 := rfl
  have y1 : hs h + (8 + 48) ≤ sLim := by omega
  have y2 : hs h + (8 + (48 + 482)) ≤ sLim := by omega
  have y3 : hs h + (8 + (48 + (482 + 482))) ≤ sLim := by omega
  have y4 : hs h + (8 + (48 + (482 + (482 + 482)))) ≤ sLim := by omega
  rw [e_X2_init]
  refine (c_X2_init_0 _ _ _ _ _ _ _ ?_ ?_ ?_ ?_ ?_ ?_ ?_ ?_ ?_).trans rfl
  all_goals (try simp (config := {implicitDefEqProofs := false}) only [bnd_v, bnd_x, pu_s, pu_n, b01_T, b01_F, Int.reduceEq, Int.reduceLT, Int.reduceLE, Int.reduceNe, Nat.reduceEqDiff, Nat.reduceLeDiff, and_false, false_and, and_true, true_and, or_false, false_or, or_true, true_or, if_true, if_false, not_true_eq_false, not_false_eq_true, eq_self, ne_eq, reduceCtorEq, false_implies, true_implies, implies_true, inT, inA, rmO, rmA, rI_pI, rI_pJ, rI_pR, rI_qI, rI_qJ, rI_qR, rJ_pI, rJ_pJ, rJ_pR, rJ_qI, rJ_qJ, rJ_qR, rR_pI, rR_pJ, rR_pR, rR_qI, rR_qJ, rR_qR, sI_pI, sI_pJ, sI_pR, sI_qI, sI_qJ, sI_qR, sJ_pI, sJ_pJ, sJ_pR, sJ_qI, sJ_qJ, sJ_qR, sR_pI, sR_pJ, sR_pR, sR_qI, sR_qJ, sR_qR, hc_pI, hc_pJ, hc_pR, hc_qI, hc_qJ, hc_qR, hl_pI, hl_pJ, hl_pR, hl_qI, hl_qJ, hl_qR, hk_pI, hk_pJ, hk_pR, hk_qI, hk_qJ, hk_qR, hs_pI, hs_pJ, hs_pR, hs_qI, hs_qJ, hs_qR, hn_pI, hn_pJ, hn_pR, hn_qI, hn_qJ, hn_qR, hc_nO', hc_nA', hl_nO, hl_nA', hn_nO, hn_nA, hk_nO, hk_nA, hs_nO, hs_nA, rI_nO, rI_nA, rJ_nO, rJ_nA, rR_nO, rR_nA, Nat.le_refl, Nat.add_assoc, Nat.reduceAdd, t48, t482])
  all_goals (try simp)
  all_goals (try omega)
end XL1
