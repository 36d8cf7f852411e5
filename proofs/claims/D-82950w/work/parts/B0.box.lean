/-! BOXES: Integer, Long, Boolean -/
set_option maxRecDepth 100000
theorem lcm_ng (x y : Int) : lcm x y < 0 ↔ x < y := by unfold lcm; split <;> (try split) <;> omega
section BX
variable {h h1 : PH} {W : Nat → Prop} {u : Nat}
def BxI (h : PH) (b : Nat) (v : Int) : Prop := (hc h b = 49 ∨ hc h b = 50) ∧ gI h 3551683268 b = v
def BxJ (h : PH) (b : Nat) (v : Int) : Prop := (hc h b = 51 ∨ hc h b = 52) ∧ gJ h 3560203981 b = v
def BxB (h : PH) (b : Nat) (v : Int) : Prop := hc h b = 54 ∧ gI h 3585474779 b = v ∧ (v = 0 ∨ v = 1)
theorem BxI.lt {b : Nat} {v : Int} (B : BxI h b v) (C : ConH h) : b < hn h := by
  rcases Nat.lt_or_ge b (hn h) with z | z
  · exact z
  · have := C.1.2.2.1 b z
    rcases B.1 with y | y <;> omega
theorem BxJ.lt {b : Nat} {v : Int} (B : BxJ h b v) (C : ConH h) : b < hn h := by
  rcases Nat.lt_or_ge b (hn h) with z | z
  · exact z
  · have := C.1.2.2.1 b z
    rcases B.1 with y | y <;> omega
theorem BxB.lt {b : Nat} {v : Int} (B : BxB h b v) (C : ConH h) : b < hn h := by
  rcases Nat.lt_or_ge b (hn h) with z | z
  · exact z
  · have := C.1.2.2.1 b z
    have := B.1
    omega
theorem BxI.ev {b : Nat} {v : Int} (B : BxI h b v) (C : ConH h) (E : Ev W u h h1) (hw : ¬ W b) : BxI h1 b v := by
  have S := E.ob (B.lt C) hw (by rcases B.1 with y | y <;> rw [y] <;> decide)
  exact ⟨by rw [S.1]; exact B.1, (S.2.2.1 _).trans B.2⟩
theorem BxJ.ev {b : Nat} {v : Int} (B : BxJ h b v) (C : ConH h) (E : Ev W u h h1) (hw : ¬ W b) : BxJ h1 b v := by
  have S := E.ob (B.lt C) hw (by rcases B.1 with y | y <;> rw [y] <;> decide)
  exact ⟨by rw [S.1]; exact B.1, (S.2.2.2.1 _).trans B.2⟩
theorem BxB.ev {b : Nat} {v : Int} (B : BxB h b v) (C : ConH h) (E : Ev W u h h1) (hw : ¬ W b) : BxB h1 b v := by
  have S := E.ob (B.lt C) hw (by rw [B.1]; decide)
  exact ⟨by rw [S.1]; exact B.1, (S.2.2.1 _).trans B.2.1, B.2.2⟩
theorem BxI.ok {b : Nat} {v : Int} (B : BxI h b v) : okE h 71 b := by
  rcases B.1 with y | y
  · exact ok_of y (by decide)
  · exact ok_of y (by decide)
theorem BxJ.ok {b : Nat} {v : Int} (B : BxJ h b v) : okE h 71 b := by
  rcases B.1 with y | y
  · exact ok_of y (by decide)
  · exact ok_of y (by decide)
theorem BxB.ok {b : Nat} {v : Int} (B : BxB h b v) : okE h 71 b := ok_of B.1 (by decide)
/-- a new key, or an old constant -/
theorem f_intOf (d : Nat) (I : HI h) (rm : Room 1 h) {v : Int} (v0 : -2147483648 ≤ v) (v1 : v < 2147483648) : ∃ b h1, F (d + 4) 169869313 [vI v] h = some (.inl (some (vR b)), h1) ∧ Ev W0 1 h h1 ∧ BxI h1 b v ∧ hn h1 ≤ hn h + 1 := by
  have C := I.1
  have e127 : gI h 4060086272 0 = 127 := C.2.1.2.2.1
  have mk : ∃ b h1, FA (F (d + 3)) 169869313 23 [vI v] [] h = some (.inl (some (vR b)), h1) ∧ Ev W0 1 h h1 ∧ BxI h1 b v ∧ hn h1 ≤ hn h + 1 := by
    have e0 : Ev W0 1 h (nO h 49 1) := (Ev.rf I).mO (by decide) (by decide)
    have c49 : hc (nO h 49 1) (hn h) = 49 := if_pos rfl
    have e1 : Ev W0 1 h (pI (nO h 49 1) 3551683268 (hn h) v) := e0.cI (Or.inr (Nat.le_refl _)) (by rw [c49]; rfl)
    unfold Room at rm
    have x1 : hk h < cLim := by omega
    have x2 : hs h + 1 ≤ sLim := by omega
    refine ⟨hn h, _, ?_, e1, ⟨Or.inl c49, gI_pI⟩, Nat.le_refl _⟩
    simp (config := {implicitDefEqProofs := false}) only [e_J16_init, c_J16_init_0, e_J17_init, c_J17_init_0, c_J17_init_4, c_J17_valueOf_23, c_J17_valueOf_31, bnd_v, bnd_x, pu_s, pu_n, b01_T, b01_F, Int.reduceEq, Int.reduceLT, Int.reduceLE, Int.reduceNe, Nat.reduceEqDiff, Nat.reduceLeDiff, and_false, false_and, and_true, true_and, or_false, false_or, or_true, true_or, if_true, if_false, not_true_eq_false, not_false_eq_true, eq_self, ne_eq, reduceCtorEq, false_implies, true_implies, implies_true, inT, inA, rmO, rmA, rI_pI, rI_pJ, rI_pR, rI_qI, rI_qJ, rI_qR, rJ_pI, rJ_pJ, rJ_pR, rJ_qI, rJ_qJ, rJ_qR, rR_pI, rR_pJ, rR_pR, rR_qI, rR_qJ, rR_qR, sI_pI, sI_pJ, sI_pR, sI_qI, sI_qJ, sI_qR, sJ_pI, sJ_pJ, sJ_pR, sJ_qI, sJ_qJ, sJ_qR, sR_pI, sR_pJ, sR_pR, sR_qI, sR_qJ, sR_qR, hc_pI, hc_pJ, hc_pR, hc_qI, hc_qJ, hc_qR, hl_pI, hl_pJ, hl_pR, hl_qI, hl_qJ, hl_qR, hk_pI, hk_pJ, hk_pR, hk_qI, hk_qJ, hk_qR, hs_pI, hs_pJ, hs_pR, hs_qI, hs_qJ, hs_qR, hn_pI, hn_pJ, hn_pR, hn_qI, hn_qJ, hn_qR, hc_nO', hc_nA', hl_nO, hl_nA', hn_nO, hn_nA, hk_nO, hk_nA, hs_nO, hs_nA, rI_nO, rI_nA, rJ_nO, rJ_nA, rR_nO, rR_nA, Nat.le_refl, x1, x2, show (0 : Nat) < 49 from by decide]
  rw [e_J17_valueOf, c_J17_valueOf_0]
  by_cases z1 : v < -128
  · rw [if_pos z1]; exact mk
  rw [if_neg z1, c_J17_valueOf_6, e127]
  by_cases z2 : 127 < v
  · rw [if_pos z2]; exact mk
  rw [if_neg z2]
  have w : w32 (v + 128) = v + 128 := w32_id (by omega) (by omega)
  obtain ⟨k1, k2, k3⟩ := C.2.2.2.2.2.1
  obtain ⟨j, hj⟩ : ∃ j : Nat, v + 128 = (j : Int) := ⟨(v + 128).toNat, by omega⟩
  rw [hj] at w
  have j6 : j < 256 := by omega
  obtain ⟨k4, k5⟩ := k3 j j6
  refine ⟨eR h (gR h 4068474882 0) j, h, ?_, (Ev.rf I).mono (fun _ _ z => z) (by decide), ⟨Or.inr k4, by rw [k5]; omega⟩, by omega⟩
  rw [c_J17_valueOf_13 _ _ _ ⟨Or.inr (by rw [k1]; decide), by rw [hj, w, k2]; constructor <;> omega⟩, hj, w]
theorem f_longOf (d : Nat) (I : HI h) (rm : Room 1 h) {v : Int} : ∃ b h1, F (d + 4) 170917889 [vJ v] h = some (.inl (some (vR b)), h1) ∧ Ev W0 1 h h1 ∧ BxJ h1 b v ∧ hn h1 ≤ hn h + 1 := by
  have C := I.1
  have mk : ∃ b h1, FA (F (d + 3)) 170917889 31 [vJ v, vX, vI 128] [] h = some (.inl (some (vR b)), h1) ∧ Ev W0 1 h h1 ∧ BxJ h1 b v ∧ hn h1 ≤ hn h + 1 := by
    have e0 : Ev W0 1 h (nO h 51 1) := (Ev.rf I).mO (by decide) (by decide)
    have c49 : hc (nO h 51 1) (hn h) = 51 := if_pos rfl
    have e1 : Ev W0 1 h (pJ (nO h 51 1) 3560203981 (hn h) v) := e0.cJ (Or.inr (Nat.le_refl _)) (by rw [c49]; rfl)
    unfold Room at rm
    have x1 : hk h < cLim := by omega
    have x2 : hs h + 1 ≤ sLim := by omega
    refine ⟨hn h, _, ?_, e1, ⟨Or.inl c49, if_pos ⟨rfl, rfl⟩⟩, Nat.le_refl _⟩
    simp (config := {implicitDefEqProofs := false}) only [e_J16_init, c_J16_init_0, e_J20_init, c_J20_init_0, c_J20_init_4, c_J20_valueOf_31, c_J20_valueOf_39, bnd_v, bnd_x, pu_s, pu_n, b01_T, b01_F, Int.reduceEq, Int.reduceLT, Int.reduceLE, Int.reduceNe, Nat.reduceEqDiff, Nat.reduceLeDiff, and_false, false_and, and_true, true_and, or_false, false_or, or_true, true_or, if_true, if_false, not_true_eq_false, not_false_eq_true, eq_self, ne_eq, reduceCtorEq, false_implies, true_implies, implies_true, inT, inA, rmO, rmA, rI_pI, rI_pJ, rI_pR, rI_qI, rI_qJ, rI_qR, rJ_pI, rJ_pJ, rJ_pR, rJ_qI, rJ_qJ, rJ_qR, rR_pI, rR_pJ, rR_pR, rR_qI, rR_qJ, rR_qR, sI_pI, sI_pJ, sI_pR, sI_qI, sI_qJ, sI_qR, sJ_pI, sJ_pJ, sJ_pR, sJ_qI, sJ_qJ, sJ_qR, sR_pI, sR_pJ, sR_pR, sR_qI, sR_qJ, sR_qR, hc_pI, hc_pJ, hc_pR, hc_qI, hc_qJ, hc_qR, hl_pI, hl_pJ, hl_pR, hl_qI, hl_qJ, hl_qR, hk_pI, hk_pJ, hk_pR, hk_qI, hk_qJ, hk_qR, hs_pI, hs_pJ, hs_pR, hs_qI, hs_qJ, hs_qR, hn_pI, hn_pJ, hn_pR, hn_qI, hn_qJ, hn_qR, hc_nO', hc_nA', hl_nO, hl_nA', hn_nO, hn_nA, hk_nO, hk_nA, hs_nO, hs_nA, rI_nO, rI_nA, rJ_nO, rJ_nA, rR_nO, rR_nA, Nat.le_refl, x1, x2, show (0 : Nat) < 51 from by decide]
  rw [e_J20_valueOf, c_J20_valueOf_0]
  by_cases z1 : v < -128
  · rw [if_pos ((lcm_ng _ _).mpr z1)]; exact mk
  rw [if_neg (fun z => z1 ((lcm_ng _ _).mp z)), c_J20_valueOf_12]
  by_cases z2 : 127 < v
  · rw [if_pos ((lcm_gt _ _).mpr z2)]; exact mk
  rw [if_neg (fun z => z2 ((lcm_gt _ _).mp z))]
  have w0 : w32 v = v := w32_id (by omega) (by omega)
  obtain ⟨k1, k2, k3⟩ := C.2.2.2.2.2.2.1
  obtain ⟨j, hj⟩ : ∃ j : Nat, v + 128 = (j : Int) := ⟨(v + 128).toNat, by omega⟩
  have j6 : j < 256 := by clear w0; omega
  have w : w32 (j : Int) = j := w32_id (by omega) (by omega)
  obtain ⟨k4, k5⟩ := k3 j j6
  have v5 : (j : Int) - 128 = v := by clear w w0; omega
  have jj : inA (j : Int) 256 := by clear w w0; constructor <;> omega
  refine ⟨eR h (gR h 4076863490 0) j, h, ?_, (Ev.rf I).mono (fun _ _ z => z) (by decide), ⟨Or.inr k4, by rw [k5]; exact v5⟩, Nat.le_succ _⟩
  rw [c_J20_valueOf_20 _ _ _ _ ⟨Or.inr (by rw [k1]; decide), by rw [w0, hj, w, k2]; exact jj⟩, w0, hj, w]
theorem f_boolOf (d : Nat) (I : HI h) {v : Int} (hv : v = 0 ∨ v = 1) : ∃ b, F (d + 1) 171966465 [vI v] h = some (.inl (some (vR b)), h) ∧ BxB h b v := by
  obtain ⟨k1, k2, k3, k4⟩ := I.1.2.2.2.1
  rw [e_J21_valueOf, c_J21_valueOf_0]
  rcases hv with z | z <;> subst z
  · rw [if_pos rfl, c_J21_valueOf_10, c_J21_valueOf_13]
    exact ⟨_, rfl, k3, k4, Or.inl rfl⟩
  · rw [if_neg (by decide), c_J21_valueOf_4, c_J21_valueOf_13]
    exact ⟨_, rfl, k1, k2, Or.inr rfl⟩
theorem f_intValue (d : Nat) {b : Nat} {v : Int} (B : BxI h b v) : F (d + 1) 170496785 [vR b] h = some (.inl (some (vI v)), h) := by
  rw [e_J17_intValue, c_J17_intValue_0 _ _ _ (by rcases B.1 with y | y <;> rw [y] <;> decide), B.2]
theorem f_longValue (d : Nat) {b : Nat} {v : Int} (B : BxJ h b v) : F (d + 1) 171811633 [vR b] h = some (.inl (some (vJ v)), h) := by
  rw [e_J20_longValue, c_J20_longValue_0 _ _ _ (by rcases B.1 with y | y <;> rw [y] <;> decide), B.2]
theorem f_boolValue (d : Nat) {b : Nat} {v : Int} (B : BxB h b v) : F (d + 1) 172340065 [vR b] h = some (.inl (some (vI v)), h) := by
  have e : nz v = v := by rcases B.2.2 with y | y <;> rw [y] <;> decide
  rw [e_J21_booleanValue, c_J21_booleanValue_0 _ _ _ (i11 B.1) (by rw [B.2.1, e]; exact B.2.2), B.2.1, e]
end BX
