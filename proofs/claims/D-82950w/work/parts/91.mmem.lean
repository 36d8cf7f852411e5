/-! THE MODEL's PARSER: declarers' members -/
set_option maxRecDepth 100000
set_option maxHeartbeats 1000000
section ME
variable {s : MS} {l : List TokE} {t o : Nat} {PR g : Int}
/-- a field's tag against those ahead of it -/
def dupS : Nat → MS → Int → Int → Int → MS
  | 0, s, _, _, _ => s
  | n + 1, s, k, t, w => dupS n (if aJ s 45 k = w then vI' s 32 t 2 else s) (k + 1) t w
theorem dup_loop (cf : Nat → List PV → PH → Rs) {b : PH} {m : Nat} (B : MB b m) (a t w : Int) (ht : inA t 490) : ∀ (n : Nat) (s : MS) (k : Int), k + n = fI s 2234209964 → 0 ≤ k → fI s 2234209964 ≤ 490 → fI s 1764447916 = t → aJ s 5 t = w → FA cf 55138994 26 [vR m, vI a, vI k] [] (MH b m s) = FA cf 55138994 69 [vR m, vI a, vI (k + n)] [] (MH b m (dupS n s k t w)) := by
  intro n
  induction n with
  | zero =>
    intro s k h1 h2 h3 h4 h5
    have e0 : k + ((0 : Nat) : Int) = k := by omega
    rw [e0, k_X10_fieldEnds_26 _ _ _ _ _ _ B, if_neg (by omega)]
    rfl
  | succ n ih =>
    intro s k h1 h2 h3 h4 h5
    have e1 : k + ((n + 1 : Nat) : Int) = k + 1 + (n : Int) := by omega
    rw [e1, k_X10_fieldEnds_26 _ _ _ _ _ _ B, if_pos (by omega), k_X10_fieldEnds_34 _ _ _ _ _ _ B (by omega) (by rw [h4]; exact ht), h4, h5]
    show _ = FA cf 55138994 69 [vR m, vI a, vI (k + 1 + n)] [] (MH b m (dupS n (if aJ s 45 k = w then vI' s 32 t 2 else s) (k + 1) t w))
    by_cases q : aJ s 45 k = w
    · rw [if_pos ((lcm_eq _ _).mpr q), if_pos q, k_X10_fieldEnds_53 _ _ _ _ _ _ B (by rw [h4]; exact ht), k_X10_fieldEnds_63 _ _ _ _ _ _ B, w32_id (x := k + 1) (by omega) (by omega), h4]
      exact ih _ _ (by show k + 1 + (n : Int) = fI s 2234209964; omega) (by omega) h3 h4 h5
    · rw [if_neg (fun z => q ((lcm_eq _ _).mp z)), if_neg q, k_X10_fieldEnds_63 _ _ _ _ _ _ B, w32_id (x := k + 1) (by omega) (by omega)]
      exact ih _ _ (by omega) (by omega) h3 h4 h5
theorem vI_vI {s : MS} {A : Nat} {j x : Int} : vI' (vI' s A j x) A j x = vI' s A j x := by
  unfold vI'
  have : (fun a i => if a = A ∧ i = j then x else aI (fI s, fJ s, fun a i => if a = A ∧ i = j then x else aI s a i, aJ s) a i) = fun a i => if a = A ∧ i = j then x else aI s a i := by
    funext a i
    by_cases z : a = A ∧ i = j
    · rw [if_pos z, if_pos z]
    · rw [if_neg z, if_neg z]
      show (if a = A ∧ i = j then x else aI s a i) = _
      rw [if_neg z]
  rw [this]
  rfl
theorem dupS_2 : ∀ (n : Nat) (s : MS) (k t w : Int), dupS n (vI' s 32 t 2) k t w = vI' s 32 t 2 := by
  intro n
  induction n with
  | zero => intro s k t w; rfl
  | succ n ih =>
    intro s k t w
    show dupS n (if _ then vI' (vI' s 32 t 2) 32 t 2 else vI' s 32 t 2) (k + 1) t w = _
    rw [vI_vI, ite_self]
    exact ih s (k + 1) t w
theorem dupS_y : ∀ (n : Nat) (s : MS) (k t w : Int) (j : Nat), j < n → aJ s 45 (k + j) = w → dupS n s k t w = vI' s 32 t 2 := by
  intro n
  induction n with
  | zero => intro s k t w j hj; omega
  | succ n ih =>
    intro s k t w j hj e
    show dupS n (if aJ s 45 k = w then vI' s 32 t 2 else s) (k + 1) t w = _
    by_cases q : aJ s 45 k = w
    · rw [if_pos q]; exact dupS_2 n s (k + 1) t w
    · rw [if_neg q]
      cases j with
      | zero => exact absurd (by rw [show k + ((0 : Nat) : Int) = k by omega] at e; exact e) q
      | succ j => exact ih s (k + 1) t w j (by omega) (by rw [show k + 1 + (j : Int) = k + ((j + 1 : Nat) : Int) by omega]; exact e)
theorem dupS_n : ∀ (n : Nat) (s : MS) (k t w : Int), (∀ j : Nat, j < n → aJ s 45 (k + j) ≠ w) → dupS n s k t w = s := by
  intro n
  induction n with
  | zero => intro s k t w _; rfl
  | succ n ih =>
    intro s k t w e
    show dupS n (if aJ s 45 k = w then vI' s 32 t 2 else s) (k + 1) t w = _
    rw [if_neg (by have := e 0 (by omega); rw [show k + ((0 : Nat) : Int) = k by omega] at this; exact this)]
    exact ih s (k + 1) t w (fun j hj => by rw [show k + 1 + (j : Int) = k + ((j + 1 : Nat) : Int) by omega]; exact e (j + 1) (by omega))
theorem mr_dup {w : Int} (d : Nat) {b : PH} {m : Nat} (B : MB b m) (h1 : inA g 600) (ht : inA (fI s 1764447916) 490) (hk : aI s 2 (fI s 1764447916) = 3) (h5 : aJ s 5 (fI s 1764447916) = w) (g0 : 0 ≤ aI s 37 g) (g1 : aI s 37 g ≤ fI s 2234209964) (g2 : fI s 2234209964 ≤ 490) : F (d + 1) 55138994 [vR m, vI g] (MH b m s) = FA (F d) 55138994 69 [vR m, vI g, vI (fI s 2234209964)] [] (MH b m (dupS (fI s 2234209964 - aI s 37 g).toNat s (aI s 37 g) (fI s 1764447916) w)) := by
  rw [e_X10_fieldEnds, k_X10_fieldEnds_0 _ _ _ _ _ _ B ht, if_pos hk, k_X10_fieldEnds_19 _ _ _ _ _ _ B h1, dup_loop _ B g (fI s 1764447916) w ht (fI s 2234209964 - aI s 37 g).toNat s (aI s 37 g) (by omega) g0 g2 rfl h5, show aI s 37 g + ((fI s 2234209964 - aI s 37 g).toNat : Int) = fI s 2234209964 by omega]
theorem mc_more2 (M : MJ s l t o PR) (ho24 : o ≤ 24) (hg : fI s 2066437804 = g + 1) (h60 : 0 ≤ g) (h61 : g < 590) (hz : aI s 35 g = 2) (q : kd l t = 5) (r : sI l t = 44) (g0 : 0 ≤ aI s 37 g) (gb1 : aI s 37 g ≤ fI s 2234209964) (hq3 : fI s 2234209964 < 482) (h8 : ¬ fI s 2234209964 + 1 - aI s 37 g = 8) : MCall 53566130 g s (pushS (uI (uI (vJ' (vI' s 44 (fI s 2234209964) (fI s 2133546668)) 45 (fI s 2234209964) 0) 2234209964 (fI s 2234209964 + 1)) 1764447916 ((t : Int) + 1)) 4 0 0 0 0) := by
  have ha : fI s 1764447916 = t := M.1.2.1
  have T := M.1.1
  have hlt : t < l.length := M.1.a
  have hl2 := T.2.1
  have ho := M.2.1
  have hbad := M.2.2.1
  have b1 : (0 : Int) ≤ t := by omega
  have b2 : (t : Int) < 490 := by omega
  have b3 : (0 : Int) ≤ (t : Int) + 1 := by omega
  have b4 : (t : Int) + 1 < 490 := by omega
  have b5 : (0 : Int) ≤ o := by omega
  have b6 : (o : Int) < 25 := by omega
  have b7 : (0 : Int) ≤ g + 1 := by omega
  have b8 : g + 1 < 601 := by omega
  have b9 : g + 1 < 600 := by omega
  have g1 : g < 600 := by omega
  have hm1 : 0 ≤ fI s 1789613740 := by have := M.2.2.2.2; omega
  have hm2 : fI s 1789613740 < 12000 := by have := M.2.2.2.2; omega
  have hq1 : 0 ≤ fI s 2234209964 := by have := M.2.2.2.2; omega
  have hq2 : fI s 2234209964 < 490 := by have := M.2.2.2.2; omega
  obtain ⟨e1, e2, e3, e4⟩ := T.at' hlt
  intro b m d B C
  simp (config := {implicitDefEqProofs := false}) only [e_X10_declarer, k_X10_declarer_0, k_X10_declarer_52, k_X10_declarer_57, k_X10_declarer_60, k_X10_declarer_82, k_X10_declarer_86, k_X10_declarer_88, k_X10_declarer_101, k_X10_declarer_104, k_X10_declarer_107, k_X10_declarer_146, k_X10_declarer_149, k_X10_declarer_170, k_X10_declarer_173, k_X10_declarer_176, k_X10_declarer_181, e_X10_nextMember, k_X10_nextMember_0, k_X10_nextMember_6, k_X10_nextMember_9, k_X10_nextMember_35, k_X10_nextMember_39, k_X10_nextMember_41, k_X10_nextMember_50, k_X10_nextMember_52, k_X10_nextMember_58, k_X10_nextMember_61, k_X10_nextMember_62, k_X10_nextMember_72, k_X10_nextMember_88, k_X10_nextMember_92, k_X10_nextMember_99, k_X10_nextMember_104, k_X10_nextMember_106, k_X10_nextMember_110, k_X10_nextMember_128, bnd_v, bnd_x, pu_s, pu_n, b01_T, b01_F, Int.reduceEq, Int.reduceLT, Int.reduceLE, Int.reduceNe, Nat.reduceEqDiff, Nat.reduceLeDiff, and_false, false_and, and_true, true_and, or_false, false_or, or_true, true_or, if_true, if_false, not_true_eq_false, not_false_eq_true, eq_self, ne_eq, reduceCtorEq, false_implies, true_implies, implies_true, fI_uI, fI_uJ, fI_vI, fI_vJ, fJ_uI, fJ_uJ, fJ_vI, fJ_vJ, aI_uI, aI_uJ, aI_vI, aI_vJ, aJ_uI, aJ_uJ, aJ_vI, aJ_vJ, inA, mr_isSign, mr_isKept, mr_fails, mr_takeSign, mr_takeKept, mr_opens, mr_opensSign, mr_closesSign, mf_newNode, mf_newMode, mf_child, mf_push, mf_give, mf_giveRoutine, mf_giveMode, tkd, tis, tpl, fI_uI, fI_uJ, fI_vI, fI_vJ, fJ_uI, fJ_uJ, fJ_vI, fJ_vJ, aI_uI, aI_uJ, aI_vI, aI_vJ, aJ_uI, aJ_uJ, aJ_vI, aJ_vJ, fI_nodeS, aI_nodeS, aJ_nodeS, fI_modeS, aI_modeS, aJ_modeS, fI_pushS, aI_pushS, aJ_pushS, fI_giveS, aI_giveS, aJ_giveS, fI_gmodeS, aI_gmodeS, aJ_gmodeS, fI_childS, aJ_childS, B, hz, hg, ha, ho, b1, b2, b3, b4, b5, b6, b7, b8, b9, h60, g1, hbad, hm1, hm2, hq1, hq2, e1, e2, e3, e4, w32_id (x := (t : Int) + 1) (by omega) (by omega), w32_id (x := fI s 2234209964 + 1) (by omega) (by omega), w32_id (x := (o : Int) - 1) (by omega) (by omega), g0, gb1, w32_id (x := fI s 2234209964 + 1 - aI s 37 g) (by omega) (by omega), q, r, h8]

theorem mc_full2 (M : MJ s l t o PR) (ho24 : o ≤ 24) (hg : fI s 2066437804 = g + 1) (h60 : 0 ≤ g) (h61 : g < 590) (hz : aI s 35 g = 2) (q : kd l t = 5) (r : sI l t = 44) (g0 : 0 ≤ aI s 37 g) (gb1 : aI s 37 g ≤ fI s 2234209964) (hq3 : fI s 2234209964 < 482) (hl1 : t + 1 < l.length) (h8 : fI s 2234209964 + 1 - aI s 37 g = 8) : MCall 53566130 g s ((uI (uI (uI (vJ' (vI' s 44 (fI s 2234209964) (fI s 2133546668)) 45 (fI s 2234209964) 0) 2234209964 (fI s 2234209964 + 1)) 1764447916 ((t : Int) + 1)) 1772836524 (pl l (t + 1)))) := by
  have ha : fI s 1764447916 = t := M.1.2.1
  have T := M.1.1
  have hlt : t < l.length := M.1.a
  have hl2 := T.2.1
  have ho := M.2.1
  have hbad := M.2.2.1
  have b1 : (0 : Int) ≤ t := by omega
  have b2 : (t : Int) < 490 := by omega
  have b3 : (0 : Int) ≤ (t : Int) + 1 := by omega
  have b4 : (t : Int) + 1 < 490 := by omega
  have b5 : (0 : Int) ≤ o := by omega
  have b6 : (o : Int) < 25 := by omega
  have b7 : (0 : Int) ≤ g + 1 := by omega
  have b8 : g + 1 < 601 := by omega
  have b9 : g + 1 < 600 := by omega
  have g1 : g < 600 := by omega
  have hm1 : 0 ≤ fI s 1789613740 := by have := M.2.2.2.2; omega
  have hm2 : fI s 1789613740 < 12000 := by have := M.2.2.2.2; omega
  have hq1 : 0 ≤ fI s 2234209964 := by have := M.2.2.2.2; omega
  have hq2 : fI s 2234209964 < 490 := by have := M.2.2.2.2; omega
  obtain ⟨e1, e2, e3, e4⟩ := T.at' hlt
  obtain ⟨f1, f2, f3, f4⟩ := T.at' hl1
  rw [show ((t + 1 : Nat) : Int) = (t : Int) + 1 by omega] at f1 f2 f3 f4
  intro b m d B C
  simp (config := {implicitDefEqProofs := false}) only [e_X10_declarer, k_X10_declarer_0, k_X10_declarer_52, k_X10_declarer_57, k_X10_declarer_60, k_X10_declarer_82, k_X10_declarer_86, k_X10_declarer_88, k_X10_declarer_101, k_X10_declarer_104, k_X10_declarer_107, k_X10_declarer_146, k_X10_declarer_149, k_X10_declarer_170, k_X10_declarer_173, k_X10_declarer_176, k_X10_declarer_181, e_X10_nextMember, k_X10_nextMember_0, k_X10_nextMember_6, k_X10_nextMember_9, k_X10_nextMember_35, k_X10_nextMember_39, k_X10_nextMember_41, k_X10_nextMember_50, k_X10_nextMember_52, k_X10_nextMember_58, k_X10_nextMember_61, k_X10_nextMember_62, k_X10_nextMember_72, k_X10_nextMember_88, k_X10_nextMember_92, k_X10_nextMember_99, k_X10_nextMember_104, k_X10_nextMember_106, k_X10_nextMember_110, k_X10_nextMember_128, bnd_v, bnd_x, pu_s, pu_n, b01_T, b01_F, Int.reduceEq, Int.reduceLT, Int.reduceLE, Int.reduceNe, Nat.reduceEqDiff, Nat.reduceLeDiff, and_false, false_and, and_true, true_and, or_false, false_or, or_true, true_or, if_true, if_false, not_true_eq_false, not_false_eq_true, eq_self, ne_eq, reduceCtorEq, false_implies, true_implies, implies_true, fI_uI, fI_uJ, fI_vI, fI_vJ, fJ_uI, fJ_uJ, fJ_vI, fJ_vJ, aI_uI, aI_uJ, aI_vI, aI_vJ, aJ_uI, aJ_uJ, aJ_vI, aJ_vJ, inA, mr_isSign, mr_isKept, mr_fails, mr_takeSign, mr_takeKept, mr_opens, mr_opensSign, mr_closesSign, mf_newNode, mf_newMode, mf_child, mf_push, mf_give, mf_giveRoutine, mf_giveMode, tkd, tis, tpl, fI_uI, fI_uJ, fI_vI, fI_vJ, fJ_uI, fJ_uJ, fJ_vI, fJ_vJ, aI_uI, aI_uJ, aI_vI, aI_vJ, aJ_uI, aJ_uJ, aJ_vI, aJ_vJ, fI_nodeS, aI_nodeS, aJ_nodeS, fI_modeS, aI_modeS, aJ_modeS, fI_pushS, aI_pushS, aJ_pushS, fI_giveS, aI_giveS, aJ_giveS, fI_gmodeS, aI_gmodeS, aJ_gmodeS, fI_childS, aJ_childS, B, hz, hg, ha, ho, b1, b2, b3, b4, b5, b6, b7, b8, b9, h60, g1, hbad, hm1, hm2, hq1, hq2, e1, e2, e3, e4, w32_id (x := (t : Int) + 1) (by omega) (by omega), w32_id (x := fI s 2234209964 + 1) (by omega) (by omega), w32_id (x := (o : Int) - 1) (by omega) (by omega), f1, f2, f3, f4, g0, gb1, w32_id (x := fI s 2234209964 + 1 - aI s 37 g) (by omega) (by omega), q, r, h8, (show w32 8 = 8 from rfl)]

theorem mc_bad2 (M : MJ s l t o PR) (ho24 : o ≤ 24) (hg : fI s 2066437804 = g + 1) (h60 : 0 ≤ g) (h61 : g < 590) (hz : aI s 35 g = 2) (q : ¬ (kd l t = 5 ∧ sI l t = 44)) (r : ¬ (kd l t = 5 ∧ sI l t = 41)) (g0 : 0 ≤ aI s 37 g) (gb1 : aI s 37 g ≤ fI s 2234209964) (hq3 : fI s 2234209964 < 482) : MCall 53566130 g s ((uI (uI (vJ' (vI' s 44 (fI s 2234209964) (fI s 2133546668)) 45 (fI s 2234209964) 0) 2234209964 (fI s 2234209964 + 1)) 1772836524 (pl l t))) := by
  have ha : fI s 1764447916 = t := M.1.2.1
  have T := M.1.1
  have hlt : t < l.length := M.1.a
  have hl2 := T.2.1
  have ho := M.2.1
  have hbad := M.2.2.1
  have b1 : (0 : Int) ≤ t := by omega
  have b2 : (t : Int) < 490 := by omega
  have b3 : (0 : Int) ≤ (t : Int) + 1 := by omega
  have b4 : (t : Int) + 1 < 490 := by omega
  have b5 : (0 : Int) ≤ o := by omega
  have b6 : (o : Int) < 25 := by omega
  have b7 : (0 : Int) ≤ g + 1 := by omega
  have b8 : g + 1 < 601 := by omega
  have b9 : g + 1 < 600 := by omega
  have g1 : g < 600 := by omega
  have hm1 : 0 ≤ fI s 1789613740 := by have := M.2.2.2.2; omega
  have hm2 : fI s 1789613740 < 12000 := by have := M.2.2.2.2; omega
  have hq1 : 0 ≤ fI s 2234209964 := by have := M.2.2.2.2; omega
  have hq2 : fI s 2234209964 < 490 := by have := M.2.2.2.2; omega
  obtain ⟨e1, e2, e3, e4⟩ := T.at' hlt
  intro b m d B C
  simp (config := {implicitDefEqProofs := false}) only [e_X10_declarer, k_X10_declarer_0, k_X10_declarer_52, k_X10_declarer_57, k_X10_declarer_60, k_X10_declarer_82, k_X10_declarer_86, k_X10_declarer_88, k_X10_declarer_101, k_X10_declarer_104, k_X10_declarer_107, k_X10_declarer_146, k_X10_declarer_149, k_X10_declarer_170, k_X10_declarer_173, k_X10_declarer_176, k_X10_declarer_181, e_X10_nextMember, k_X10_nextMember_0, k_X10_nextMember_6, k_X10_nextMember_9, k_X10_nextMember_35, k_X10_nextMember_39, k_X10_nextMember_41, k_X10_nextMember_50, k_X10_nextMember_52, k_X10_nextMember_58, k_X10_nextMember_61, k_X10_nextMember_62, k_X10_nextMember_72, k_X10_nextMember_88, k_X10_nextMember_92, k_X10_nextMember_99, k_X10_nextMember_104, k_X10_nextMember_106, k_X10_nextMember_110, k_X10_nextMember_128, bnd_v, bnd_x, pu_s, pu_n, b01_T, b01_F, Int.reduceEq, Int.reduceLT, Int.reduceLE, Int.reduceNe, Nat.reduceEqDiff, Nat.reduceLeDiff, and_false, false_and, and_true, true_and, or_false, false_or, or_true, true_or, if_true, if_false, not_true_eq_false, not_false_eq_true, eq_self, ne_eq, reduceCtorEq, false_implies, true_implies, implies_true, fI_uI, fI_uJ, fI_vI, fI_vJ, fJ_uI, fJ_uJ, fJ_vI, fJ_vJ, aI_uI, aI_uJ, aI_vI, aI_vJ, aJ_uI, aJ_uJ, aJ_vI, aJ_vJ, inA, mr_isSign, mr_isKept, mr_fails, mr_takeSign, mr_takeKept, mr_opens, mr_opensSign, mr_closesSign, mf_newNode, mf_newMode, mf_child, mf_push, mf_give, mf_giveRoutine, mf_giveMode, tkd, tis, tpl, fI_uI, fI_uJ, fI_vI, fI_vJ, fJ_uI, fJ_uJ, fJ_vI, fJ_vJ, aI_uI, aI_uJ, aI_vI, aI_vJ, aJ_uI, aJ_uJ, aJ_vI, aJ_vJ, fI_nodeS, aI_nodeS, aJ_nodeS, fI_modeS, aI_modeS, aJ_modeS, fI_pushS, aI_pushS, aJ_pushS, fI_giveS, aI_giveS, aJ_giveS, fI_gmodeS, aI_gmodeS, aJ_gmodeS, fI_childS, aJ_childS, B, hz, hg, ha, ho, b1, b2, b3, b4, b5, b6, b7, b8, b9, h60, g1, hbad, hm1, hm2, hq1, hq2, e1, e2, e3, e4, w32_id (x := (t : Int) + 1) (by omega) (by omega), w32_id (x := fI s 2234209964 + 1) (by omega) (by omega), w32_id (x := (o : Int) - 1) (by omega) (by omega), g0, gb1, w32_id (x := fI s 2234209964 + 1 - aI s 37 g) (by omega) (by omega), q, r]

theorem mc_more7 (M : MJ s l t o PR) (ho24 : o ≤ 24) (hg : fI s 2066437804 = g + 1) (h60 : 0 ≤ g) (h61 : g < 590) (hz : aI s 35 g = 7) (q : kd l t = 5) (r : sI l t = 44) (g0 : 0 ≤ aI s 37 g) (gb1 : aI s 37 g ≤ fI s 2234209964) (hq3 : fI s 2234209964 < 482) (h8 : ¬ fI s 2234209964 + 1 - aI s 37 g = 8) : MCall 53566130 g s (pushS (uI (uI (vJ' (vI' s 44 (fI s 2234209964) (fI s 2133546668)) 45 (fI s 2234209964) 0) 2234209964 (fI s 2234209964 + 1)) 1764447916 ((t : Int) + 1)) 4 0 0 0 0) := by
  have ha : fI s 1764447916 = t := M.1.2.1
  have T := M.1.1
  have hlt : t < l.length := M.1.a
  have hl2 := T.2.1
  have ho := M.2.1
  have hbad := M.2.2.1
  have b1 : (0 : Int) ≤ t := by omega
  have b2 : (t : Int) < 490 := by omega
  have b3 : (0 : Int) ≤ (t : Int) + 1 := by omega
  have b4 : (t : Int) + 1 < 490 := by omega
  have b5 : (0 : Int) ≤ o := by omega
  have b6 : (o : Int) < 25 := by omega
  have b7 : (0 : Int) ≤ g + 1 := by omega
  have b8 : g + 1 < 601 := by omega
  have b9 : g + 1 < 600 := by omega
  have g1 : g < 600 := by omega
  have hm1 : 0 ≤ fI s 1789613740 := by have := M.2.2.2.2; omega
  have hm2 : fI s 1789613740 < 12000 := by have := M.2.2.2.2; omega
  have hq1 : 0 ≤ fI s 2234209964 := by have := M.2.2.2.2; omega
  have hq2 : fI s 2234209964 < 490 := by have := M.2.2.2.2; omega
  obtain ⟨e1, e2, e3, e4⟩ := T.at' hlt
  intro b m d B C
  simp (config := {implicitDefEqProofs := false}) only [e_X10_declarer, k_X10_declarer_0, k_X10_declarer_52, k_X10_declarer_57, k_X10_declarer_60, k_X10_declarer_82, k_X10_declarer_86, k_X10_declarer_88, k_X10_declarer_101, k_X10_declarer_104, k_X10_declarer_107, k_X10_declarer_146, k_X10_declarer_149, k_X10_declarer_170, k_X10_declarer_173, k_X10_declarer_176, k_X10_declarer_181, e_X10_nextMember, k_X10_nextMember_0, k_X10_nextMember_6, k_X10_nextMember_9, k_X10_nextMember_35, k_X10_nextMember_39, k_X10_nextMember_41, k_X10_nextMember_50, k_X10_nextMember_52, k_X10_nextMember_58, k_X10_nextMember_61, k_X10_nextMember_62, k_X10_nextMember_72, k_X10_nextMember_88, k_X10_nextMember_92, k_X10_nextMember_99, k_X10_nextMember_104, k_X10_nextMember_106, k_X10_nextMember_110, k_X10_nextMember_128, bnd_v, bnd_x, pu_s, pu_n, b01_T, b01_F, Int.reduceEq, Int.reduceLT, Int.reduceLE, Int.reduceNe, Nat.reduceEqDiff, Nat.reduceLeDiff, and_false, false_and, and_true, true_and, or_false, false_or, or_true, true_or, if_true, if_false, not_true_eq_false, not_false_eq_true, eq_self, ne_eq, reduceCtorEq, false_implies, true_implies, implies_true, fI_uI, fI_uJ, fI_vI, fI_vJ, fJ_uI, fJ_uJ, fJ_vI, fJ_vJ, aI_uI, aI_uJ, aI_vI, aI_vJ, aJ_uI, aJ_uJ, aJ_vI, aJ_vJ, inA, mr_isSign, mr_isKept, mr_fails, mr_takeSign, mr_takeKept, mr_opens, mr_opensSign, mr_closesSign, mf_newNode, mf_newMode, mf_child, mf_push, mf_give, mf_giveRoutine, mf_giveMode, tkd, tis, tpl, fI_uI, fI_uJ, fI_vI, fI_vJ, fJ_uI, fJ_uJ, fJ_vI, fJ_vJ, aI_uI, aI_uJ, aI_vI, aI_vJ, aJ_uI, aJ_uJ, aJ_vI, aJ_vJ, fI_nodeS, aI_nodeS, aJ_nodeS, fI_modeS, aI_modeS, aJ_modeS, fI_pushS, aI_pushS, aJ_pushS, fI_giveS, aI_giveS, aJ_giveS, fI_gmodeS, aI_gmodeS, aJ_gmodeS, fI_childS, aJ_childS, B, hz, hg, ha, ho, b1, b2, b3, b4, b5, b6, b7, b8, b9, h60, g1, hbad, hm1, hm2, hq1, hq2, e1, e2, e3, e4, w32_id (x := (t : Int) + 1) (by omega) (by omega), w32_id (x := fI s 2234209964 + 1) (by omega) (by omega), w32_id (x := (o : Int) - 1) (by omega) (by omega), g0, gb1, w32_id (x := fI s 2234209964 + 1 - aI s 37 g) (by omega) (by omega), q, r, h8]

theorem mc_full7 (M : MJ s l t o PR) (ho24 : o ≤ 24) (hg : fI s 2066437804 = g + 1) (h60 : 0 ≤ g) (h61 : g < 590) (hz : aI s 35 g = 7) (q : kd l t = 5) (r : sI l t = 44) (g0 : 0 ≤ aI s 37 g) (gb1 : aI s 37 g ≤ fI s 2234209964) (hq3 : fI s 2234209964 < 482) (hl1 : t + 1 < l.length) (h8 : fI s 2234209964 + 1 - aI s 37 g = 8) : MCall 53566130 g s ((uI (uI (uI (vJ' (vI' s 44 (fI s 2234209964) (fI s 2133546668)) 45 (fI s 2234209964) 0) 2234209964 (fI s 2234209964 + 1)) 1764447916 ((t : Int) + 1)) 1772836524 (pl l (t + 1)))) := by
  have ha : fI s 1764447916 = t := M.1.2.1
  have T := M.1.1
  have hlt : t < l.length := M.1.a
  have hl2 := T.2.1
  have ho := M.2.1
  have hbad := M.2.2.1
  have b1 : (0 : Int) ≤ t := by omega
  have b2 : (t : Int) < 490 := by omega
  have b3 : (0 : Int) ≤ (t : Int) + 1 := by omega
  have b4 : (t : Int) + 1 < 490 := by omega
  have b5 : (0 : Int) ≤ o := by omega
  have b6 : (o : Int) < 25 := by omega
  have b7 : (0 : Int) ≤ g + 1 := by omega
  have b8 : g + 1 < 601 := by omega
  have b9 : g + 1 < 600 := by omega
  have g1 : g < 600 := by omega
  have hm1 : 0 ≤ fI s 1789613740 := by have := M.2.2.2.2; omega
  have hm2 : fI s 1789613740 < 12000 := by have := M.2.2.2.2; omega
  have hq1 : 0 ≤ fI s 2234209964 := by have := M.2.2.2.2; omega
  have hq2 : fI s 2234209964 < 490 := by have := M.2.2.2.2; omega
  obtain ⟨e1, e2, e3, e4⟩ := T.at' hlt
  obtain ⟨f1, f2, f3, f4⟩ := T.at' hl1
  rw [show ((t + 1 : Nat) : Int) = (t : Int) + 1 by omega] at f1 f2 f3 f4
  intro b m d B C
  simp (config := {implicitDefEqProofs := false}) only [e_X10_declarer, k_X10_declarer_0, k_X10_declarer_52, k_X10_declarer_57, k_X10_declarer_60, k_X10_declarer_82, k_X10_declarer_86, k_X10_declarer_88, k_X10_declarer_101, k_X10_declarer_104, k_X10_declarer_107, k_X10_declarer_146, k_X10_declarer_149, k_X10_declarer_170, k_X10_declarer_173, k_X10_declarer_176, k_X10_declarer_181, e_X10_nextMember, k_X10_nextMember_0, k_X10_nextMember_6, k_X10_nextMember_9, k_X10_nextMember_35, k_X10_nextMember_39, k_X10_nextMember_41, k_X10_nextMember_50, k_X10_nextMember_52, k_X10_nextMember_58, k_X10_nextMember_61, k_X10_nextMember_62, k_X10_nextMember_72, k_X10_nextMember_88, k_X10_nextMember_92, k_X10_nextMember_99, k_X10_nextMember_104, k_X10_nextMember_106, k_X10_nextMember_110, k_X10_nextMember_128, bnd_v, bnd_x, pu_s, pu_n, b01_T, b01_F, Int.reduceEq, Int.reduceLT, Int.reduceLE, Int.reduceNe, Nat.reduceEqDiff, Nat.reduceLeDiff, and_false, false_and, and_true, true_and, or_false, false_or, or_true, true_or, if_true, if_false, not_true_eq_false, not_false_eq_true, eq_self, ne_eq, reduceCtorEq, false_implies, true_implies, implies_true, fI_uI, fI_uJ, fI_vI, fI_vJ, fJ_uI, fJ_uJ, fJ_vI, fJ_vJ, aI_uI, aI_uJ, aI_vI, aI_vJ, aJ_uI, aJ_uJ, aJ_vI, aJ_vJ, inA, mr_isSign, mr_isKept, mr_fails, mr_takeSign, mr_takeKept, mr_opens, mr_opensSign, mr_closesSign, mf_newNode, mf_newMode, mf_child, mf_push, mf_give, mf_giveRoutine, mf_giveMode, tkd, tis, tpl, fI_uI, fI_uJ, fI_vI, fI_vJ, fJ_uI, fJ_uJ, fJ_vI, fJ_vJ, aI_uI, aI_uJ, aI_vI, aI_vJ, aJ_uI, aJ_uJ, aJ_vI, aJ_vJ, fI_nodeS, aI_nodeS, aJ_nodeS, fI_modeS, aI_modeS, aJ_modeS, fI_pushS, aI_pushS, aJ_pushS, fI_giveS, aI_giveS, aJ_giveS, fI_gmodeS, aI_gmodeS, aJ_gmodeS, fI_childS, aJ_childS, B, hz, hg, ha, ho, b1, b2, b3, b4, b5, b6, b7, b8, b9, h60, g1, hbad, hm1, hm2, hq1, hq2, e1, e2, e3, e4, w32_id (x := (t : Int) + 1) (by omega) (by omega), w32_id (x := fI s 2234209964 + 1) (by omega) (by omega), w32_id (x := (o : Int) - 1) (by omega) (by omega), f1, f2, f3, f4, g0, gb1, w32_id (x := fI s 2234209964 + 1 - aI s 37 g) (by omega) (by omega), q, r, h8, (show w32 8 = 8 from rfl)]

theorem mc_bad7 (M : MJ s l t o PR) (ho24 : o ≤ 24) (hg : fI s 2066437804 = g + 1) (h60 : 0 ≤ g) (h61 : g < 590) (hz : aI s 35 g = 7) (q : ¬ (kd l t = 5 ∧ sI l t = 44)) (r : ¬ (kd l t = 5 ∧ sI l t = 41)) (g0 : 0 ≤ aI s 37 g) (gb1 : aI s 37 g ≤ fI s 2234209964) (hq3 : fI s 2234209964 < 482) : MCall 53566130 g s ((uI (uI (vJ' (vI' s 44 (fI s 2234209964) (fI s 2133546668)) 45 (fI s 2234209964) 0) 2234209964 (fI s 2234209964 + 1)) 1772836524 (pl l t))) := by
  have ha : fI s 1764447916 = t := M.1.2.1
  have T := M.1.1
  have hlt : t < l.length := M.1.a
  have hl2 := T.2.1
  have ho := M.2.1
  have hbad := M.2.2.1
  have b1 : (0 : Int) ≤ t := by omega
  have b2 : (t : Int) < 490 := by omega
  have b3 : (0 : Int) ≤ (t : Int) + 1 := by omega
  have b4 : (t : Int) + 1 < 490 := by omega
  have b5 : (0 : Int) ≤ o := by omega
  have b6 : (o : Int) < 25 := by omega
  have b7 : (0 : Int) ≤ g + 1 := by omega
  have b8 : g + 1 < 601 := by omega
  have b9 : g + 1 < 600 := by omega
  have g1 : g < 600 := by omega
  have hm1 : 0 ≤ fI s 1789613740 := by have := M.2.2.2.2; omega
  have hm2 : fI s 1789613740 < 12000 := by have := M.2.2.2.2; omega
  have hq1 : 0 ≤ fI s 2234209964 := by have := M.2.2.2.2; omega
  have hq2 : fI s 2234209964 < 490 := by have := M.2.2.2.2; omega
  obtain ⟨e1, e2, e3, e4⟩ := T.at' hlt
  intro b m d B C
  simp (config := {implicitDefEqProofs := false}) only [e_X10_declarer, k_X10_declarer_0, k_X10_declarer_52, k_X10_declarer_57, k_X10_declarer_60, k_X10_declarer_82, k_X10_declarer_86, k_X10_declarer_88, k_X10_declarer_101, k_X10_declarer_104, k_X10_declarer_107, k_X10_declarer_146, k_X10_declarer_149, k_X10_declarer_170, k_X10_declarer_173, k_X10_declarer_176, k_X10_declarer_181, e_X10_nextMember, k_X10_nextMember_0, k_X10_nextMember_6, k_X10_nextMember_9, k_X10_nextMember_35, k_X10_nextMember_39, k_X10_nextMember_41, k_X10_nextMember_50, k_X10_nextMember_52, k_X10_nextMember_58, k_X10_nextMember_61, k_X10_nextMember_62, k_X10_nextMember_72, k_X10_nextMember_88, k_X10_nextMember_92, k_X10_nextMember_99, k_X10_nextMember_104, k_X10_nextMember_106, k_X10_nextMember_110, k_X10_nextMember_128, bnd_v, bnd_x, pu_s, pu_n, b01_T, b01_F, Int.reduceEq, Int.reduceLT, Int.reduceLE, Int.reduceNe, Nat.reduceEqDiff, Nat.reduceLeDiff, and_false, false_and, and_true, true_and, or_false, false_or, or_true, true_or, if_true, if_false, not_true_eq_false, not_false_eq_true, eq_self, ne_eq, reduceCtorEq, false_implies, true_implies, implies_true, fI_uI, fI_uJ, fI_vI, fI_vJ, fJ_uI, fJ_uJ, fJ_vI, fJ_vJ, aI_uI, aI_uJ, aI_vI, aI_vJ, aJ_uI, aJ_uJ, aJ_vI, aJ_vJ, inA, mr_isSign, mr_isKept, mr_fails, mr_takeSign, mr_takeKept, mr_opens, mr_opensSign, mr_closesSign, mf_newNode, mf_newMode, mf_child, mf_push, mf_give, mf_giveRoutine, mf_giveMode, tkd, tis, tpl, fI_uI, fI_uJ, fI_vI, fI_vJ, fJ_uI, fJ_uJ, fJ_vI, fJ_vJ, aI_uI, aI_uJ, aI_vI, aI_vJ, aJ_uI, aJ_uJ, aJ_vI, aJ_vJ, fI_nodeS, aI_nodeS, aJ_nodeS, fI_modeS, aI_modeS, aJ_modeS, fI_pushS, aI_pushS, aJ_pushS, fI_giveS, aI_giveS, aJ_giveS, fI_gmodeS, aI_gmodeS, aJ_gmodeS, fI_childS, aJ_childS, B, hz, hg, ha, ho, b1, b2, b3, b4, b5, b6, b7, b8, b9, h60, g1, hbad, hm1, hm2, hq1, hq2, e1, e2, e3, e4, w32_id (x := (t : Int) + 1) (by omega) (by omega), w32_id (x := fI s 2234209964 + 1) (by omega) (by omega), w32_id (x := (o : Int) - 1) (by omega) (by omega), g0, gb1, w32_id (x := fI s 2234209964 + 1 - aI s 37 g) (by omega) (by omega), q, r]

theorem mc_proc (M : MJ s l t o PR) (ho24 : o ≤ 24) (hg : fI s 2066437804 = g + 1) (h60 : 0 ≤ g) (h61 : g < 590) (hz : aI s 35 g = 2) (q : kd l t = 5) (r : sI l t = 41) (g0 : 0 ≤ aI s 37 g) (gb1 : aI s 37 g ≤ fI s 2234209964) (hq3 : fI s 2234209964 < 482) : MCall 53566130 g s (pushS (vI' (uI (uI (uI (vJ' (vI' s 44 (fI s 2234209964) (fI s 2133546668)) 45 (fI s 2234209964) 0) 2234209964 (fI s 2234209964 + 1)) 1764447916 ((t : Int) + 1)) 1781225132 ((o : Int) - 1)) 35 g 3) 4 0 1 0 0) := by
  have ha : fI s 1764447916 = t := M.1.2.1
  have T := M.1.1
  have hlt : t < l.length := M.1.a
  have hl2 := T.2.1
  have ho := M.2.1
  have hbad := M.2.2.1
  have b1 : (0 : Int) ≤ t := by omega
  have b2 : (t : Int) < 490 := by omega
  have b3 : (0 : Int) ≤ (t : Int) + 1 := by omega
  have b4 : (t : Int) + 1 < 490 := by omega
  have b5 : (0 : Int) ≤ o := by omega
  have b6 : (o : Int) < 25 := by omega
  have b7 : (0 : Int) ≤ g + 1 := by omega
  have b8 : g + 1 < 601 := by omega
  have b9 : g + 1 < 600 := by omega
  have g1 : g < 600 := by omega
  have hm1 : 0 ≤ fI s 1789613740 := by have := M.2.2.2.2; omega
  have hm2 : fI s 1789613740 < 12000 := by have := M.2.2.2.2; omega
  have hq1 : 0 ≤ fI s 2234209964 := by have := M.2.2.2.2; omega
  have hq2 : fI s 2234209964 < 490 := by have := M.2.2.2.2; omega
  obtain ⟨e1, e2, e3, e4⟩ := T.at' hlt
  intro b m d B C
  simp (config := {implicitDefEqProofs := false}) only [e_X10_declarer, k_X10_declarer_0, k_X10_declarer_52, k_X10_declarer_57, k_X10_declarer_60, k_X10_declarer_82, k_X10_declarer_86, k_X10_declarer_88, k_X10_declarer_101, k_X10_declarer_104, k_X10_declarer_107, k_X10_declarer_146, k_X10_declarer_149, k_X10_declarer_170, k_X10_declarer_173, k_X10_declarer_176, k_X10_declarer_181, e_X10_nextMember, k_X10_nextMember_0, k_X10_nextMember_6, k_X10_nextMember_9, k_X10_nextMember_35, k_X10_nextMember_39, k_X10_nextMember_41, k_X10_nextMember_50, k_X10_nextMember_52, k_X10_nextMember_58, k_X10_nextMember_61, k_X10_nextMember_62, k_X10_nextMember_72, k_X10_nextMember_88, k_X10_nextMember_92, k_X10_nextMember_99, k_X10_nextMember_104, k_X10_nextMember_106, k_X10_nextMember_110, k_X10_nextMember_128, bnd_v, bnd_x, pu_s, pu_n, b01_T, b01_F, Int.reduceEq, Int.reduceLT, Int.reduceLE, Int.reduceNe, Nat.reduceEqDiff, Nat.reduceLeDiff, and_false, false_and, and_true, true_and, or_false, false_or, or_true, true_or, if_true, if_false, not_true_eq_false, not_false_eq_true, eq_self, ne_eq, reduceCtorEq, false_implies, true_implies, implies_true, fI_uI, fI_uJ, fI_vI, fI_vJ, fJ_uI, fJ_uJ, fJ_vI, fJ_vJ, aI_uI, aI_uJ, aI_vI, aI_vJ, aJ_uI, aJ_uJ, aJ_vI, aJ_vJ, inA, mr_isSign, mr_isKept, mr_fails, mr_takeSign, mr_takeKept, mr_opens, mr_opensSign, mr_closesSign, mf_newNode, mf_newMode, mf_child, mf_push, mf_give, mf_giveRoutine, mf_giveMode, tkd, tis, tpl, fI_uI, fI_uJ, fI_vI, fI_vJ, fJ_uI, fJ_uJ, fJ_vI, fJ_vJ, aI_uI, aI_uJ, aI_vI, aI_vJ, aJ_uI, aJ_uJ, aJ_vI, aJ_vJ, fI_nodeS, aI_nodeS, aJ_nodeS, fI_modeS, aI_modeS, aJ_modeS, fI_pushS, aI_pushS, aJ_pushS, fI_giveS, aI_giveS, aJ_giveS, fI_gmodeS, aI_gmodeS, aJ_gmodeS, fI_childS, aJ_childS, B, hz, hg, ha, ho, b1, b2, b3, b4, b5, b6, b7, b8, b9, h60, g1, hbad, hm1, hm2, hq1, hq2, e1, e2, e3, e4, w32_id (x := (t : Int) + 1) (by omega) (by omega), w32_id (x := fI s 2234209964 + 1) (by omega) (by omega), w32_id (x := (o : Int) - 1) (by omega) (by omega), g0, gb1, w32_id (x := fI s 2234209964 + 1 - aI s 37 g) (by omega) (by omega), q, r]

theorem mc_union (M : MJ s l t o PR) (ho24 : o ≤ 24) (hg : fI s 2066437804 = g + 1) (h60 : 0 ≤ g) (h61 : g < 590) (hz : aI s 35 g = 7) (q : kd l t = 5) (r : sI l t = 41) (g0 : 0 ≤ aI s 37 g) (gb1 : aI s 37 g ≤ fI s 2234209964) (hq3 : fI s 2234209964 < 482) (hl3 : 0 ≤ fI s 1848333996) (hl4 : fI s 1848333996 + fI s 2234209964 + 1 ≤ 7800) (hgc : inA (aI s 38 g) 490) : MCall 53566130 g s (gmodeS (vI' (memS (uI (uI (uI (vJ' (vI' s 44 (fI s 2234209964) (fI s 2133546668)) 45 (fI s 2234209964) 0) 2234209964 (fI s 2234209964 + 1)) 1764447916 ((t : Int) + 1)) 1781225132 ((o : Int) - 1)) g 8 (-1)) 33 (aI s 38 g) (fI s 1789613740)) (fI s 1789613740)) := by
  have ha : fI s 1764447916 = t := M.1.2.1
  have T := M.1.1
  have hlt : t < l.length := M.1.a
  have hl2 := T.2.1
  have ho := M.2.1
  have hbad := M.2.2.1
  have b1 : (0 : Int) ≤ t := by omega
  have b2 : (t : Int) < 490 := by omega
  have b3 : (0 : Int) ≤ (t : Int) + 1 := by omega
  have b4 : (t : Int) + 1 < 490 := by omega
  have b5 : (0 : Int) ≤ o := by omega
  have b6 : (o : Int) < 25 := by omega
  have b7 : (0 : Int) ≤ g + 1 := by omega
  have b8 : g + 1 < 601 := by omega
  have b9 : g + 1 < 600 := by omega
  have g1 : g < 600 := by omega
  have hm1 : 0 ≤ fI s 1789613740 := by have := M.2.2.2.2; omega
  have hm2 : fI s 1789613740 < 12000 := by have := M.2.2.2.2; omega
  have hq1 : 0 ≤ fI s 2234209964 := by have := M.2.2.2.2; omega
  have hq2 : fI s 2234209964 < 490 := by have := M.2.2.2.2; omega
  obtain ⟨e1, e2, e3, e4⟩ := T.at' hlt
  intro b m d B C
  simp (config := {implicitDefEqProofs := false}) only [e_X10_declarer, k_X10_declarer_0, k_X10_declarer_52, k_X10_declarer_57, k_X10_declarer_60, k_X10_declarer_82, k_X10_declarer_86, k_X10_declarer_88, k_X10_declarer_101, k_X10_declarer_104, k_X10_declarer_107, k_X10_declarer_146, k_X10_declarer_149, k_X10_declarer_170, k_X10_declarer_173, k_X10_declarer_176, k_X10_declarer_181, e_X10_nextMember, k_X10_nextMember_0, k_X10_nextMember_6, k_X10_nextMember_9, k_X10_nextMember_35, k_X10_nextMember_39, k_X10_nextMember_41, k_X10_nextMember_50, k_X10_nextMember_52, k_X10_nextMember_58, k_X10_nextMember_61, k_X10_nextMember_62, k_X10_nextMember_72, k_X10_nextMember_88, k_X10_nextMember_92, k_X10_nextMember_99, k_X10_nextMember_104, k_X10_nextMember_106, k_X10_nextMember_110, k_X10_nextMember_128, bnd_v, bnd_x, pu_s, pu_n, b01_T, b01_F, Int.reduceEq, Int.reduceLT, Int.reduceLE, Int.reduceNe, Nat.reduceEqDiff, Nat.reduceLeDiff, and_false, false_and, and_true, true_and, or_false, false_or, or_true, true_or, if_true, if_false, not_true_eq_false, not_false_eq_true, eq_self, ne_eq, reduceCtorEq, false_implies, true_implies, implies_true, fI_uI, fI_uJ, fI_vI, fI_vJ, fJ_uI, fJ_uJ, fJ_vI, fJ_vJ, aI_uI, aI_uJ, aI_vI, aI_vJ, aJ_uI, aJ_uJ, aJ_vI, aJ_vJ, inA, mr_isSign, mr_isKept, mr_fails, mr_takeSign, mr_takeKept, mr_opens, mr_opensSign, mr_closesSign, mf_newNode, mf_newMode, mf_child, mf_push, mf_give, mf_giveRoutine, mf_giveMode, tkd, tis, tpl, fI_uI, fI_uJ, fI_vI, fI_vJ, fJ_uI, fJ_uJ, fJ_vI, fJ_vJ, aI_uI, aI_uJ, aI_vI, aI_vJ, aJ_uI, aJ_uJ, aJ_vI, aJ_vJ, fI_nodeS, aI_nodeS, aJ_nodeS, fI_modeS, aI_modeS, aJ_modeS, fI_pushS, aI_pushS, aJ_pushS, fI_giveS, aI_giveS, aJ_giveS, fI_gmodeS, aI_gmodeS, aJ_gmodeS, fI_childS, aJ_childS, B, hz, hg, ha, ho, b1, b2, b3, b4, b5, b6, b7, b8, b9, h60, g1, hbad, hm1, hm2, hq1, hq2, e1, e2, e3, e4, w32_id (x := (t : Int) + 1) (by omega) (by omega), w32_id (x := fI s 2234209964 + 1) (by omega) (by omega), w32_id (x := (o : Int) - 1) (by omega) (by omega), g0, gb1, w32_id (x := fI s 2234209964 + 1 - aI s 37 g) (by omega) (by omega), q, r, mr_withMembers, hl3, hl4, hgc.1, hgc.2, (show fI s 2234209964 + 1 ≤ 490 by omega), (show aI s 37 g ≤ fI s 2234209964 + 1 by omega), (show fI s 1848333996 + (fI s 2234209964 + 1 - aI s 37 g) ≤ 7800 by omega), memS_f (show aI (uI (uI (uI (vJ' (vI' s 44 (fI s 2234209964) (fI s 2133546668)) 45 (fI s 2234209964) 0) 2234209964 (fI s 2234209964 + 1)) 1764447916 ((t : Int) + 1)) 1781225132 ((o : Int) - 1)) 37 g ≤ fI (uI (uI (uI (vJ' (vI' s 44 (fI s 2234209964) (fI s 2133546668)) 45 (fI s 2234209964) 0) 2234209964 (fI s 2234209964 + 1)) 1764447916 ((t : Int) + 1)) 1781225132 ((o : Int) - 1)) 2234209964 by simp only [fI_uI, fI_uJ, fI_vI, fI_vJ, fJ_uI, fJ_uJ, fJ_vI, fJ_vJ, aI_uI, aI_uJ, aI_vI, aI_vJ, aJ_uI, aJ_uJ, aJ_vI, aJ_vJ, bnd_v, bnd_x, pu_s, pu_n, b01_T, b01_F, Int.reduceEq, Int.reduceLT, Int.reduceLE, Int.reduceNe, Nat.reduceEqDiff, Nat.reduceLeDiff, and_false, false_and, and_true, true_and, or_false, false_or, or_true, true_or, if_true, if_false, not_true_eq_false, not_false_eq_true, eq_self, ne_eq, reduceCtorEq, false_implies, true_implies, implies_true]; omega), memS_a (A := 38) (by decide)]

theorem mc_proc3 (M : MJ s l t o PR) (ho24 : o ≤ 24) (hg : fI s 2066437804 = g + 1) (h60 : 0 ≤ g) (h61 : g < 590) (hz : aI s 35 g = 3) (g0 : 0 ≤ aI s 37 g) (gb1 : aI s 37 g ≤ fI s 2234209964) (hq3 : fI s 2234209964 < 482) (hl3 : 0 ≤ fI s 1848333996) (hl4 : fI s 1848333996 + fI s 2234209964 + 1 ≤ 7800) (hgc : inA (aI s 38 g) 490) : MCall 53566130 g s (gmodeS (memS (uI s 1781225132 ((o : Int) - 1)) g 5 (fI s 2133546668)) (fI s 1789613740)) := by
  have ha : fI s 1764447916 = t := M.1.2.1
  have T := M.1.1
  have hlt : t < l.length := M.1.a
  have hl2 := T.2.1
  have ho := M.2.1
  have hbad := M.2.2.1
  have b1 : (0 : Int) ≤ t := by omega
  have b2 : (t : Int) < 490 := by omega
  have b3 : (0 : Int) ≤ (t : Int) + 1 := by omega
  have b4 : (t : Int) + 1 < 490 := by omega
  have b5 : (0 : Int) ≤ o := by omega
  have b6 : (o : Int) < 25 := by omega
  have b7 : (0 : Int) ≤ g + 1 := by omega
  have b8 : g + 1 < 601 := by omega
  have b9 : g + 1 < 600 := by omega
  have g1 : g < 600 := by omega
  have hm1 : 0 ≤ fI s 1789613740 := by have := M.2.2.2.2; omega
  have hm2 : fI s 1789613740 < 12000 := by have := M.2.2.2.2; omega
  have hq1 : 0 ≤ fI s 2234209964 := by have := M.2.2.2.2; omega
  have hq2 : fI s 2234209964 < 490 := by have := M.2.2.2.2; omega
  obtain ⟨e1, e2, e3, e4⟩ := T.at' hlt
  intro b m d B C
  simp (config := {implicitDefEqProofs := false}) only [e_X10_declarer, k_X10_declarer_0, k_X10_declarer_52, k_X10_declarer_57, k_X10_declarer_60, k_X10_declarer_82, k_X10_declarer_86, k_X10_declarer_88, k_X10_declarer_101, k_X10_declarer_104, k_X10_declarer_107, k_X10_declarer_146, k_X10_declarer_149, k_X10_declarer_170, k_X10_declarer_173, k_X10_declarer_176, k_X10_declarer_181, bnd_v, bnd_x, pu_s, pu_n, b01_T, b01_F, Int.reduceEq, Int.reduceLT, Int.reduceLE, Int.reduceNe, Nat.reduceEqDiff, Nat.reduceLeDiff, and_false, false_and, and_true, true_and, or_false, false_or, or_true, true_or, if_true, if_false, not_true_eq_false, not_false_eq_true, eq_self, ne_eq, reduceCtorEq, false_implies, true_implies, implies_true, fI_uI, fI_uJ, fI_vI, fI_vJ, fJ_uI, fJ_uJ, fJ_vI, fJ_vJ, aI_uI, aI_uJ, aI_vI, aI_vJ, aJ_uI, aJ_uJ, aJ_vI, aJ_vJ, inA, mr_isSign, mr_isKept, mr_fails, mr_takeSign, mr_takeKept, mr_opens, mr_opensSign, mr_closesSign, mf_newNode, mf_newMode, mf_child, mf_push, mf_give, mf_giveRoutine, mf_giveMode, tkd, tis, tpl, fI_uI, fI_uJ, fI_vI, fI_vJ, fJ_uI, fJ_uJ, fJ_vI, fJ_vJ, aI_uI, aI_uJ, aI_vI, aI_vJ, aJ_uI, aJ_uJ, aJ_vI, aJ_vJ, fI_nodeS, aI_nodeS, aJ_nodeS, fI_modeS, aI_modeS, aJ_modeS, fI_pushS, aI_pushS, aJ_pushS, fI_giveS, aI_giveS, aJ_giveS, fI_gmodeS, aI_gmodeS, aJ_gmodeS, fI_childS, aJ_childS, B, hz, hg, ha, ho, b1, b2, b3, b4, b5, b6, b7, b8, b9, h60, g1, hbad, hm1, hm2, hq1, hq2, e1, e2, e3, e4, w32_id (x := (t : Int) + 1) (by omega) (by omega), w32_id (x := fI s 2234209964 + 1) (by omega) (by omega), w32_id (x := (o : Int) - 1) (by omega) (by omega), g0, gb1, mr_withMembers, hl3, (show fI s 2234209964 ≤ 490 by omega), (show fI s 1848333996 + (fI s 2234209964 - aI s 37 g) ≤ 7800 by omega), memS_f (show aI (uI s 1781225132 ((o : Int) - 1)) 37 g ≤ fI (uI s 1781225132 ((o : Int) - 1)) 2234209964 from gb1)]

theorem me_bad (M : MJ s l t o PR) (ho24 : o ≤ 24) (hg : fI s 2066437804 = g + 1) (h60 : 0 ≤ g) (h61 : g < 590) (hz : aI s 35 g = 6) (q : ¬ kd l t = 3) : MCall 53566130 g s ((uI s 1772836524 (pl l t))) := by
  have ha : fI s 1764447916 = t := M.1.2.1
  have T := M.1.1
  have hlt : t < l.length := M.1.a
  have hl2 := T.2.1
  have ho := M.2.1
  have hbad := M.2.2.1
  have b1 : (0 : Int) ≤ t := by omega
  have b2 : (t : Int) < 490 := by omega
  have b3 : (0 : Int) ≤ (t : Int) + 1 := by omega
  have b4 : (t : Int) + 1 < 490 := by omega
  have b5 : (0 : Int) ≤ o := by omega
  have b6 : (o : Int) < 25 := by omega
  have b7 : (0 : Int) ≤ g + 1 := by omega
  have b8 : g + 1 < 601 := by omega
  have b9 : g + 1 < 600 := by omega
  have g1 : g < 600 := by omega
  have hm1 : 0 ≤ fI s 1789613740 := by have := M.2.2.2.2; omega
  have hm2 : fI s 1789613740 < 12000 := by have := M.2.2.2.2; omega
  have hq1 : 0 ≤ fI s 2234209964 := by have := M.2.2.2.2; omega
  have hq2 : fI s 2234209964 < 490 := by have := M.2.2.2.2; omega
  obtain ⟨e1, e2, e3, e4⟩ := T.at' hlt
  intro b m d B C
  simp (config := {implicitDefEqProofs := false}) only [e_X10_declarer, k_X10_declarer_0, k_X10_declarer_52, k_X10_declarer_57, k_X10_declarer_60, k_X10_declarer_82, k_X10_declarer_86, k_X10_declarer_88, k_X10_declarer_101, k_X10_declarer_104, k_X10_declarer_107, k_X10_declarer_146, k_X10_declarer_149, k_X10_declarer_170, k_X10_declarer_173, k_X10_declarer_176, k_X10_declarer_181, e_X10_fieldEnds, k_X10_fieldEnds_0, k_X10_fieldEnds_13, k_X10_fieldEnds_17, k_X10_fieldEnds_19, k_X10_fieldEnds_26, k_X10_fieldEnds_34, k_X10_fieldEnds_53, k_X10_fieldEnds_63, k_X10_fieldEnds_69, k_X10_fieldEnds_126, bnd_v, bnd_x, pu_s, pu_n, b01_T, b01_F, Int.reduceEq, Int.reduceLT, Int.reduceLE, Int.reduceNe, Nat.reduceEqDiff, Nat.reduceLeDiff, and_false, false_and, and_true, true_and, or_false, false_or, or_true, true_or, if_true, if_false, not_true_eq_false, not_false_eq_true, eq_self, ne_eq, reduceCtorEq, false_implies, true_implies, implies_true, fI_uI, fI_uJ, fI_vI, fI_vJ, fJ_uI, fJ_uJ, fJ_vI, fJ_vJ, aI_uI, aI_uJ, aI_vI, aI_vJ, aJ_uI, aJ_uJ, aJ_vI, aJ_vJ, inA, mr_isSign, mr_isKept, mr_fails, mr_takeSign, mr_takeKept, mr_opens, mr_opensSign, mr_closesSign, mf_newNode, mf_newMode, mf_child, mf_push, mf_give, mf_giveRoutine, mf_giveMode, tkd, tis, tpl, fI_uI, fI_uJ, fI_vI, fI_vJ, fJ_uI, fJ_uJ, fJ_vI, fJ_vJ, aI_uI, aI_uJ, aI_vI, aI_vJ, aJ_uI, aJ_uJ, aJ_vI, aJ_vJ, fI_nodeS, aI_nodeS, aJ_nodeS, fI_modeS, aI_modeS, aJ_modeS, fI_pushS, aI_pushS, aJ_pushS, fI_giveS, aI_giveS, aJ_giveS, fI_gmodeS, aI_gmodeS, aJ_gmodeS, fI_childS, aJ_childS, B, hz, hg, ha, ho, b1, b2, b3, b4, b5, b6, b7, b8, b9, h60, g1, hbad, hm1, hm2, hq1, hq2, e1, e2, e3, e4, w32_id (x := (t : Int) + 1) (by omega) (by omega), w32_id (x := fI s 2234209964 + 1) (by omega) (by omega), w32_id (x := (o : Int) - 1) (by omega) (by omega), q]

theorem me_moren (M : MJ s l t o PR) (ho24 : o ≤ 24) (hg : fI s 2066437804 = g + 1) (h60 : 0 ≤ g) (h61 : g < 590) (hz : aI s 35 g = 6) (q : kd l t = 3) (hD : dupS (fI s 2234209964 - aI s 37 g).toNat s (aI s 37 g) t (wd l t) = s) (g0 : 0 ≤ aI s 37 g) (gb1 : aI s 37 g ≤ fI s 2234209964) (hq3 : fI s 2234209964 < 482) (hl1 : t + 1 < l.length) (q' : kd l (t + 1) = 5) (r' : sI l (t + 1) = 44) (h8 : ¬ fI s 2234209964 + 1 - aI s 37 g = 8) : MCall 53566130 g s (pushS (uI (uI (uI (vJ' (vI' s 44 (fI s 2234209964) (fI s 2133546668)) 45 (fI s 2234209964) (wd l t)) 2234209964 (fI s 2234209964 + 1)) 1764447916 ((t : Int) + 1)) 1764447916 ((t : Int) + 1 + 1)) 4 0 0 0 0) := by
  have ha : fI s 1764447916 = t := M.1.2.1
  have T := M.1.1
  have hlt : t < l.length := M.1.a
  have hl2 := T.2.1
  have ho := M.2.1
  have hbad := M.2.2.1
  have b1 : (0 : Int) ≤ t := by omega
  have b2 : (t : Int) < 490 := by omega
  have b3 : (0 : Int) ≤ (t : Int) + 1 := by omega
  have b4 : (t : Int) + 1 < 490 := by omega
  have b5 : (0 : Int) ≤ o := by omega
  have b6 : (o : Int) < 25 := by omega
  have b7 : (0 : Int) ≤ g + 1 := by omega
  have b8 : g + 1 < 601 := by omega
  have b9 : g + 1 < 600 := by omega
  have g1 : g < 600 := by omega
  have hm1 : 0 ≤ fI s 1789613740 := by have := M.2.2.2.2; omega
  have hm2 : fI s 1789613740 < 12000 := by have := M.2.2.2.2; omega
  have hq1 : 0 ≤ fI s 2234209964 := by have := M.2.2.2.2; omega
  have hq2 : fI s 2234209964 < 490 := by have := M.2.2.2.2; omega
  obtain ⟨e1, e2, e3, e4⟩ := T.at' hlt
  obtain ⟨f1, f2, f3, f4⟩ := T.at' hl1
  rw [show ((t + 1 : Nat) : Int) = (t : Int) + 1 by omega] at f1 f2 f3 f4
  intro b m d B C
  simp (config := {implicitDefEqProofs := false}) only [e_X10_declarer, k_X10_declarer_0, k_X10_declarer_52, k_X10_declarer_57, k_X10_declarer_60, k_X10_declarer_82, k_X10_declarer_86, k_X10_declarer_88, k_X10_declarer_101, k_X10_declarer_104, k_X10_declarer_107, k_X10_declarer_146, k_X10_declarer_149, k_X10_declarer_170, k_X10_declarer_173, k_X10_declarer_176, k_X10_declarer_181, e_X10_nextMember, k_X10_nextMember_0, k_X10_nextMember_6, k_X10_nextMember_9, k_X10_nextMember_35, k_X10_nextMember_39, k_X10_nextMember_41, k_X10_nextMember_50, k_X10_nextMember_52, k_X10_nextMember_58, k_X10_nextMember_61, k_X10_nextMember_62, k_X10_nextMember_72, k_X10_nextMember_88, k_X10_nextMember_92, k_X10_nextMember_99, k_X10_nextMember_104, k_X10_nextMember_106, k_X10_nextMember_110, k_X10_nextMember_128, bnd_v, bnd_x, pu_s, pu_n, b01_T, b01_F, Int.reduceEq, Int.reduceLT, Int.reduceLE, Int.reduceNe, Nat.reduceEqDiff, Nat.reduceLeDiff, and_false, false_and, and_true, true_and, or_false, false_or, or_true, true_or, if_true, if_false, not_true_eq_false, not_false_eq_true, eq_self, ne_eq, reduceCtorEq, false_implies, true_implies, implies_true, fI_uI, fI_uJ, fI_vI, fI_vJ, fJ_uI, fJ_uJ, fJ_vI, fJ_vJ, aI_uI, aI_uJ, aI_vI, aI_vJ, aJ_uI, aJ_uJ, aJ_vI, aJ_vJ, inA, mr_isSign, mr_isKept, mr_fails, mr_takeSign, mr_takeKept, mr_opens, mr_opensSign, mr_closesSign, mf_newNode, mf_newMode, mf_child, mf_push, mf_give, mf_giveRoutine, mf_giveMode, tkd, tis, tpl, fI_uI, fI_uJ, fI_vI, fI_vJ, fJ_uI, fJ_uJ, fJ_vI, fJ_vJ, aI_uI, aI_uJ, aI_vI, aI_vJ, aJ_uI, aJ_uJ, aJ_vI, aJ_vJ, fI_nodeS, aI_nodeS, aJ_nodeS, fI_modeS, aI_modeS, aJ_modeS, fI_pushS, aI_pushS, aJ_pushS, fI_giveS, aI_giveS, aJ_giveS, fI_gmodeS, aI_gmodeS, aJ_gmodeS, fI_childS, aJ_childS, B, hz, hg, ha, ho, b1, b2, b3, b4, b5, b6, b7, b8, b9, h60, g1, hbad, hm1, hm2, hq1, hq2, e1, e2, e3, e4, w32_id (x := (t : Int) + 1) (by omega) (by omega), w32_id (x := fI s 2234209964 + 1) (by omega) (by omega), w32_id (x := (o : Int) - 1) (by omega) (by omega), f1, f2, f3, f4, k_X10_fieldEnds_69, k_X10_fieldEnds_126, mr_dup (w := wd l t), (show fI s 2234209964 ≤ 490 by omega), hD, q, g0, gb1, w32_id (x := fI s 2234209964 + 1 - aI s 37 g) (by omega) (by omega), (show (0 : Int) ≤ (t : Int) + 1 + 1 by omega), (show (t : Int) + 1 + 1 < 490 by omega), w32_id (x := (t : Int) + 1 + 1) (by omega) (by omega), q', r', h8]

theorem me_fulln (M : MJ s l t o PR) (ho24 : o ≤ 24) (hg : fI s 2066437804 = g + 1) (h60 : 0 ≤ g) (h61 : g < 590) (hz : aI s 35 g = 6) (q : kd l t = 3) (hD : dupS (fI s 2234209964 - aI s 37 g).toNat s (aI s 37 g) t (wd l t) = s) (g0 : 0 ≤ aI s 37 g) (gb1 : aI s 37 g ≤ fI s 2234209964) (hq3 : fI s 2234209964 < 482) (hl1 : t + 1 < l.length) (q' : kd l (t + 1) = 5) (r' : sI l (t + 1) = 44) (hl2' : t + 2 < l.length) (h8 : fI s 2234209964 + 1 - aI s 37 g = 8) : MCall 53566130 g s ((uI (uI (uI (uI (vJ' (vI' s 44 (fI s 2234209964) (fI s 2133546668)) 45 (fI s 2234209964) (wd l t)) 2234209964 (fI s 2234209964 + 1)) 1764447916 ((t : Int) + 1)) 1764447916 ((t : Int) + 1 + 1)) 1772836524 (pl l (t + 2)))) := by
  have ha : fI s 1764447916 = t := M.1.2.1
  have T := M.1.1
  have hlt : t < l.length := M.1.a
  have hl2 := T.2.1
  have ho := M.2.1
  have hbad := M.2.2.1
  have b1 : (0 : Int) ≤ t := by omega
  have b2 : (t : Int) < 490 := by omega
  have b3 : (0 : Int) ≤ (t : Int) + 1 := by omega
  have b4 : (t : Int) + 1 < 490 := by omega
  have b5 : (0 : Int) ≤ o := by omega
  have b6 : (o : Int) < 25 := by omega
  have b7 : (0 : Int) ≤ g + 1 := by omega
  have b8 : g + 1 < 601 := by omega
  have b9 : g + 1 < 600 := by omega
  have g1 : g < 600 := by omega
  have hm1 : 0 ≤ fI s 1789613740 := by have := M.2.2.2.2; omega
  have hm2 : fI s 1789613740 < 12000 := by have := M.2.2.2.2; omega
  have hq1 : 0 ≤ fI s 2234209964 := by have := M.2.2.2.2; omega
  have hq2 : fI s 2234209964 < 490 := by have := M.2.2.2.2; omega
  obtain ⟨e1, e2, e3, e4⟩ := T.at' hlt
  obtain ⟨f1, f2, f3, f4⟩ := T.at' hl1
  rw [show ((t + 1 : Nat) : Int) = (t : Int) + 1 by omega] at f1 f2 f3 f4
  obtain ⟨i1, i2, i3, i4⟩ := T.at' hl2'
  rw [show ((t + 2 : Nat) : Int) = (t : Int) + 1 + 1 by omega] at i1 i2 i3 i4
  intro b m d B C
  simp (config := {implicitDefEqProofs := false}) only [e_X10_declarer, k_X10_declarer_0, k_X10_declarer_52, k_X10_declarer_57, k_X10_declarer_60, k_X10_declarer_82, k_X10_declarer_86, k_X10_declarer_88, k_X10_declarer_101, k_X10_declarer_104, k_X10_declarer_107, k_X10_declarer_146, k_X10_declarer_149, k_X10_declarer_170, k_X10_declarer_173, k_X10_declarer_176, k_X10_declarer_181, e_X10_nextMember, k_X10_nextMember_0, k_X10_nextMember_6, k_X10_nextMember_9, k_X10_nextMember_35, k_X10_nextMember_39, k_X10_nextMember_41, k_X10_nextMember_50, k_X10_nextMember_52, k_X10_nextMember_58, k_X10_nextMember_61, k_X10_nextMember_62, k_X10_nextMember_72, k_X10_nextMember_88, k_X10_nextMember_92, k_X10_nextMember_99, k_X10_nextMember_104, k_X10_nextMember_106, k_X10_nextMember_110, k_X10_nextMember_128, bnd_v, bnd_x, pu_s, pu_n, b01_T, b01_F, Int.reduceEq, Int.reduceLT, Int.reduceLE, Int.reduceNe, Nat.reduceEqDiff, Nat.reduceLeDiff, and_false, false_and, and_true, true_and, or_false, false_or, or_true, true_or, if_true, if_false, not_true_eq_false, not_false_eq_true, eq_self, ne_eq, reduceCtorEq, false_implies, true_implies, implies_true, fI_uI, fI_uJ, fI_vI, fI_vJ, fJ_uI, fJ_uJ, fJ_vI, fJ_vJ, aI_uI, aI_uJ, aI_vI, aI_vJ, aJ_uI, aJ_uJ, aJ_vI, aJ_vJ, inA, mr_isSign, mr_isKept, mr_fails, mr_takeSign, mr_takeKept, mr_opens, mr_opensSign, mr_closesSign, mf_newNode, mf_newMode, mf_child, mf_push, mf_give, mf_giveRoutine, mf_giveMode, tkd, tis, tpl, fI_uI, fI_uJ, fI_vI, fI_vJ, fJ_uI, fJ_uJ, fJ_vI, fJ_vJ, aI_uI, aI_uJ, aI_vI, aI_vJ, aJ_uI, aJ_uJ, aJ_vI, aJ_vJ, fI_nodeS, aI_nodeS, aJ_nodeS, fI_modeS, aI_modeS, aJ_modeS, fI_pushS, aI_pushS, aJ_pushS, fI_giveS, aI_giveS, aJ_giveS, fI_gmodeS, aI_gmodeS, aJ_gmodeS, fI_childS, aJ_childS, B, hz, hg, ha, ho, b1, b2, b3, b4, b5, b6, b7, b8, b9, h60, g1, hbad, hm1, hm2, hq1, hq2, e1, e2, e3, e4, w32_id (x := (t : Int) + 1) (by omega) (by omega), w32_id (x := fI s 2234209964 + 1) (by omega) (by omega), w32_id (x := (o : Int) - 1) (by omega) (by omega), f1, f2, f3, f4, k_X10_fieldEnds_69, k_X10_fieldEnds_126, mr_dup (w := wd l t), (show fI s 2234209964 ≤ 490 by omega), hD, q, g0, gb1, w32_id (x := fI s 2234209964 + 1 - aI s 37 g) (by omega) (by omega), (show (0 : Int) ≤ (t : Int) + 1 + 1 by omega), (show (t : Int) + 1 + 1 < 490 by omega), w32_id (x := (t : Int) + 1 + 1) (by omega) (by omega), q', r', h8, (show w32 8 = 8 from rfl), i1, i2, i3, i4]

theorem me_badn (M : MJ s l t o PR) (ho24 : o ≤ 24) (hg : fI s 2066437804 = g + 1) (h60 : 0 ≤ g) (h61 : g < 590) (hz : aI s 35 g = 6) (q : kd l t = 3) (hD : dupS (fI s 2234209964 - aI s 37 g).toNat s (aI s 37 g) t (wd l t) = s) (g0 : 0 ≤ aI s 37 g) (gb1 : aI s 37 g ≤ fI s 2234209964) (hq3 : fI s 2234209964 < 482) (hl1 : t + 1 < l.length) (q' : ¬ (kd l (t + 1) = 5 ∧ sI l (t + 1) = 44)) (r' : ¬ (kd l (t + 1) = 5 ∧ sI l (t + 1) = 41)) : MCall 53566130 g s ((uI (uI (uI (vJ' (vI' s 44 (fI s 2234209964) (fI s 2133546668)) 45 (fI s 2234209964) (wd l t)) 2234209964 (fI s 2234209964 + 1)) 1764447916 ((t : Int) + 1)) 1772836524 (pl l (t + 1)))) := by
  have ha : fI s 1764447916 = t := M.1.2.1
  have T := M.1.1
  have hlt : t < l.length := M.1.a
  have hl2 := T.2.1
  have ho := M.2.1
  have hbad := M.2.2.1
  have b1 : (0 : Int) ≤ t := by omega
  have b2 : (t : Int) < 490 := by omega
  have b3 : (0 : Int) ≤ (t : Int) + 1 := by omega
  have b4 : (t : Int) + 1 < 490 := by omega
  have b5 : (0 : Int) ≤ o := by omega
  have b6 : (o : Int) < 25 := by omega
  have b7 : (0 : Int) ≤ g + 1 := by omega
  have b8 : g + 1 < 601 := by omega
  have b9 : g + 1 < 600 := by omega
  have g1 : g < 600 := by omega
  have hm1 : 0 ≤ fI s 1789613740 := by have := M.2.2.2.2; omega
  have hm2 : fI s 1789613740 < 12000 := by have := M.2.2.2.2; omega
  have hq1 : 0 ≤ fI s 2234209964 := by have := M.2.2.2.2; omega
  have hq2 : fI s 2234209964 < 490 := by have := M.2.2.2.2; omega
  obtain ⟨e1, e2, e3, e4⟩ := T.at' hlt
  obtain ⟨f1, f2, f3, f4⟩ := T.at' hl1
  rw [show ((t + 1 : Nat) : Int) = (t : Int) + 1 by omega] at f1 f2 f3 f4
  intro b m d B C
  simp (config := {implicitDefEqProofs := false}) only [e_X10_declarer, k_X10_declarer_0, k_X10_declarer_52, k_X10_declarer_57, k_X10_declarer_60, k_X10_declarer_82, k_X10_declarer_86, k_X10_declarer_88, k_X10_declarer_101, k_X10_declarer_104, k_X10_declarer_107, k_X10_declarer_146, k_X10_declarer_149, k_X10_declarer_170, k_X10_declarer_173, k_X10_declarer_176, k_X10_declarer_181, e_X10_nextMember, k_X10_nextMember_0, k_X10_nextMember_6, k_X10_nextMember_9, k_X10_nextMember_35, k_X10_nextMember_39, k_X10_nextMember_41, k_X10_nextMember_50, k_X10_nextMember_52, k_X10_nextMember_58, k_X10_nextMember_61, k_X10_nextMember_62, k_X10_nextMember_72, k_X10_nextMember_88, k_X10_nextMember_92, k_X10_nextMember_99, k_X10_nextMember_104, k_X10_nextMember_106, k_X10_nextMember_110, k_X10_nextMember_128, bnd_v, bnd_x, pu_s, pu_n, b01_T, b01_F, Int.reduceEq, Int.reduceLT, Int.reduceLE, Int.reduceNe, Nat.reduceEqDiff, Nat.reduceLeDiff, and_false, false_and, and_true, true_and, or_false, false_or, or_true, true_or, if_true, if_false, not_true_eq_false, not_false_eq_true, eq_self, ne_eq, reduceCtorEq, false_implies, true_implies, implies_true, fI_uI, fI_uJ, fI_vI, fI_vJ, fJ_uI, fJ_uJ, fJ_vI, fJ_vJ, aI_uI, aI_uJ, aI_vI, aI_vJ, aJ_uI, aJ_uJ, aJ_vI, aJ_vJ, inA, mr_isSign, mr_isKept, mr_fails, mr_takeSign, mr_takeKept, mr_opens, mr_opensSign, mr_closesSign, mf_newNode, mf_newMode, mf_child, mf_push, mf_give, mf_giveRoutine, mf_giveMode, tkd, tis, tpl, fI_uI, fI_uJ, fI_vI, fI_vJ, fJ_uI, fJ_uJ, fJ_vI, fJ_vJ, aI_uI, aI_uJ, aI_vI, aI_vJ, aJ_uI, aJ_uJ, aJ_vI, aJ_vJ, fI_nodeS, aI_nodeS, aJ_nodeS, fI_modeS, aI_modeS, aJ_modeS, fI_pushS, aI_pushS, aJ_pushS, fI_giveS, aI_giveS, aJ_giveS, fI_gmodeS, aI_gmodeS, aJ_gmodeS, fI_childS, aJ_childS, B, hz, hg, ha, ho, b1, b2, b3, b4, b5, b6, b7, b8, b9, h60, g1, hbad, hm1, hm2, hq1, hq2, e1, e2, e3, e4, w32_id (x := (t : Int) + 1) (by omega) (by omega), w32_id (x := fI s 2234209964 + 1) (by omega) (by omega), w32_id (x := (o : Int) - 1) (by omega) (by omega), f1, f2, f3, f4, k_X10_fieldEnds_69, k_X10_fieldEnds_126, mr_dup (w := wd l t), (show fI s 2234209964 ≤ 490 by omega), hD, q, g0, gb1, w32_id (x := fI s 2234209964 + 1 - aI s 37 g) (by omega) (by omega), (show (0 : Int) ≤ (t : Int) + 1 + 1 by omega), (show (t : Int) + 1 + 1 < 490 by omega), w32_id (x := (t : Int) + 1 + 1) (by omega) (by omega), q', r']

theorem me_endn (M : MJ s l t o PR) (ho24 : o ≤ 24) (hg : fI s 2066437804 = g + 1) (h60 : 0 ≤ g) (h61 : g < 590) (hz : aI s 35 g = 6) (q : kd l t = 3) (hD : dupS (fI s 2234209964 - aI s 37 g).toNat s (aI s 37 g) t (wd l t) = s) (g0 : 0 ≤ aI s 37 g) (gb1 : aI s 37 g ≤ fI s 2234209964) (hq3 : fI s 2234209964 < 482) (hl1 : t + 1 < l.length) (q' : kd l (t + 1) = 5) (r' : sI l (t + 1) = 41) (hl3 : 0 ≤ fI s 1848333996) (hl4 : fI s 1848333996 + fI s 2234209964 + 1 ≤ 7800) (hgc : inA (aI s 38 g) 490) : MCall 53566130 g s (gmodeS (vI' (memS (uI (uI (uI (uI (vJ' (vI' s 44 (fI s 2234209964) (fI s 2133546668)) 45 (fI s 2234209964) (wd l t)) 2234209964 (fI s 2234209964 + 1)) 1764447916 ((t : Int) + 1)) 1764447916 ((t : Int) + 1 + 1)) 1781225132 ((o : Int) - 1)) g 7 (-1)) 33 (aI s 38 g) (fI s 1789613740)) (fI s 1789613740)) := by
  have ha : fI s 1764447916 = t := M.1.2.1
  have T := M.1.1
  have hlt : t < l.length := M.1.a
  have hl2 := T.2.1
  have ho := M.2.1
  have hbad := M.2.2.1
  have b1 : (0 : Int) ≤ t := by omega
  have b2 : (t : Int) < 490 := by omega
  have b3 : (0 : Int) ≤ (t : Int) + 1 := by omega
  have b4 : (t : Int) + 1 < 490 := by omega
  have b5 : (0 : Int) ≤ o := by omega
  have b6 : (o : Int) < 25 := by omega
  have b7 : (0 : Int) ≤ g + 1 := by omega
  have b8 : g + 1 < 601 := by omega
  have b9 : g + 1 < 600 := by omega
  have g1 : g < 600 := by omega
  have hm1 : 0 ≤ fI s 1789613740 := by have := M.2.2.2.2; omega
  have hm2 : fI s 1789613740 < 12000 := by have := M.2.2.2.2; omega
  have hq1 : 0 ≤ fI s 2234209964 := by have := M.2.2.2.2; omega
  have hq2 : fI s 2234209964 < 490 := by have := M.2.2.2.2; omega
  obtain ⟨e1, e2, e3, e4⟩ := T.at' hlt
  obtain ⟨f1, f2, f3, f4⟩ := T.at' hl1
  rw [show ((t + 1 : Nat) : Int) = (t : Int) + 1 by omega] at f1 f2 f3 f4
  intro b m d B C
  simp (config := {implicitDefEqProofs := false}) only [e_X10_declarer, k_X10_declarer_0, k_X10_declarer_52, k_X10_declarer_57, k_X10_declarer_60, k_X10_declarer_82, k_X10_declarer_86, k_X10_declarer_88, k_X10_declarer_101, k_X10_declarer_104, k_X10_declarer_107, k_X10_declarer_146, k_X10_declarer_149, k_X10_declarer_170, k_X10_declarer_173, k_X10_declarer_176, k_X10_declarer_181, e_X10_nextMember, k_X10_nextMember_0, k_X10_nextMember_6, k_X10_nextMember_9, k_X10_nextMember_35, k_X10_nextMember_39, k_X10_nextMember_41, k_X10_nextMember_50, k_X10_nextMember_52, k_X10_nextMember_58, k_X10_nextMember_61, k_X10_nextMember_62, k_X10_nextMember_72, k_X10_nextMember_88, k_X10_nextMember_92, k_X10_nextMember_99, k_X10_nextMember_104, k_X10_nextMember_106, k_X10_nextMember_110, k_X10_nextMember_128, bnd_v, bnd_x, pu_s, pu_n, b01_T, b01_F, Int.reduceEq, Int.reduceLT, Int.reduceLE, Int.reduceNe, Nat.reduceEqDiff, Nat.reduceLeDiff, and_false, false_and, and_true, true_and, or_false, false_or, or_true, true_or, if_true, if_false, not_true_eq_false, not_false_eq_true, eq_self, ne_eq, reduceCtorEq, false_implies, true_implies, implies_true, fI_uI, fI_uJ, fI_vI, fI_vJ, fJ_uI, fJ_uJ, fJ_vI, fJ_vJ, aI_uI, aI_uJ, aI_vI, aI_vJ, aJ_uI, aJ_uJ, aJ_vI, aJ_vJ, inA, mr_isSign, mr_isKept, mr_fails, mr_takeSign, mr_takeKept, mr_opens, mr_opensSign, mr_closesSign, mf_newNode, mf_newMode, mf_child, mf_push, mf_give, mf_giveRoutine, mf_giveMode, tkd, tis, tpl, fI_uI, fI_uJ, fI_vI, fI_vJ, fJ_uI, fJ_uJ, fJ_vI, fJ_vJ, aI_uI, aI_uJ, aI_vI, aI_vJ, aJ_uI, aJ_uJ, aJ_vI, aJ_vJ, fI_nodeS, aI_nodeS, aJ_nodeS, fI_modeS, aI_modeS, aJ_modeS, fI_pushS, aI_pushS, aJ_pushS, fI_giveS, aI_giveS, aJ_giveS, fI_gmodeS, aI_gmodeS, aJ_gmodeS, fI_childS, aJ_childS, B, hz, hg, ha, ho, b1, b2, b3, b4, b5, b6, b7, b8, b9, h60, g1, hbad, hm1, hm2, hq1, hq2, e1, e2, e3, e4, w32_id (x := (t : Int) + 1) (by omega) (by omega), w32_id (x := fI s 2234209964 + 1) (by omega) (by omega), w32_id (x := (o : Int) - 1) (by omega) (by omega), f1, f2, f3, f4, k_X10_fieldEnds_69, k_X10_fieldEnds_126, mr_dup (w := wd l t), (show fI s 2234209964 ≤ 490 by omega), hD, q, g0, gb1, w32_id (x := fI s 2234209964 + 1 - aI s 37 g) (by omega) (by omega), (show (0 : Int) ≤ (t : Int) + 1 + 1 by omega), (show (t : Int) + 1 + 1 < 490 by omega), w32_id (x := (t : Int) + 1 + 1) (by omega) (by omega), q', r', mr_withMembers, hl3, hl4, hgc.1, hgc.2, (show fI s 2234209964 + 1 ≤ 490 by omega), (show aI s 37 g ≤ fI s 2234209964 + 1 by omega), (show fI s 1848333996 + (fI s 2234209964 + 1 - aI s 37 g) ≤ 7800 by omega), memS_f (show aI (uI (uI (uI (uI (vJ' (vI' s 44 (fI s 2234209964) (fI s 2133546668)) 45 (fI s 2234209964) (wd l t)) 2234209964 (fI s 2234209964 + 1)) 1764447916 ((t : Int) + 1)) 1764447916 ((t : Int) + 1 + 1)) 1781225132 ((o : Int) - 1)) 37 g ≤ fI (uI (uI (uI (uI (vJ' (vI' s 44 (fI s 2234209964) (fI s 2133546668)) 45 (fI s 2234209964) (wd l t)) 2234209964 (fI s 2234209964 + 1)) 1764447916 ((t : Int) + 1)) 1764447916 ((t : Int) + 1 + 1)) 1781225132 ((o : Int) - 1)) 2234209964 by simp only [fI_uI, fI_uJ, fI_vI, fI_vJ, fJ_uI, fJ_uJ, fJ_vI, fJ_vJ, aI_uI, aI_uJ, aI_vI, aI_vJ, aJ_uI, aJ_uJ, aJ_vI, aJ_vJ, bnd_v, bnd_x, pu_s, pu_n, b01_T, b01_F, Int.reduceEq, Int.reduceLT, Int.reduceLE, Int.reduceNe, Nat.reduceEqDiff, Nat.reduceLeDiff, and_false, false_and, and_true, true_and, or_false, false_or, or_true, true_or, if_true, if_false, not_true_eq_false, not_false_eq_true, eq_self, ne_eq, reduceCtorEq, false_implies, true_implies, implies_true]; omega), memS_a (A := 38) (by decide)]

theorem me_morey (M : MJ s l t o PR) (ho24 : o ≤ 24) (hg : fI s 2066437804 = g + 1) (h60 : 0 ≤ g) (h61 : g < 590) (hz : aI s 35 g = 6) (q : kd l t = 3) (hD : dupS (fI s 2234209964 - aI s 37 g).toNat s (aI s 37 g) t (wd l t) = (vI' s 32 t 2)) (g0 : 0 ≤ aI s 37 g) (gb1 : aI s 37 g ≤ fI s 2234209964) (hq3 : fI s 2234209964 < 482) (hl1 : t + 1 < l.length) (q' : kd l (t + 1) = 5) (r' : sI l (t + 1) = 44) (h8 : ¬ fI s 2234209964 + 1 - aI s 37 g = 8) : MCall 53566130 g s (pushS (uI (uI (uI (vJ' (vI' (vI' s 32 t 2) 44 (fI s 2234209964) (fI s 2133546668)) 45 (fI s 2234209964) (wd l t)) 2234209964 (fI s 2234209964 + 1)) 1764447916 ((t : Int) + 1)) 1764447916 ((t : Int) + 1 + 1)) 4 0 0 0 0) := by
  have ha : fI s 1764447916 = t := M.1.2.1
  have T := M.1.1
  have hlt : t < l.length := M.1.a
  have hl2 := T.2.1
  have ho := M.2.1
  have hbad := M.2.2.1
  have b1 : (0 : Int) ≤ t := by omega
  have b2 : (t : Int) < 490 := by omega
  have b3 : (0 : Int) ≤ (t : Int) + 1 := by omega
  have b4 : (t : Int) + 1 < 490 := by omega
  have b5 : (0 : Int) ≤ o := by omega
  have b6 : (o : Int) < 25 := by omega
  have b7 : (0 : Int) ≤ g + 1 := by omega
  have b8 : g + 1 < 601 := by omega
  have b9 : g + 1 < 600 := by omega
  have g1 : g < 600 := by omega
  have hm1 : 0 ≤ fI s 1789613740 := by have := M.2.2.2.2; omega
  have hm2 : fI s 1789613740 < 12000 := by have := M.2.2.2.2; omega
  have hq1 : 0 ≤ fI s 2234209964 := by have := M.2.2.2.2; omega
  have hq2 : fI s 2234209964 < 490 := by have := M.2.2.2.2; omega
  obtain ⟨e1, e2, e3, e4⟩ := T.at' hlt
  obtain ⟨f1, f2, f3, f4⟩ := T.at' hl1
  rw [show ((t + 1 : Nat) : Int) = (t : Int) + 1 by omega] at f1 f2 f3 f4
  intro b m d B C
  simp (config := {implicitDefEqProofs := false}) only [e_X10_declarer, k_X10_declarer_0, k_X10_declarer_52, k_X10_declarer_57, k_X10_declarer_60, k_X10_declarer_82, k_X10_declarer_86, k_X10_declarer_88, k_X10_declarer_101, k_X10_declarer_104, k_X10_declarer_107, k_X10_declarer_146, k_X10_declarer_149, k_X10_declarer_170, k_X10_declarer_173, k_X10_declarer_176, k_X10_declarer_181, e_X10_nextMember, k_X10_nextMember_0, k_X10_nextMember_6, k_X10_nextMember_9, k_X10_nextMember_35, k_X10_nextMember_39, k_X10_nextMember_41, k_X10_nextMember_50, k_X10_nextMember_52, k_X10_nextMember_58, k_X10_nextMember_61, k_X10_nextMember_62, k_X10_nextMember_72, k_X10_nextMember_88, k_X10_nextMember_92, k_X10_nextMember_99, k_X10_nextMember_104, k_X10_nextMember_106, k_X10_nextMember_110, k_X10_nextMember_128, bnd_v, bnd_x, pu_s, pu_n, b01_T, b01_F, Int.reduceEq, Int.reduceLT, Int.reduceLE, Int.reduceNe, Nat.reduceEqDiff, Nat.reduceLeDiff, and_false, false_and, and_true, true_and, or_false, false_or, or_true, true_or, if_true, if_false, not_true_eq_false, not_false_eq_true, eq_self, ne_eq, reduceCtorEq, false_implies, true_implies, implies_true, fI_uI, fI_uJ, fI_vI, fI_vJ, fJ_uI, fJ_uJ, fJ_vI, fJ_vJ, aI_uI, aI_uJ, aI_vI, aI_vJ, aJ_uI, aJ_uJ, aJ_vI, aJ_vJ, inA, mr_isSign, mr_isKept, mr_fails, mr_takeSign, mr_takeKept, mr_opens, mr_opensSign, mr_closesSign, mf_newNode, mf_newMode, mf_child, mf_push, mf_give, mf_giveRoutine, mf_giveMode, tkd, tis, tpl, fI_uI, fI_uJ, fI_vI, fI_vJ, fJ_uI, fJ_uJ, fJ_vI, fJ_vJ, aI_uI, aI_uJ, aI_vI, aI_vJ, aJ_uI, aJ_uJ, aJ_vI, aJ_vJ, fI_nodeS, aI_nodeS, aJ_nodeS, fI_modeS, aI_modeS, aJ_modeS, fI_pushS, aI_pushS, aJ_pushS, fI_giveS, aI_giveS, aJ_giveS, fI_gmodeS, aI_gmodeS, aJ_gmodeS, fI_childS, aJ_childS, B, hz, hg, ha, ho, b1, b2, b3, b4, b5, b6, b7, b8, b9, h60, g1, hbad, hm1, hm2, hq1, hq2, e1, e2, e3, e4, w32_id (x := (t : Int) + 1) (by omega) (by omega), w32_id (x := fI s 2234209964 + 1) (by omega) (by omega), w32_id (x := (o : Int) - 1) (by omega) (by omega), f1, f2, f3, f4, k_X10_fieldEnds_69, k_X10_fieldEnds_126, mr_dup (w := wd l t), (show fI s 2234209964 ≤ 490 by omega), hD, q, g0, gb1, w32_id (x := fI s 2234209964 + 1 - aI s 37 g) (by omega) (by omega), (show (0 : Int) ≤ (t : Int) + 1 + 1 by omega), (show (t : Int) + 1 + 1 < 490 by omega), w32_id (x := (t : Int) + 1 + 1) (by omega) (by omega), q', r', h8]

theorem me_fully (M : MJ s l t o PR) (ho24 : o ≤ 24) (hg : fI s 2066437804 = g + 1) (h60 : 0 ≤ g) (h61 : g < 590) (hz : aI s 35 g = 6) (q : kd l t = 3) (hD : dupS (fI s 2234209964 - aI s 37 g).toNat s (aI s 37 g) t (wd l t) = (vI' s 32 t 2)) (g0 : 0 ≤ aI s 37 g) (gb1 : aI s 37 g ≤ fI s 2234209964) (hq3 : fI s 2234209964 < 482) (hl1 : t + 1 < l.length) (q' : kd l (t + 1) = 5) (r' : sI l (t + 1) = 44) (hl2' : t + 2 < l.length) (h8 : fI s 2234209964 + 1 - aI s 37 g = 8) : MCall 53566130 g s ((uI (uI (uI (uI (vJ' (vI' (vI' s 32 t 2) 44 (fI s 2234209964) (fI s 2133546668)) 45 (fI s 2234209964) (wd l t)) 2234209964 (fI s 2234209964 + 1)) 1764447916 ((t : Int) + 1)) 1764447916 ((t : Int) + 1 + 1)) 1772836524 (pl l (t + 2)))) := by
  have ha : fI s 1764447916 = t := M.1.2.1
  have T := M.1.1
  have hlt : t < l.length := M.1.a
  have hl2 := T.2.1
  have ho := M.2.1
  have hbad := M.2.2.1
  have b1 : (0 : Int) ≤ t := by omega
  have b2 : (t : Int) < 490 := by omega
  have b3 : (0 : Int) ≤ (t : Int) + 1 := by omega
  have b4 : (t : Int) + 1 < 490 := by omega
  have b5 : (0 : Int) ≤ o := by omega
  have b6 : (o : Int) < 25 := by omega
  have b7 : (0 : Int) ≤ g + 1 := by omega
  have b8 : g + 1 < 601 := by omega
  have b9 : g + 1 < 600 := by omega
  have g1 : g < 600 := by omega
  have hm1 : 0 ≤ fI s 1789613740 := by have := M.2.2.2.2; omega
  have hm2 : fI s 1789613740 < 12000 := by have := M.2.2.2.2; omega
  have hq1 : 0 ≤ fI s 2234209964 := by have := M.2.2.2.2; omega
  have hq2 : fI s 2234209964 < 490 := by have := M.2.2.2.2; omega
  obtain ⟨e1, e2, e3, e4⟩ := T.at' hlt
  obtain ⟨f1, f2, f3, f4⟩ := T.at' hl1
  rw [show ((t + 1 : Nat) : Int) = (t : Int) + 1 by omega] at f1 f2 f3 f4
  obtain ⟨i1, i2, i3, i4⟩ := T.at' hl2'
  rw [show ((t + 2 : Nat) : Int) = (t : Int) + 1 + 1 by omega] at i1 i2 i3 i4
  intro b m d B C
  simp (config := {implicitDefEqProofs := false}) only [e_X10_declarer, k_X10_declarer_0, k_X10_declarer_52, k_X10_declarer_57, k_X10_declarer_60, k_X10_declarer_82, k_X10_declarer_86, k_X10_declarer_88, k_X10_declarer_101, k_X10_declarer_104, k_X10_declarer_107, k_X10_declarer_146, k_X10_declarer_149, k_X10_declarer_170, k_X10_declarer_173, k_X10_declarer_176, k_X10_declarer_181, e_X10_nextMember, k_X10_nextMember_0, k_X10_nextMember_6, k_X10_nextMember_9, k_X10_nextMember_35, k_X10_nextMember_39, k_X10_nextMember_41, k_X10_nextMember_50, k_X10_nextMember_52, k_X10_nextMember_58, k_X10_nextMember_61, k_X10_nextMember_62, k_X10_nextMember_72, k_X10_nextMember_88, k_X10_nextMember_92, k_X10_nextMember_99, k_X10_nextMember_104, k_X10_nextMember_106, k_X10_nextMember_110, k_X10_nextMember_128, bnd_v, bnd_x, pu_s, pu_n, b01_T, b01_F, Int.reduceEq, Int.reduceLT, Int.reduceLE, Int.reduceNe, Nat.reduceEqDiff, Nat.reduceLeDiff, and_false, false_and, and_true, true_and, or_false, false_or, or_true, true_or, if_true, if_false, not_true_eq_false, not_false_eq_true, eq_self, ne_eq, reduceCtorEq, false_implies, true_implies, implies_true, fI_uI, fI_uJ, fI_vI, fI_vJ, fJ_uI, fJ_uJ, fJ_vI, fJ_vJ, aI_uI, aI_uJ, aI_vI, aI_vJ, aJ_uI, aJ_uJ, aJ_vI, aJ_vJ, inA, mr_isSign, mr_isKept, mr_fails, mr_takeSign, mr_takeKept, mr_opens, mr_opensSign, mr_closesSign, mf_newNode, mf_newMode, mf_child, mf_push, mf_give, mf_giveRoutine, mf_giveMode, tkd, tis, tpl, fI_uI, fI_uJ, fI_vI, fI_vJ, fJ_uI, fJ_uJ, fJ_vI, fJ_vJ, aI_uI, aI_uJ, aI_vI, aI_vJ, aJ_uI, aJ_uJ, aJ_vI, aJ_vJ, fI_nodeS, aI_nodeS, aJ_nodeS, fI_modeS, aI_modeS, aJ_modeS, fI_pushS, aI_pushS, aJ_pushS, fI_giveS, aI_giveS, aJ_giveS, fI_gmodeS, aI_gmodeS, aJ_gmodeS, fI_childS, aJ_childS, B, hz, hg, ha, ho, b1, b2, b3, b4, b5, b6, b7, b8, b9, h60, g1, hbad, hm1, hm2, hq1, hq2, e1, e2, e3, e4, w32_id (x := (t : Int) + 1) (by omega) (by omega), w32_id (x := fI s 2234209964 + 1) (by omega) (by omega), w32_id (x := (o : Int) - 1) (by omega) (by omega), f1, f2, f3, f4, k_X10_fieldEnds_69, k_X10_fieldEnds_126, mr_dup (w := wd l t), (show fI s 2234209964 ≤ 490 by omega), hD, q, g0, gb1, w32_id (x := fI s 2234209964 + 1 - aI s 37 g) (by omega) (by omega), (show (0 : Int) ≤ (t : Int) + 1 + 1 by omega), (show (t : Int) + 1 + 1 < 490 by omega), w32_id (x := (t : Int) + 1 + 1) (by omega) (by omega), q', r', h8, (show w32 8 = 8 from rfl), i1, i2, i3, i4]

theorem me_bady (M : MJ s l t o PR) (ho24 : o ≤ 24) (hg : fI s 2066437804 = g + 1) (h60 : 0 ≤ g) (h61 : g < 590) (hz : aI s 35 g = 6) (q : kd l t = 3) (hD : dupS (fI s 2234209964 - aI s 37 g).toNat s (aI s 37 g) t (wd l t) = (vI' s 32 t 2)) (g0 : 0 ≤ aI s 37 g) (gb1 : aI s 37 g ≤ fI s 2234209964) (hq3 : fI s 2234209964 < 482) (hl1 : t + 1 < l.length) (q' : ¬ (kd l (t + 1) = 5 ∧ sI l (t + 1) = 44)) (r' : ¬ (kd l (t + 1) = 5 ∧ sI l (t + 1) = 41)) : MCall 53566130 g s ((uI (uI (uI (vJ' (vI' (vI' s 32 t 2) 44 (fI s 2234209964) (fI s 2133546668)) 45 (fI s 2234209964) (wd l t)) 2234209964 (fI s 2234209964 + 1)) 1764447916 ((t : Int) + 1)) 1772836524 (pl l (t + 1)))) := by
  have ha : fI s 1764447916 = t := M.1.2.1
  have T := M.1.1
  have hlt : t < l.length := M.1.a
  have hl2 := T.2.1
  have ho := M.2.1
  have hbad := M.2.2.1
  have b1 : (0 : Int) ≤ t := by omega
  have b2 : (t : Int) < 490 := by omega
  have b3 : (0 : Int) ≤ (t : Int) + 1 := by omega
  have b4 : (t : Int) + 1 < 490 := by omega
  have b5 : (0 : Int) ≤ o := by omega
  have b6 : (o : Int) < 25 := by omega
  have b7 : (0 : Int) ≤ g + 1 := by omega
  have b8 : g + 1 < 601 := by omega
  have b9 : g + 1 < 600 := by omega
  have g1 : g < 600 := by omega
  have hm1 : 0 ≤ fI s 1789613740 := by have := M.2.2.2.2; omega
  have hm2 : fI s 1789613740 < 12000 := by have := M.2.2.2.2; omega
  have hq1 : 0 ≤ fI s 2234209964 := by have := M.2.2.2.2; omega
  have hq2 : fI s 2234209964 < 490 := by have := M.2.2.2.2; omega
  obtain ⟨e1, e2, e3, e4⟩ := T.at' hlt
  obtain ⟨f1, f2, f3, f4⟩ := T.at' hl1
  rw [show ((t + 1 : Nat) : Int) = (t : Int) + 1 by omega] at f1 f2 f3 f4
  intro b m d B C
  simp (config := {implicitDefEqProofs := false}) only [e_X10_declarer, k_X10_declarer_0, k_X10_declarer_52, k_X10_declarer_57, k_X10_declarer_60, k_X10_declarer_82, k_X10_declarer_86, k_X10_declarer_88, k_X10_declarer_101, k_X10_declarer_104, k_X10_declarer_107, k_X10_declarer_146, k_X10_declarer_149, k_X10_declarer_170, k_X10_declarer_173, k_X10_declarer_176, k_X10_declarer_181, e_X10_nextMember, k_X10_nextMember_0, k_X10_nextMember_6, k_X10_nextMember_9, k_X10_nextMember_35, k_X10_nextMember_39, k_X10_nextMember_41, k_X10_nextMember_50, k_X10_nextMember_52, k_X10_nextMember_58, k_X10_nextMember_61, k_X10_nextMember_62, k_X10_nextMember_72, k_X10_nextMember_88, k_X10_nextMember_92, k_X10_nextMember_99, k_X10_nextMember_104, k_X10_nextMember_106, k_X10_nextMember_110, k_X10_nextMember_128, bnd_v, bnd_x, pu_s, pu_n, b01_T, b01_F, Int.reduceEq, Int.reduceLT, Int.reduceLE, Int.reduceNe, Nat.reduceEqDiff, Nat.reduceLeDiff, and_false, false_and, and_true, true_and, or_false, false_or, or_true, true_or, if_true, if_false, not_true_eq_false, not_false_eq_true, eq_self, ne_eq, reduceCtorEq, false_implies, true_implies, implies_true, fI_uI, fI_uJ, fI_vI, fI_vJ, fJ_uI, fJ_uJ, fJ_vI, fJ_vJ, aI_uI, aI_uJ, aI_vI, aI_vJ, aJ_uI, aJ_uJ, aJ_vI, aJ_vJ, inA, mr_isSign, mr_isKept, mr_fails, mr_takeSign, mr_takeKept, mr_opens, mr_opensSign, mr_closesSign, mf_newNode, mf_newMode, mf_child, mf_push, mf_give, mf_giveRoutine, mf_giveMode, tkd, tis, tpl, fI_uI, fI_uJ, fI_vI, fI_vJ, fJ_uI, fJ_uJ, fJ_vI, fJ_vJ, aI_uI, aI_uJ, aI_vI, aI_vJ, aJ_uI, aJ_uJ, aJ_vI, aJ_vJ, fI_nodeS, aI_nodeS, aJ_nodeS, fI_modeS, aI_modeS, aJ_modeS, fI_pushS, aI_pushS, aJ_pushS, fI_giveS, aI_giveS, aJ_giveS, fI_gmodeS, aI_gmodeS, aJ_gmodeS, fI_childS, aJ_childS, B, hz, hg, ha, ho, b1, b2, b3, b4, b5, b6, b7, b8, b9, h60, g1, hbad, hm1, hm2, hq1, hq2, e1, e2, e3, e4, w32_id (x := (t : Int) + 1) (by omega) (by omega), w32_id (x := fI s 2234209964 + 1) (by omega) (by omega), w32_id (x := (o : Int) - 1) (by omega) (by omega), f1, f2, f3, f4, k_X10_fieldEnds_69, k_X10_fieldEnds_126, mr_dup (w := wd l t), (show fI s 2234209964 ≤ 490 by omega), hD, q, g0, gb1, w32_id (x := fI s 2234209964 + 1 - aI s 37 g) (by omega) (by omega), (show (0 : Int) ≤ (t : Int) + 1 + 1 by omega), (show (t : Int) + 1 + 1 < 490 by omega), w32_id (x := (t : Int) + 1 + 1) (by omega) (by omega), q', r']

theorem me_endy (M : MJ s l t o PR) (ho24 : o ≤ 24) (hg : fI s 2066437804 = g + 1) (h60 : 0 ≤ g) (h61 : g < 590) (hz : aI s 35 g = 6) (q : kd l t = 3) (hD : dupS (fI s 2234209964 - aI s 37 g).toNat s (aI s 37 g) t (wd l t) = (vI' s 32 t 2)) (g0 : 0 ≤ aI s 37 g) (gb1 : aI s 37 g ≤ fI s 2234209964) (hq3 : fI s 2234209964 < 482) (hl1 : t + 1 < l.length) (q' : kd l (t + 1) = 5) (r' : sI l (t + 1) = 41) (hl3 : 0 ≤ fI s 1848333996) (hl4 : fI s 1848333996 + fI s 2234209964 + 1 ≤ 7800) (hgc : inA (aI s 38 g) 490) : MCall 53566130 g s (gmodeS (vI' (memS (uI (uI (uI (uI (vJ' (vI' (vI' s 32 t 2) 44 (fI s 2234209964) (fI s 2133546668)) 45 (fI s 2234209964) (wd l t)) 2234209964 (fI s 2234209964 + 1)) 1764447916 ((t : Int) + 1)) 1764447916 ((t : Int) + 1 + 1)) 1781225132 ((o : Int) - 1)) g 7 (-1)) 33 (aI s 38 g) (fI s 1789613740)) (fI s 1789613740)) := by
  have ha : fI s 1764447916 = t := M.1.2.1
  have T := M.1.1
  have hlt : t < l.length := M.1.a
  have hl2 := T.2.1
  have ho := M.2.1
  have hbad := M.2.2.1
  have b1 : (0 : Int) ≤ t := by omega
  have b2 : (t : Int) < 490 := by omega
  have b3 : (0 : Int) ≤ (t : Int) + 1 := by omega
  have b4 : (t : Int) + 1 < 490 := by omega
  have b5 : (0 : Int) ≤ o := by omega
  have b6 : (o : Int) < 25 := by omega
  have b7 : (0 : Int) ≤ g + 1 := by omega
  have b8 : g + 1 < 601 := by omega
  have b9 : g + 1 < 600 := by omega
  have g1 : g < 600 := by omega
  have hm1 : 0 ≤ fI s 1789613740 := by have := M.2.2.2.2; omega
  have hm2 : fI s 1789613740 < 12000 := by have := M.2.2.2.2; omega
  have hq1 : 0 ≤ fI s 2234209964 := by have := M.2.2.2.2; omega
  have hq2 : fI s 2234209964 < 490 := by have := M.2.2.2.2; omega
  obtain ⟨e1, e2, e3, e4⟩ := T.at' hlt
  obtain ⟨f1, f2, f3, f4⟩ := T.at' hl1
  rw [show ((t + 1 : Nat) : Int) = (t : Int) + 1 by omega] at f1 f2 f3 f4
  intro b m d B C
  simp (config := {implicitDefEqProofs := false}) only [e_X10_declarer, k_X10_declarer_0, k_X10_declarer_52, k_X10_declarer_57, k_X10_declarer_60, k_X10_declarer_82, k_X10_declarer_86, k_X10_declarer_88, k_X10_declarer_101, k_X10_declarer_104, k_X10_declarer_107, k_X10_declarer_146, k_X10_declarer_149, k_X10_declarer_170, k_X10_declarer_173, k_X10_declarer_176, k_X10_declarer_181, e_X10_nextMember, k_X10_nextMember_0, k_X10_nextMember_6, k_X10_nextMember_9, k_X10_nextMember_35, k_X10_nextMember_39, k_X10_nextMember_41, k_X10_nextMember_50, k_X10_nextMember_52, k_X10_nextMember_58, k_X10_nextMember_61, k_X10_nextMember_62, k_X10_nextMember_72, k_X10_nextMember_88, k_X10_nextMember_92, k_X10_nextMember_99, k_X10_nextMember_104, k_X10_nextMember_106, k_X10_nextMember_110, k_X10_nextMember_128, bnd_v, bnd_x, pu_s, pu_n, b01_T, b01_F, Int.reduceEq, Int.reduceLT, Int.reduceLE, Int.reduceNe, Nat.reduceEqDiff, Nat.reduceLeDiff, and_false, false_and, and_true, true_and, or_false, false_or, or_true, true_or, if_true, if_false, not_true_eq_false, not_false_eq_true, eq_self, ne_eq, reduceCtorEq, false_implies, true_implies, implies_true, fI_uI, fI_uJ, fI_vI, fI_vJ, fJ_uI, fJ_uJ, fJ_vI, fJ_vJ, aI_uI, aI_uJ, aI_vI, aI_vJ, aJ_uI, aJ_uJ, aJ_vI, aJ_vJ, inA, mr_isSign, mr_isKept, mr_fails, mr_takeSign, mr_takeKept, mr_opens, mr_opensSign, mr_closesSign, mf_newNode, mf_newMode, mf_child, mf_push, mf_give, mf_giveRoutine, mf_giveMode, tkd, tis, tpl, fI_uI, fI_uJ, fI_vI, fI_vJ, fJ_uI, fJ_uJ, fJ_vI, fJ_vJ, aI_uI, aI_uJ, aI_vI, aI_vJ, aJ_uI, aJ_uJ, aJ_vI, aJ_vJ, fI_nodeS, aI_nodeS, aJ_nodeS, fI_modeS, aI_modeS, aJ_modeS, fI_pushS, aI_pushS, aJ_pushS, fI_giveS, aI_giveS, aJ_giveS, fI_gmodeS, aI_gmodeS, aJ_gmodeS, fI_childS, aJ_childS, B, hz, hg, ha, ho, b1, b2, b3, b4, b5, b6, b7, b8, b9, h60, g1, hbad, hm1, hm2, hq1, hq2, e1, e2, e3, e4, w32_id (x := (t : Int) + 1) (by omega) (by omega), w32_id (x := fI s 2234209964 + 1) (by omega) (by omega), w32_id (x := (o : Int) - 1) (by omega) (by omega), f1, f2, f3, f4, k_X10_fieldEnds_69, k_X10_fieldEnds_126, mr_dup (w := wd l t), (show fI s 2234209964 ≤ 490 by omega), hD, q, g0, gb1, w32_id (x := fI s 2234209964 + 1 - aI s 37 g) (by omega) (by omega), (show (0 : Int) ≤ (t : Int) + 1 + 1 by omega), (show (t : Int) + 1 + 1 < 490 by omega), w32_id (x := (t : Int) + 1 + 1) (by omega) (by omega), q', r', mr_withMembers, hl3, hl4, hgc.1, hgc.2, (show fI s 2234209964 + 1 ≤ 490 by omega), (show aI s 37 g ≤ fI s 2234209964 + 1 by omega), (show fI s 1848333996 + (fI s 2234209964 + 1 - aI s 37 g) ≤ 7800 by omega), memS_f (show aI (uI (uI (uI (uI (vJ' (vI' (vI' s 32 t 2) 44 (fI s 2234209964) (fI s 2133546668)) 45 (fI s 2234209964) (wd l t)) 2234209964 (fI s 2234209964 + 1)) 1764447916 ((t : Int) + 1)) 1764447916 ((t : Int) + 1 + 1)) 1781225132 ((o : Int) - 1)) 37 g ≤ fI (uI (uI (uI (uI (vJ' (vI' (vI' s 32 t 2) 44 (fI s 2234209964) (fI s 2133546668)) 45 (fI s 2234209964) (wd l t)) 2234209964 (fI s 2234209964 + 1)) 1764447916 ((t : Int) + 1)) 1764447916 ((t : Int) + 1 + 1)) 1781225132 ((o : Int) - 1)) 2234209964 by simp only [fI_uI, fI_uJ, fI_vI, fI_vJ, fJ_uI, fJ_uJ, fJ_vI, fJ_vJ, aI_uI, aI_uJ, aI_vI, aI_vJ, aJ_uI, aJ_uJ, aJ_vI, aJ_vJ, bnd_v, bnd_x, pu_s, pu_n, b01_T, b01_F, Int.reduceEq, Int.reduceLT, Int.reduceLE, Int.reduceNe, Nat.reduceEqDiff, Nat.reduceLeDiff, and_false, false_and, and_true, true_and, or_false, false_or, or_true, true_or, if_true, if_false, not_true_eq_false, not_false_eq_true, eq_self, ne_eq, reduceCtorEq, false_implies, true_implies, implies_true]; omega), memS_a (A := 38) (by decide)]

end ME
