/-! READING DECLARERS: references, rows -/
set_option maxRecDepth 100000
set_option maxHeartbeats 1000000
section DR
variable {h : PH} {s : MS} {p lx t o : Nat} {X O : Nat → Prop} {l : List TokE} {PR g mv : Int} {P : List (Nat × Int)} {Z0 Z : Nat}
theorem PXs.evp {W : Nat → Prop} {u t' o' : Nat} {h1 : PH} (X : PXs h p lx l t o) (a : Ev W u h h1) (hW : ∀ q, W q → p ≤ q) (e1 : gR h1 1277446290 p = lx) (e2 : gI h1 1285834896 p = t') (e3 : gI h1 1294223504 p = o') (ht : t' < xc l) (ho : o' ≤ 24) : PXs h1 p lx l t' o' := by
  have hp := X.lt
  obtain ⟨x1, x2, x3, x4, x5, x6, ⟨y1, ⟨k1, k2⟩, ⟨p1, p2⟩, ⟨w1, w2⟩, y5, y6, y7⟩, x8, g1, g2, g3, g4⟩ := X
  have C := x8.1
  have s : ∀ q, q < p → hc h q ≠ 71 → SmR h h1 q := fun q hq h7 => a.ob (by omega) (fun z => by have := hW q z; omega) h7
  have sl := s lx (by omega) (by rw [y1]; decide)
  have s0 := s 0 (by omega) (by rw [C.1.1]; decide)
  have sk := s _ g2 (by rw [k1]; decide)
  have spl := s _ g3 (by rw [p1]; decide)
  have sw := s _ g4 (by rw [w1]; decide)
  have ek : gR h1 319097366 lx = gR h 319097366 lx := sl.2.2.2.2.1 _
  have ep : gR h1 327485974 lx = gR h 327485974 lx := sl.2.2.2.2.1 _
  have ew : gR h1 335874582 lx = gR h 335874582 lx := sl.2.2.2.2.1 _
  refine ⟨(a.1.2.2.2.1 p hp).trans x1, e1, e2, e3, ht, ho, ⟨sl.1.trans y1, ⟨by rw [ek, sk.1]; exact k1, by rw [ek, sk.2.1]; exact k2⟩, ⟨by rw [ep, spl.1]; exact p1, by rw [ep, spl.2.1]; exact p2⟩, ⟨by rw [ew, sw.1]; exact w1, by rw [ew, sw.2.1]; exact w2⟩, (sl.2.2.1 _).trans y5, fun i hi => ?_, y7⟩, a.2.2.1, g1, by rw [ek]; exact g2, by rw [ep]; exact g3, by rw [ew]; exact g4⟩
  rw [ek, ep, ew, sk.2.2.2.2.2.2.2, spl.2.2.2.2.2.1, sw.2.2.2.2.2.2.1, s0.2.2.2.2.1]
  exact y6 i hi
theorem Lm_le {s1 : MS} (h1 : fI s 2066437804 ≤ fI s1 2066437804) (h2 : fI s 1915442860 ≤ fI s1 1915442860) (h3 : fI s 1789613740 ≤ fI s1 1789613740) (h4 : fI s 1848333996 ≤ fI s1 1848333996) (h5 : fI s 2024494764 ≤ fI s1 2024494764) (h6 : fI s 1873499820 ≤ fI s1 1873499820) (h7 : fI s 2175489708 ≤ fI s1 2175489708) (h8 : fI s 2192266924 ≤ fI s1 2192266924) (h9 : fI s 2217432748 ≤ fI s1 2217432748) (h10 : fI s 2234209964 ≤ fI s1 2234209964) (h11 : fI s 1764447916 ≤ fI s1 1764447916) : ∀ k, Lm s k ≤ Lm s1 k := by
  intro k
  unfold Lm
  by_cases c1 : k = 1
  · rw [if_pos c1, if_pos c1]; omega
  rw [if_neg c1, if_neg c1]
  by_cases c2 : k = 2
  · rw [if_pos c2, if_pos c2]; exact h2
  rw [if_neg c2, if_neg c2]
  by_cases c3 : k = 3
  · rw [if_pos c3, if_pos c3]; exact h3
  rw [if_neg c3, if_neg c3]
  by_cases c4 : k = 4
  · rw [if_pos c4, if_pos c4]; exact h4
  rw [if_neg c4, if_neg c4]
  by_cases c5 : k = 5
  · rw [if_pos c5, if_pos c5]; exact h5
  rw [if_neg c5, if_neg c5]
  by_cases c6 : k = 6
  · rw [if_pos c6, if_pos c6]; exact h6
  rw [if_neg c6, if_neg c6]
  by_cases c7 : k = 7
  · rw [if_pos c7, if_pos c7]; exact h7
  rw [if_neg c7, if_neg c7]
  by_cases c8 : k = 8
  · rw [if_pos c8, if_pos c8]; exact h8
  rw [if_neg c8, if_neg c8]
  by_cases c9 : k = 9
  · rw [if_pos c9, if_pos c9]; exact h9
  rw [if_neg c9, if_neg c9]
  by_cases c10 : k = 10
  · rw [if_pos c10, if_pos c10]; exact h10
  rw [if_neg c10, if_neg c10]
  by_cases c11 : k = 11
  · rw [if_pos c11, if_pos c11]; exact h11
  rw [if_neg c11, if_neg c11]
  exact h2
theorem JD.xf {h1 : PH} {W : Nat → Prop} {u t' o' : Nat} (J : JD h s p lx l t o PR P X O Z0 Z) (a : Ev W u h h1) (hW : ∀ q, W q → p ≤ q) (e0 : ∀ f, f ≠ 1361332370 → f ≠ 1369720978 → gR h1 f p = gR h f p) (e2 : gI h1 1285834896 p = t') (e3 : gI h1 1294223504 p = o') (ht : t' < xc l) (ho : o' ≤ 24) : PXs h1 p lx l t' o' ∧ XFd h1 p := by
  refine ⟨J.x.evp a hW ((e0 _ (by decide) (by decide)).trans J.x.2.1) e2 e3 ht ho, ?_⟩
  unfold XFd
  rw [e0 _ (by decide) (by decide), e0 _ (by decide) (by decide), e0 _ (by decide) (by decide), e0 _ (by decide) (by decide), e0 _ (by decide) (by decide), e0 _ (by decide) (by decide)]
  exact J.2.1
/-- the mode of a reference or row, when what it leads to is there -/
theorem new_next {h3 h4 : PH} {q0 q o3 : Nat} {k i c : Int} {s3 : MS} (J : JD h s p lx l t o PR P X O Z0 Z) (hk : k = 4 ∨ k = 6) (hq : (q, i) ∈ P) (hv : fI s 2133546668 = i) (q9 : hc h q0 = 9) (qO : ¬ O q0) (ql : q0 < hn h) (hp : p + 6 < q0) (E : Ev (· = q0) 1 h h3) (e1 : gR h3 646517286 q0 = hn h) (e2 : AL h3 (hn h) []) (e3 : gI h3 638128676 q0 = k) (e4 : gR h3 671683110 q0 = q) (hn3 : hn h3 = hn h + 1) (E4 : Ev (· = p) 0 h3 h4) (f0 : ∀ f, f ≠ 1361332370 → f ≠ 1369720978 → gR h4 f p = gR h3 f p) (f1 : gI h4 1285834896 p = t) (f2 : gI h4 1294223504 p = o3) (ho : o = o3 + 1) (hs3 : s3 = gmodeS (modeS (uI s 1781225132 (((o : Nat) : Int) - 1)) k (fI s 2133546668) c) (fI s 1789613740)) (ht : (t : Int) + 2000 * PR + 5 ≤ 12000) (hmt : fI s 1789613740 + 1 ≤ 2000 * PR + 4 + t) : ∃ O1, JD h4 s3 p lx l t o3 PR ((q0, fI s 1789613740) :: P) X O1 Z0 (Z + 1) ∧ (∀ x, O x → O1 x) ∧ (∀ x, O1 x → O x ∨ x = q0 ∨ hn h ≤ x) ∧ hn h4 = hn h4 := by
  have M := J.m
  have mm := M.2.2.2.2
  have ho24 := J.x.2.2.2.2.2.1
  have pl := J.x.lt
  have E5 : Ev (fun x => x = p ∨ x = q0) 1 h h4 := (E.mono (W' := fun x => x = p ∨ x = q0) (fun _ _ z => Or.inr z) (Nat.le_refl _)).tr E4 (fun _ _ z => Or.inl z)
  have S := E.ob pl (by omega) (by rw [J.x.1]; decide)
  have xx := J.xf E5 (fun x z => by rcases z with z | z <;> omega) (fun f z y => (f0 f z y).trans (S.2.2.2.2.1 f)) f1 f2 J.x.2.2.2.2.1 (by omega)
  have a1 : Fr (Lq s 0) (-1) s s3 := by
    rw [hs3]
    refine (Fr.gmode (Fr.mode (Fr.uI Fr.rf (by decide)) ?_))
    all_goals (first | exact Int.le_refl _)
  have hl2 := M.1.1.2.1
  have hlt := M.1.a
  have m1 : fI s3 1789613740 = fI s 1789613740 + 1 := by rw [hs3]; simp (config := {implicitDefEqProofs := false}) only [fI_uI, fI_uJ, fI_vI, fI_vJ, fJ_uI, fJ_uJ, fJ_vI, fJ_vJ, aI_uI, aI_uJ, aI_vI, aI_vJ, aJ_uI, aJ_uJ, aJ_vI, aJ_vJ, bnd_v, bnd_x, pu_s, pu_n, b01_T, b01_F, Int.reduceEq, Int.reduceLT, Int.reduceLE, Int.reduceNe, Nat.reduceEqDiff, Nat.reduceLeDiff, and_false, false_and, and_true, true_and, or_false, false_or, or_true, true_or, if_true, if_false, not_true_eq_false, not_false_eq_true, eq_self, ne_eq, reduceCtorEq, false_implies, true_implies, implies_true, fI_pushS, aI_pushS, aJ_pushS, fI_gmodeS, aI_gmodeS, aJ_gmodeS, fI_modeS, aI_modeS, aJ_modeS, fI_giveS, aI_giveS]
  have m2 : fI s3 1848333996 = fI s 1848333996 := by rw [hs3]; simp (config := {implicitDefEqProofs := false}) only [fI_uI, fI_uJ, fI_vI, fI_vJ, fJ_uI, fJ_uJ, fJ_vI, fJ_vJ, aI_uI, aI_uJ, aI_vI, aI_vJ, aJ_uI, aJ_uJ, aJ_vI, aJ_vJ, bnd_v, bnd_x, pu_s, pu_n, b01_T, b01_F, Int.reduceEq, Int.reduceLT, Int.reduceLE, Int.reduceNe, Nat.reduceEqDiff, Nat.reduceLeDiff, and_false, false_and, and_true, true_and, or_false, false_or, or_true, true_or, if_true, if_false, not_true_eq_false, not_false_eq_true, eq_self, ne_eq, reduceCtorEq, false_implies, true_implies, implies_true, fI_pushS, aI_pushS, aJ_pushS, fI_gmodeS, aI_gmodeS, aJ_gmodeS, fI_modeS, aI_modeS, aJ_modeS, fI_giveS, aI_giveS]
  have m3 : fI s3 2234209964 = fI s 2234209964 := by rw [hs3]; simp (config := {implicitDefEqProofs := false}) only [fI_uI, fI_uJ, fI_vI, fI_vJ, fJ_uI, fJ_uJ, fJ_vI, fJ_vJ, aI_uI, aI_uJ, aI_vI, aI_vJ, aJ_uI, aJ_uJ, aJ_vI, aJ_vJ, bnd_v, bnd_x, pu_s, pu_n, b01_T, b01_F, Int.reduceEq, Int.reduceLT, Int.reduceLE, Int.reduceNe, Nat.reduceEqDiff, Nat.reduceLeDiff, and_false, false_and, and_true, true_and, or_false, false_or, or_true, true_or, if_true, if_false, not_true_eq_false, not_false_eq_true, eq_self, ne_eq, reduceCtorEq, false_implies, true_implies, implies_true, fI_pushS, aI_pushS, aJ_pushS, fI_gmodeS, aI_gmodeS, aJ_gmodeS, fI_modeS, aI_modeS, aJ_modeS, fI_giveS, aI_giveS]
  have m4 : fI s3 1764447916 = t := by rw [hs3]; simp (config := {implicitDefEqProofs := false}) only [fI_uI, fI_uJ, fI_vI, fI_vJ, fJ_uI, fJ_uJ, fJ_vI, fJ_vJ, aI_uI, aI_uJ, aI_vI, aI_vJ, aJ_uI, aJ_uJ, aJ_vI, aJ_vJ, bnd_v, bnd_x, pu_s, pu_n, b01_T, b01_F, Int.reduceEq, Int.reduceLT, Int.reduceLE, Int.reduceNe, Nat.reduceEqDiff, Nat.reduceLeDiff, and_false, false_and, and_true, true_and, or_false, false_or, or_true, true_or, if_true, if_false, not_true_eq_false, not_false_eq_true, eq_self, ne_eq, reduceCtorEq, false_implies, true_implies, implies_true, fI_pushS, aI_pushS, aJ_pushS, fI_gmodeS, aI_gmodeS, aJ_gmodeS, fI_modeS, aI_modeS, aJ_modeS, fI_giveS, aI_giveS, M.1.2.1]
  have m5 : fI s3 1781225132 = o3 := by rw [hs3]; simp (config := {implicitDefEqProofs := false}) only [fI_uI, fI_uJ, fI_vI, fI_vJ, fJ_uI, fJ_uJ, fJ_vI, fJ_vJ, aI_uI, aI_uJ, aI_vI, aI_vJ, aJ_uI, aJ_uJ, aJ_vI, aJ_vJ, bnd_v, bnd_x, pu_s, pu_n, b01_T, b01_F, Int.reduceEq, Int.reduceLT, Int.reduceLE, Int.reduceNe, Nat.reduceEqDiff, Nat.reduceLeDiff, and_false, false_and, and_true, true_and, or_false, false_or, or_true, true_or, if_true, if_false, not_true_eq_false, not_false_eq_true, eq_self, ne_eq, reduceCtorEq, false_implies, true_implies, implies_true, fI_pushS, aI_pushS, aJ_pushS, fI_gmodeS, aI_gmodeS, aJ_gmodeS, fI_modeS, aI_modeS, aJ_modeS, fI_giveS, aI_giveS]; omega
  have m6 : fI s3 1772836524 = -1 := by rw [hs3]; simp (config := {implicitDefEqProofs := false}) only [fI_uI, fI_uJ, fI_vI, fI_vJ, fJ_uI, fJ_uJ, fJ_vI, fJ_vJ, aI_uI, aI_uJ, aI_vI, aI_vJ, aJ_uI, aJ_uJ, aJ_vI, aJ_vJ, bnd_v, bnd_x, pu_s, pu_n, b01_T, b01_F, Int.reduceEq, Int.reduceLT, Int.reduceLE, Int.reduceNe, Nat.reduceEqDiff, Nat.reduceLeDiff, and_false, false_and, and_true, true_and, or_false, false_or, or_true, true_or, if_true, if_false, not_true_eq_false, not_false_eq_true, eq_self, ne_eq, reduceCtorEq, false_implies, true_implies, implies_true, fI_pushS, aI_pushS, aJ_pushS, fI_gmodeS, aI_gmodeS, aJ_gmodeS, fI_modeS, aI_modeS, aJ_modeS, fI_giveS, aI_giveS, M.2.2.1]
  have m7 : aI s3 6 (fI s 1789613740) = k := by rw [hs3]; simp (config := {implicitDefEqProofs := false}) only [fI_uI, fI_uJ, fI_vI, fI_vJ, fJ_uI, fJ_uJ, fJ_vI, fJ_vJ, aI_uI, aI_uJ, aI_vI, aI_vJ, aJ_uI, aJ_uJ, aJ_vI, aJ_vJ, bnd_v, bnd_x, pu_s, pu_n, b01_T, b01_F, Int.reduceEq, Int.reduceLT, Int.reduceLE, Int.reduceNe, Nat.reduceEqDiff, Nat.reduceLeDiff, and_false, false_and, and_true, true_and, or_false, false_or, or_true, true_or, if_true, if_false, not_true_eq_false, not_false_eq_true, eq_self, ne_eq, reduceCtorEq, false_implies, true_implies, implies_true, fI_pushS, aI_pushS, aJ_pushS, fI_gmodeS, aI_gmodeS, aJ_gmodeS, fI_modeS, aI_modeS, aJ_modeS, fI_giveS, aI_giveS]
  have m8 : aI s3 7 (fI s 1789613740) = i := by rw [hs3, ← hv]; simp (config := {implicitDefEqProofs := false}) only [fI_uI, fI_uJ, fI_vI, fI_vJ, fJ_uI, fJ_uJ, fJ_vI, fJ_vJ, aI_uI, aI_uJ, aI_vI, aI_vJ, aJ_uI, aJ_uJ, aJ_vI, aJ_vJ, bnd_v, bnd_x, pu_s, pu_n, b01_T, b01_F, Int.reduceEq, Int.reduceLT, Int.reduceLE, Int.reduceNe, Nat.reduceEqDiff, Nat.reduceLeDiff, and_false, false_and, and_true, true_and, or_false, false_or, or_true, true_or, if_true, if_false, not_true_eq_false, not_false_eq_true, eq_self, ne_eq, reduceCtorEq, false_implies, true_implies, implies_true, fI_pushS, aI_pushS, aJ_pushS, fI_gmodeS, aI_gmodeS, aJ_gmodeS, fI_modeS, aI_modeS, aJ_modeS, fI_giveS, aI_giveS]
  have m10 : fI s3 2024494764 = fI s 2024494764 := by rw [hs3]; simp (config := {implicitDefEqProofs := false}) only [fI_uI, fI_uJ, fI_vI, fI_vJ, fJ_uI, fJ_uJ, fJ_vI, fJ_vJ, aI_uI, aI_uJ, aI_vI, aI_vJ, aJ_uI, aJ_uJ, aJ_vI, aJ_vJ, bnd_v, bnd_x, pu_s, pu_n, b01_T, b01_F, Int.reduceEq, Int.reduceLT, Int.reduceLE, Int.reduceNe, Nat.reduceEqDiff, Nat.reduceLeDiff, and_false, false_and, and_true, true_and, or_false, false_or, or_true, true_or, if_true, if_false, not_true_eq_false, not_false_eq_true, eq_self, ne_eq, reduceCtorEq, false_implies, true_implies, implies_true, fI_pushS, aI_pushS, aJ_pushS, fI_gmodeS, aI_gmodeS, aJ_gmodeS, fI_modeS, aI_modeS, aJ_modeS, fI_giveS, aI_giveS]
  have m9 : aI s3 9 (fI s 1789613740) = 0 := by rw [hs3]; simp (config := {implicitDefEqProofs := false}) only [fI_uI, fI_uJ, fI_vI, fI_vJ, fJ_uI, fJ_uJ, fJ_vI, fJ_vJ, aI_uI, aI_uJ, aI_vI, aI_vJ, aJ_uI, aJ_uJ, aJ_vI, aJ_vJ, bnd_v, bnd_x, pu_s, pu_n, b01_T, b01_F, Int.reduceEq, Int.reduceLT, Int.reduceLE, Int.reduceNe, Nat.reduceEqDiff, Nat.reduceLeDiff, and_false, false_and, and_true, true_and, or_false, false_or, or_true, true_or, if_true, if_false, not_true_eq_false, not_false_eq_true, eq_self, ne_eq, reduceCtorEq, false_implies, true_implies, implies_true, fI_pushS, aI_pushS, aJ_pushS, fI_gmodeS, aI_gmodeS, aJ_gmodeS, fI_modeS, aI_modeS, aJ_modeS, fI_giveS, aI_giveS]
  have T3 : TM s3 l := M.1.1.fr a1
  have M3 : MJ s3 l t o3 PR := ⟨⟨T3, m4, M.1.2.2⟩, m5, m6, (a1.2.1 _ (by decide)).trans M.2.2.2.1, mm.1, by omega, by omega, by omega, by omega⟩
  have J3 := J.step E5 (fun x z => z.elim Or.inr (fun y => Or.inl (by rw [y]; exact qO))) xx.1 xx.2 a1 M3 (Nat.le_refl _) (Int.le_refl _) (Int.le_refl _) (by show _ ≤ (1000000 : Int); omega) (by omega) (by omega)
  have S4 : ∀ x, x ≠ p → x < hn h3 → hc h3 x ≠ 71 → SmR h3 h4 x := fun x z y w => E4.ob y z w
  have c9 : hc h3 q0 = 9 := (E.1.2.2.2.1 q0 ql).trans q9
  have S5 := S4 q0 (by omega) (by omega) (by rw [c9]; decide)
  have k1 : gI h4 638128676 q0 = k := (S5.2.2.1 _).trans e3
  have k2 : gR h4 646517286 q0 = hn h := (S5.2.2.2.2.1 _).trans e1
  have k3 : gR h4 671683110 q0 = q := (S5.2.2.2.2.1 _).trans e4
  have k4 : hc h4 q0 = 9 := S5.1.trans c9
  have p0 : p ≠ 0 := fun z => by have := J.x.1; rw [z, J.x.c.1.1] at this; cases this
  have k5 : AL h4 (hn h) [] := E4.al E.2.2.1.1 (by omega) (fun z => p0 z.symm) e2
  have hn4 : hn h3 ≤ hn h4 := E4.1.1
  refine ⟨fun x => O x ∨ x = q0 ∨ x = hn h, J3.mode (fun x z => Or.inl z) (fun x z => ?_) ?_ (by rw [k1]; omega), fun x z => Or.inl z, fun x z => ?_, rfl⟩
  · rcases z with z | z | z
    · have := J.hi z; omega
    · omega
    · omega
  · unfold MLoc
    rw [k2, k1, k3]
    refine ⟨⟨k4, ⟨Or.inr (Or.inl rfl), by omega⟩, ⟨Or.inr (Or.inr rfl), by omega⟩⟩, ⟨by omega, by omega, m7⟩, ⟨by omega, by omega⟩, fun z => by omega, fun _ => ?_, fun z => ?_, fun z => by omega, [], k5, m9, fun z => absurd rfl z, fun j hj => absurd hj (Nat.not_lt_zero _), fun _ => rfl, fun z => by omega, by decide, fun z => by omega⟩
    · rw [m8]; exact List.mem_cons_of_mem _ hq
    · exfalso; exact z (by omega)
  · rcases z with z | z | z
    · exact Or.inl z
    · exact Or.inr (Or.inl z)
    · right; right; omega
end DR
