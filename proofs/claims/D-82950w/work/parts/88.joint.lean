/-! READING, x AND THE MODEL: more modes, indicants, candidates -/
set_option maxRecDepth 100000
section JU
variable {h h1 : PH} {s s1 : MS} {p lx t o t1 o1 : Nat} {X X' : Nat → Prop} {l : List TokE} {PR : Int} {P P1 : List (Nat × Int)} {O O1 W : Nat → Prop} {Z0 Z Z1 u : Nat} {L : Nat → Int} {v : Int}
theorem ok_of {q n : Nat} (e : hc h q = n) (hn0 : inT 1 55 n) : okE h 71 q := Or.inr (Or.inl ⟨rfl, Or.inl (by rw [e]; exact hn0)⟩)
theorem JD.mono (J : JD h s p lx l t o PR P X O Z0 Z) (hz : Z ≤ Z1) : JD h s p lx l t o PR P X O Z0 Z1 := by
  obtain ⟨j1, j2, j3, j4, j5, ⟨ks, k1, k2, k3, k4⟩, ⟨cs, c1, c2, c3, c4, c5⟩, ⟨b1, b2, b3, b4⟩⟩ := J
  exact ⟨j1, j2, j3, j4, j5, ⟨ks, k1, k2, k3, by omega⟩, ⟨cs, c1, c2, c3, c4, by omega⟩, ⟨by omega, by omega, by omega, fun j z y => by have := b4 j z y; exact ⟨this.1, this.2.1, by omega⟩⟩⟩
theorem JD.room (J : JD h s p lx l t o PR P X O Z0 Z) (z1 : Z ≤ 90000) (z2 : Z - Z0 ≤ 12000) : Room 10000 h := by
  obtain ⟨b1, b2, b3, b4⟩ := J.2.2.2.2.2.2.2
  have e : sLim = 7289322 ∧ cLim = 600384 := ⟨rfl, rfl⟩
  have c1 := (b4 1 (by omega) (by omega)).2
  have c2 := (b4 2 (by omega) (by omega)).2
  have c3 := (b4 3 (by omega) (by omega)).2
  have c4 := (b4 4 (by omega) (by omega)).2
  have c5 := (b4 5 (by omega) (by omega)).2
  have c6 := (b4 6 (by omega) (by omega)).2
  unfold S6 at b1 b2
  unfold Room
  rw [e.1, e.2]
  constructor <;> omega
/-- the mode of an indicant, now among the indicants -/
theorem JD.named {q : Nat} {i : Int} (d : Nat) (J : JD h s p lx l t o PR P X O Z0 Z) (z1 : Z ≤ 90000) (z2 : Z - Z0 ≤ 12000) (hOO : ∀ x, O x → O1 x) (hO1 : ∀ x, O1 x → x < hn h) (N : MLoc h s ((q, i) :: P) (OM p O1) PR q i) (h9 : gI h 638128676 q = 9) : ∃ h1, F (d + 6) 165774082 [vR (p + 5), vR q] h = some (.inl (some (vI 1)), h1) ∧ (∃ u, Ev (· = p + 5) u h h1) ∧ JD h1 s p lx l t o PR ((q, i) :: P) X O1 Z0 (Z + 1) := by
  have rm := J.room z1 z2
  have hp := J.hp
  obtain ⟨j1, j2, ⟨j3, j3'⟩, j4, j5, ⟨ks, k1, k2, k3, k4⟩, j7, j8⟩ := J
  have I := j1.i
  have C := j1.c
  have okq : okE h 71 q := ok_of N.1.1 (by decide)
  obtain ⟨h1, a1, a2, a3, a4, a5, a6⟩ := f_addA (v := q) d I k1 okq (by omega) (rm.le (by omega))
  have hO : ∀ q, OM p O q → q < hn h := fun q z => j3' q z.1
  have hO1' : ∀ q, OM p O1 q → q < hn h := fun q z => hO1 q z.1
  have hOM : ∀ x, OM p O x → OM p O1 x := fun x z => ⟨hOO x z.1, z.2⟩
  have Rf : Fr (fun _ => 1000000) (-1) s s := Fr.rf
  have mm := j4.2.2.2.2
  have tl := j4.1.a
  have tl2 := j4.1.1.2.1
  have PR0 : 0 ≤ PR := mm.1.1
  have z0 := j8.2.2.1
  have hW : ∀ x, x = p + 5 → ¬ OM p O x ∨ hc h x = 36 := fun x z => Or.inl (fun y => by have := y.2; omega)
  have hW1 : ∀ x, x = p + 5 → ¬ OM p O1 x ∨ hc h x = 36 := fun x z => Or.inl (fun y => by have := y.2; omega)
  have N1 : MLoc h1 s ((q, i) :: P) (OM p O1) PR q i := N.st C a2 hW1 (by omega) hO1' Rf PR0 (by show _ ≤ (1000000 : Int); omega) (by show _ ≤ (1000000 : Int); omega) (Int.le_refl _) (Int.le_refl _) (fun _ z => z) (fun _ z => z)
  have M1 : MoK h1 s ((q, i) :: P) (OM p O1) PR := j5.st j4 C a2 hW (by omega) hO Rf (by show _ ≤ (1000000 : Int); omega) (by show _ ≤ (1000000 : Int); omega) (Int.le_refl _) (Int.le_refl _) (fun _ z => List.mem_cons_of_mem _ z) hOM (fun q' i' z => by
    rcases List.mem_cons.mp z with y | y
    · injection y with y1 y2
      rw [y1, y2]
      exact Or.inr N1
    · exact Or.inl y)
  have kq : gI h1 638128676 q = 9 := by
    have m := N.1
    rw [(a2.ob (hO1' q m.2.1) (fun z => by have := m.2.1.2; omega) (by rw [m.1]; decide)).2.2.1]
    exact h9
  refine ⟨h1, a1, ⟨_, a2⟩, j1.ev a2 (fun q z => by omega), ?_, ⟨fun x z => hOO x (j3 x z), fun x z => Nat.lt_of_lt_of_le (hO1 x z) a2.1.1⟩, j4, M1, ⟨ks ++ [q], a3, fun k z => ?_, fun q' i' z y => ?_, by simp; omega⟩, ?_, ?_⟩
  · have S := a2.ob j1.lt (by omega) (by rw [j1.1]; decide)
    unfold XFd
    rw [S.2.2.2.2.1, S.2.2.2.2.1, S.2.2.2.2.1, S.2.2.2.2.1, S.2.2.2.2.1, S.2.2.2.2.1]
    exact j2
  · rcases List.mem_append.mp z with y | y
    · obtain ⟨⟨i', y1⟩, y2⟩ := k2 k y
      exact ⟨⟨i', List.mem_cons_of_mem _ y1⟩, by rw [j5.kind a2 hW hO y1]; exact y2⟩
    · rw [List.mem_singleton.mp y]
      exact ⟨⟨i, List.mem_cons_self⟩, kq⟩
  · rcases List.mem_cons.mp z with w | w
    · injection w with w1 w2
      rw [w1]
      exact List.mem_append_right _ (List.mem_singleton.mpr rfl)
    · exact List.mem_append_left _ (k3 q' i' w (by rw [← j5.kind a2 hW hO w]; exact y))
  · exact j7.st C a2 hW (by omega) (by omega) hO Rf (by show _ ≤ (1000000 : Int); omega) (Nat.le_refl _) tl (by omega) (fun _ z => List.mem_cons_of_mem _ z) hOM
  · have b := j8.add (j0 := 5) I hp (by omega) (by omega) a2 a4 a5 a6 k4
    obtain ⟨b1, b2, b3, b4⟩ := b
    exact ⟨by omega, by omega, by omega, fun j z y => by have := b4 j z y; exact ⟨this.1, this.2.1, by omega⟩⟩
/-- a mark of the model at a token -/
theorem JD.mark {A k : Nat} {w : Int} (J : JD h s p lx l t o PR P X O Z0 Z) (hA : clA A = 11) (hk : k < t) (h0 : X k ∨ aI s 32 k = 0) : JD h (vI' s A k w) p lx l t o PR P (fun j => X j ∨ j = k) O Z0 Z := by
  obtain ⟨j1, j2, j3, j4, j5, j6, ⟨cs, c1, c2, c3, c4, c5⟩, j8⟩ := J
  have nA : ∀ B i, clA B ≠ 11 → aI (vI' s A k w) B i = aI s B i := fun B i hB => by
    rw [aI_vI, if_neg (fun z => hB (by rw [z.1]; exact hA))]
  have a : Fr (fun c => if c = 11 then (k : Int) else 1000000) (-1) s (vI' s A k w) := Fr.rf.vI (by rw [hA]; decide) (Or.inl (by rw [hA]; exact Int.le_refl _))
  have mm := j4.2.2.2.2
  have tl := j4.1.a
  have tl2 := j4.1.1.2.1
  have E : Ev W0 0 h h := Ev.rf j1.i
  have nk : ∀ j : Nat, j ≠ k → ∀ B, aI (vI' s A k w) B j = aI s B j := fun j hj B => by
    rw [aI_vI, if_neg (fun z => hj (by have := z.2; omega))]
  have cmk : ∀ c j, j ≠ k → (CM h (vI' s A k w) P c j ↔ CM h s P c j) := fun c j hj => by
    unfold CM
    rw [nk j hj, nk j hj]
  refine ⟨j1, j2, j3, j4.fr a j4.1.2.1 (Nat.le_refl _) j4.1.2.2 j4.2.1 j4.2.2.1 ⟨Int.le_refl _, Int.le_refl _⟩ ⟨Int.le_refl _, Int.le_refl _⟩ mm.2.2.2.1 (Int.le_refl _), j5.st j4 j1.c E (fun _ z => z.elim) (fun z => z) (fun q z => j3.2 q z.1) a (by show _ ≤ (1000000 : Int); omega) (by show _ ≤ (1000000 : Int); omega) (Int.le_refl _) (Int.le_refl _) (fun _ z => z) (fun _ z => z) (fun _ _ z => Or.inl z), j6, ⟨cs, c1, fun c z => ?_, fun j z y => ?_, fun j z y => ?_, c5⟩, j8⟩
  · obtain ⟨d1, d2, j, d3, d4, d5, d6⟩ := c2 c z
    have hj : j ≠ k := fun e => by
      rcases h0 with w | w
      · exact d4 (by rw [e]; exact w)
      · unfold CM at d6
        rw [e, w] at d6
        rcases d6 with x | x | x <;> exact absurd x.1 (by decide)
    exact ⟨d1, d2, j, d3, fun x => x.elim d4 hj, d5, (cmk c j hj).mpr d6⟩
  · have hj : j ≠ k := fun e => y (Or.inr e)
    rw [nk j hj]
    rcases c3 j z (fun x => y (Or.inl x)) with x | x | ⟨c, x1, x2, x3⟩
    · exact Or.inl x
    · exact Or.inr (Or.inl x)
    · exact Or.inr (Or.inr ⟨c, x1, x2, (cmk c j hj).mpr x3⟩)
  · rw [nk j (by omega)]
    exact c4 j z y
/-- the candidate that answers a mark -/
theorem JD.cand {c k : Nat} (d : Nat) (J : JD h s p lx l t o PR P X' O Z0 Z) (z1 : Z ≤ 90000) (z2 : Z - Z0 ≤ 12000) (hX : ∀ j, X j → X' j) (hX' : ∀ j, X' j → X j ∨ j = k) (hXk : ¬ X k) (hk : k < t) (hOO : ∀ x, O x → O1 x) (hO1 : ∀ x, O1 x → x < hn h) (o1' : OM p O1 c) (hc2 : hc h c = 2) (hpl : gI h 100795400 c = pl l k) (hcm : CM h s P c k) : ∃ h1, F (d + 6) 165774082 [vR (p + 6), vR c] h = some (.inl (some (vI 1)), h1) ∧ (∃ u, Ev (· = p + 6) u h h1) ∧ JD h1 s p lx l t o PR P X O1 Z0 (Z + 1) := by
  have rm := J.room z1 z2
  have hp := J.hp
  obtain ⟨j1, j2, ⟨j3, j3'⟩, j4, j5, j6, ⟨cs, c1, c2, c3, c4, c5⟩, j8⟩ := J
  have I := j1.i
  have C := j1.c
  obtain ⟨h1, a1, a2, a3, a4, a5, a6⟩ := f_addA (v := c) d I c1 (ok_of hc2 (by decide)) (by omega) (rm.le (by omega))
  have hO : ∀ q, OM p O q → q < hn h := fun q z => j3' q z.1
  have hOM : ∀ x, OM p O x → OM p O1 x := fun x z => ⟨hOO x z.1, z.2⟩
  have Rf : Fr (fun _ => 1000000) (-1) s s := Fr.rf
  have mm := j4.2.2.2.2
  have tl := j4.1.a
  have tl2 := j4.1.1.2.1
  have hW : ∀ x, x = p + 6 → ¬ OM p O x ∨ hc h x = 36 := fun x z => Or.inl (fun y => by have := y.2; omega)
  have ob : ∀ x, x < hn h → p + 6 < x → hc h x = 2 → SmR h h1 x := fun x z y w => a2.ob z (by omega) (by rw [w]; decide)
  have cm : ∀ x j, x < hn h → p + 6 < x → hc h x = 2 → CM h s P x j → CM h1 s P x j := fun x j z y w q => by
    have S := ob x z y w
    unfold CM
    rw [S.2.2.1, S.2.2.2.2.1]
    exact q
  have cl : c < hn h := hO1 c o1'.1
  have z0 := j8.2.2.1
  refine ⟨h1, a1, ⟨_, a2⟩, j1.ev a2 (fun q z => by omega), ?_, ⟨fun x z => hOO x (j3 x z), fun x z => Nat.lt_of_lt_of_le (hO1 x z) a2.1.1⟩, j4, j5.st j4 C a2 hW (by omega) hO Rf (by show _ ≤ (1000000 : Int); omega) (by show _ ≤ (1000000 : Int); omega) (Int.le_refl _) (Int.le_refl _) (fun _ z => z) hOM (fun _ _ z => Or.inl z), j6.st j5 C a2 hW (by omega) (by omega) hO (by omega), ⟨cs ++ [c], a3, fun x z => ?_, fun j z y => ?_, c4, by simp; omega⟩, ?_⟩
  · have S := a2.ob j1.lt (by omega) (by rw [j1.1]; decide)
    unfold XFd
    rw [S.2.2.2.2.1, S.2.2.2.2.1, S.2.2.2.2.1, S.2.2.2.2.1, S.2.2.2.2.1, S.2.2.2.2.1]
    exact j2
  · rcases List.mem_append.mp z with y | y
    · obtain ⟨d1, d2, j, d3, d4, d5, d6⟩ := c2 x y
      have S := ob x (hO x d1) d1.2 d2
      exact ⟨hOM x d1, by rw [S.1]; exact d2, j, d3, fun w => d4 (hX j w), by rw [S.2.2.1]; exact d5, cm x j (hO x d1) d1.2 d2 d6⟩
    · rw [List.mem_singleton.mp y]
      have S := ob c cl o1'.2 hc2
      exact ⟨o1', by rw [S.1]; exact hc2, k, hk, hXk, by rw [S.2.2.1]; exact hpl, cm c k cl o1'.2 hc2 hcm⟩
  · by_cases e : j = k
    · rw [e]
      have S := ob c cl o1'.2 hc2
      exact Or.inr (Or.inr ⟨c, List.mem_append_right _ (List.mem_singleton.mpr rfl), by rw [S.2.2.1]; exact hpl, cm c k cl o1'.2 hc2 hcm⟩)
    · rcases c3 j z (fun w => (hX' j w).elim y e) with x | x | ⟨x, x1, x2, x3⟩
      · exact Or.inl x
      · exact Or.inr (Or.inl x)
      · obtain ⟨d1, d2, -⟩ := c2 x x1
        have S := ob x (hO x d1) d1.2 d2
        exact Or.inr (Or.inr ⟨x, List.mem_append_left _ x1, by rw [S.2.2.1]; exact x2, cm x j (hO x d1) d1.2 d2 x3⟩)
  · have b := j8.add (j0 := 6) I hp (by omega) (by omega) a2 a4 a5 a6 c5
    obtain ⟨b1, b2, b3, b4⟩ := b
    exact ⟨by omega, by omega, by omega, fun j z y => by have := b4 j z y; exact ⟨this.1, this.2.1, by omega⟩⟩
end JU
