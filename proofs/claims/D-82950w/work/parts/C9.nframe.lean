/-! FRAMES OF NODES, step by step -/
set_option maxRecDepth 100000
section FN
variable {s s1 s2 : MS} {A f : Nat} {L L' : Nat → Int} {v w : Int}
theorem FrN.rf : FrN L v w s s := ⟨fun _ _ _ => ⟨rfl, rfl⟩, fun _ _ => rfl, fun _ => rfl⟩
theorem FrN.vI {j x : Int} (a : FrN L v w s s1) (hA : clA A ≠ 0) (hj : L (clA A) ≤ j ∨ (clA A = 12 ∧ j = v) ∨ (clA A = 2 ∧ j = w)) : FrN L v w s (vI' s1 A j x) := by
  refine ⟨fun B i hB => ?_, a.2.1, a.2.2⟩
  have := a.1 B i hB
  refine ⟨?_, this.2⟩
  rw [aI_vI, if_neg, this.1]
  rintro ⟨e1, e2⟩
  subst e1 e2
  rcases hB with z | ⟨⟨z0, z1⟩, z2, z3⟩
  · exact hA z
  · rcases hj with y | ⟨y1, y2⟩ | ⟨y1, y2⟩
    · omega
    · exact z2 y1 y2
    · exact z3 y1 y2
theorem FrN.vJ {j x : Int} (a : FrN L v w s s1) (hA : clA A ≠ 0) (hj : L (clA A) ≤ j ∨ (clA A = 12 ∧ j = v) ∨ (clA A = 2 ∧ j = w)) : FrN L v w s (vJ' s1 A j x) := by
  refine ⟨fun B i hB => ?_, a.2.1, a.2.2⟩
  have := a.1 B i hB
  refine ⟨this.1, ?_⟩
  rw [aJ_vJ, if_neg, this.2]
  rintro ⟨e1, e2⟩
  subst e1 e2
  rcases hB with z | ⟨⟨z0, z1⟩, z2, z3⟩
  · exact hA z
  · rcases hj with y | ⟨y1, y2⟩ | ⟨y1, y2⟩
    · omega
    · exact z2 y1 y2
    · exact z3 y1 y2
theorem FrN.uI {x : Int} (a : FrN L v w s s1) (hf : pfF f = true) : FrN L v w s (uI s1 f x) := by
  refine ⟨a.1, fun g hg => ?_, a.2.2⟩
  rw [fI_uI, if_neg (fun z => by rw [z, hf] at hg; cases hg)]
  exact a.2.1 g hg
theorem FrN.node {k t : Int} (a : FrN L v w s s1) (h : L 2 ≤ fI s1 1915442860 ∧ L 12 ≤ fI s1 1915442860) : FrN L v w s (nodeS s1 k t) := by
  unfold nodeS
  exact (((((((((((((a.vI (by decide) (Or.inl h.1)).vI (by decide) (Or.inl h.1)).vI (by decide) (Or.inl h.1)).vI (by decide) (Or.inl h.1)).vI (by decide) (Or.inl h.2)).vI (by decide) (Or.inl h.1)).vI (by decide) (Or.inl h.1)).vJ (by decide) (Or.inl h.1)).vI (by decide) (Or.inl h.1)).vI (by decide) (Or.inl h.1)).vI (by decide) (Or.inl h.2)).vJ (by decide) (Or.inl h.2))).uI (by decide)
theorem FrN.push {g z a0 c e : Int} (a : FrN L v w s s1) (h : L 1 ≤ fI s1 2066437804) : FrN L v w s (pushS s1 g z a0 c e) := by
  unfold pushS
  exact ((((((a.vI (by decide) (Or.inl h)).vI (by decide) (Or.inl h)).vI (by decide) (Or.inl h)).vI (by decide) (Or.inl h)).vI (by decide) (Or.inl h)).vI (by decide) (Or.inl h)).uI (by decide)
theorem FrN.give {n r : Int} (a : FrN L v w s s1) : FrN L v w s (giveS s1 n r) := ((a.uI (by decide)).uI (by decide)).uI (by decide)
theorem FrN.mode {k o t : Int} (a : FrN L v w s s1) (h : L 3 ≤ fI s1 1789613740) : FrN L v w s (modeS s1 k o t) := by
  unfold modeS
  exact ((((((a.vI (by decide) (Or.inl h)).vI (by decide) (Or.inl h)).vI (by decide) (Or.inl h)).vI (by decide) (Or.inl h)).vI (by decide) (Or.inl h)).vJ (by decide) (Or.inl h)).uI (by decide)
theorem FrN.child {n c : Int} (a : FrN L v w s s1) (h : L 2 ≤ n ∨ n = w) (hl : aI s1 20 n = -1 ∨ (L 12 ≤ aI s1 21 n ∨ aI s1 21 n = v)) : FrN L v w s (childS s1 n c) := by
  have h' : ∀ A, clA A = 2 → (L (clA A) ≤ n ∨ (clA A = 12 ∧ n = v) ∨ (clA A = 2 ∧ n = w)) := fun A hA => by
    rw [hA]
    exact h.imp id (fun y => Or.inr ⟨rfl, y⟩)
  unfold childS
  split
  · exact (a.vI (by decide) (h' _ (by decide))).vI (by decide) (h' _ (by decide))
  · rename_i z
    rcases hl with y | y
    · exact absurd y z
    · exact (a.vI (by decide) (y.imp id (fun y => Or.inl ⟨by decide, y⟩))).vI (by decide) (h' _ (by decide))
theorem Lk_1 : Lk s 1 = fI s 2066437804 - 1 := rfl
theorem Lk_2 : Lk s 2 = fI s 1915442860 := rfl
theorem Lk_12 : Lk s 12 = fI s 1915442860 := rfl
theorem Lk_7 : Lk s 7 = fI s 2175489708 := rfl
theorem Lk_8 : Lk s 8 = fI s 2192266924 := rfl
theorem Lk_9 : Lk s 9 = fI s 2217432748 := rfl
end FN
