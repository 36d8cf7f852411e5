/-! THE MODEL's PARSER: reading behind its steps -/
set_option maxRecDepth 100000
section MRd
variable {s : MS} {A f : Nat} {i : Int}
theorem fI_nodeS {k t : Int} : fI (nodeS s k t) f = if f = 1915442860 then fI s 1915442860 + 1 else fI s f := rfl
theorem fJ_nodeS {k t : Int} : fJ (nodeS s k t) f = fJ s f := rfl
theorem aI_nodeS {k t : Int} : aI (nodeS s k t) A i = if A = 28 ∧ i = fI s 1915442860 then (-1) else if A = 27 ∧ i = fI s 1915442860 then 0 else if A = 26 ∧ i = fI s 1915442860 then 0 else if A = 24 ∧ i = fI s 1915442860 then (-1) else if A = 23 ∧ i = fI s 1915442860 then 0 else if A = 22 ∧ i = fI s 1915442860 then (-1) else if A = 21 ∧ i = fI s 1915442860 then (-1) else if A = 20 ∧ i = fI s 1915442860 then (-1) else if A = 19 ∧ i = fI s 1915442860 then t else if A = 18 ∧ i = fI s 1915442860 then k else aI s A i := rfl
theorem aJ_nodeS {k t : Int} : aJ (nodeS s k t) A i = if A = 29 ∧ i = fI s 1915442860 then 0 else if A = 25 ∧ i = fI s 1915442860 then 0 else aJ s A i := rfl
theorem fI_modeS {k o t : Int} : fI (modeS s k o t) f = if f = 1789613740 then fI s 1789613740 + 1 else fI s f := rfl
theorem fJ_modeS {k o t : Int} : fJ (modeS s k o t) f = fJ s f := rfl
theorem aI_modeS {k o t : Int} : aI (modeS s k o t) A i = if A = 10 ∧ i = fI s 1789613740 then t else if A = 9 ∧ i = fI s 1789613740 then 0 else if A = 8 ∧ i = fI s 1789613740 then 0 else if A = 7 ∧ i = fI s 1789613740 then o else if A = 6 ∧ i = fI s 1789613740 then k else aI s A i := rfl
theorem aJ_modeS {k o t : Int} : aJ (modeS s k o t) A i = if A = 11 ∧ i = fI s 1789613740 then 0 else aJ s A i := rfl
theorem fI_pushS {g z a c e : Int} : fI (pushS s g z a c e) f = if f = 2066437804 then fI s 2066437804 + 1 else fI s f := rfl
theorem fJ_pushS {g z a c e : Int} : fJ (pushS s g z a c e) f = fJ s f := rfl
theorem aI_pushS {g z a c e : Int} : aI (pushS s g z a c e) A i = if A = 39 ∧ i = fI s 2066437804 then 0 else if A = 38 ∧ i = fI s 2066437804 then e else if A = 37 ∧ i = fI s 2066437804 then c else if A = 36 ∧ i = fI s 2066437804 then a else if A = 35 ∧ i = fI s 2066437804 then z else if A = 34 ∧ i = fI s 2066437804 then g else aI s A i := rfl
theorem aJ_pushS {g z a c e : Int} : aJ (pushS s g z a c e) A i = aJ s A i := rfl
theorem fI_giveS {n r : Int} : fI (giveS s n r) f = if f = 2066437804 then fI s 2066437804 - 1 else if f = 2141935279 then r else if f = 2125158060 then n else fI s f := rfl
theorem fJ_giveS {n r : Int} : fJ (giveS s n r) f = fJ s f := rfl
theorem aI_giveS {n r : Int} : aI (giveS s n r) A i = aI s A i := rfl
theorem aJ_giveS {n r : Int} : aJ (giveS s n r) A i = aJ s A i := rfl
theorem fI_gmodeS {n : Int} : fI (gmodeS s n) f = if f = 2066437804 then fI s 2066437804 - 1 else if f = 2133546668 then n else fI s f := rfl
theorem fJ_gmodeS {n : Int} : fJ (gmodeS s n) f = fJ s f := rfl
theorem aI_gmodeS {n : Int} : aI (gmodeS s n) A i = aI s A i := rfl
theorem aJ_gmodeS {n : Int} : aJ (gmodeS s n) A i = aJ s A i := rfl
theorem fI_childS {n c : Int} : fI (childS s n c) f = fI s f := by
  unfold childS
  split <;> rfl
theorem fJ_childS {n c : Int} : fJ (childS s n c) f = fJ s f := by
  unfold childS
  split <;> rfl
theorem aJ_childS {n c : Int} : aJ (childS s n c) A i = aJ s A i := by
  unfold childS
  split <;> rfl
theorem aI_childS {n c : Int} : aI (childS s n c) A i = if A = 21 ∧ i = n then c else if A = 20 ∧ i = n ∧ aI s 20 n = -1 then c else if A = 22 ∧ i = aI s 21 n ∧ aI s 20 n ≠ -1 then c else aI s A i := by
  unfold childS
  by_cases q : aI s 20 n = -1
  · rw [if_pos q]
    simp only [aI_vI, q, ne_eq, not_true_eq_false, and_false, if_false, and_true]
  · rw [if_neg q]
    simp only [aI_vI, q, ne_eq, not_false_eq_true, and_true, and_false, if_false]
/-- the model's arrays that its parser writes, by what bounds them -/
def clA (A : Nat) : Nat := if A = 34 ∨ A = 35 ∨ A = 36 ∨ A = 37 ∨ A = 38 ∨ A = 39 ∨ A = 46 ∨ A = 47 ∨ A = 48 then 1 else if A = 18 ∨ A = 19 ∨ A = 20 ∨ A = 21 ∨ A = 23 ∨ A = 24 ∨ A = 25 ∨ A = 26 ∨ A = 27 then 2 else if A = 6 ∨ A = 7 ∨ A = 8 ∨ A = 9 ∨ A = 10 ∨ A = 11 then 3 else if A = 12 ∨ A = 13 then 4 else if A = 30 ∨ A = 31 then 5 else if A = 14 ∨ A = 15 ∨ A = 16 then 6 else if A = 40 then 7 else if A = 41 ∨ A = 42 then 8 else if A = 43 then 9 else if A = 44 ∨ A = 45 then 10 else if A = 32 ∨ A = 33 then 11 else if A = 22 ∨ A = 28 ∨ A = 29 then 12 else 0
/-- its fields that its parser writes -/
def pfF (f : Nat) : Bool := [1915442860, 1764447916, 1772836524, 1781225132, 2066437804, 2175489708, 2192266924, 2217432748, 2234209964, 2024494764, 1789613740, 1848333996, 1873499820, 2125158060, 2133546668, 2141935279, 2150323884, 2158712492, 2167101100, 2259375788, 2267764396].contains f
def Lm (s : MS) (c : Nat) : Int := if c = 1 then fI s 2066437804 - 1 else if c = 2 then fI s 1915442860 else if c = 3 then fI s 1789613740 else if c = 4 then fI s 1848333996 else if c = 5 then fI s 2024494764 else if c = 6 then fI s 1873499820 else if c = 7 then fI s 2175489708 else if c = 8 then fI s 2192266924 else if c = 9 then fI s 2217432748 else if c = 10 then fI s 2234209964 else if c = 11 then fI s 1764447916 else fI s 1915442860
/-- what lies below the bounds L is as it was; v: a node whose next one may change -/
def Fr (L : Nat → Int) (v : Int) (s s' : MS) : Prop := (∀ A i, (clA A = 0 ∨ ((0 ≤ i ∧ i < L (clA A)) ∧ (clA A = 12 → i ≠ v))) → aI s' A i = aI s A i ∧ aJ s' A i = aJ s A i) ∧ (∀ f, pfF f = false → fI s' f = fI s f) ∧ (∀ f, fJ s' f = fJ s f)
variable {L L' : Nat → Int} {v v' : Int} {s1 s2 : MS}
theorem Fr.rf : Fr L v s s := ⟨fun _ _ _ => ⟨rfl, rfl⟩, fun _ _ => rfl, fun _ => rfl⟩
theorem Fr.tr (a : Fr L v s s1) (c : Fr L' v' s1 s2) (h : ∀ k, L k ≤ L' k) (hv : v' = v ∨ L 12 ≤ v' ∨ v' < 0) : Fr L v s s2 := by
  refine ⟨fun A i hA => ?_, fun f hf => (c.2.1 f hf).trans (a.2.1 f hf), fun f => (c.2.2 f).trans (a.2.2 f)⟩
  have a1 := a.1 A i hA
  have c1 := c.1 A i (by
    rcases hA with z | ⟨⟨z0, z1⟩, z2⟩
    · exact Or.inl z
    · refine Or.inr ⟨⟨z0, Int.lt_of_lt_of_le z1 (h _)⟩, fun y => ?_⟩
      have := z2 y
      rw [y] at z1
      omega)
  exact ⟨c1.1.trans a1.1, c1.2.trans a1.2⟩
theorem Fr.vI {j x : Int} (a : Fr L v s s1) (hA : clA A ≠ 0) (hj : L (clA A) ≤ j ∨ (clA A = 12 ∧ j = v)) : Fr L v s (vI' s1 A j x) := by
  refine ⟨fun B i hB => ?_, a.2.1, a.2.2⟩
  have := a.1 B i hB
  refine ⟨?_, this.2⟩
  rw [aI_vI, if_neg, this.1]
  rintro ⟨e1, e2⟩
  subst e1 e2
  rcases hB with z | ⟨⟨z0, z1⟩, z2⟩
  · exact hA z
  · rcases hj with y | ⟨y1, y2⟩
    · omega
    · exact z2 y1 y2
theorem Fr.vJ {j x : Int} (a : Fr L v s s1) (hA : clA A ≠ 0) (hj : L (clA A) ≤ j) : Fr L v s (vJ' s1 A j x) := by
  refine ⟨fun B i hB => ?_, a.2.1, a.2.2⟩
  have := a.1 B i hB
  refine ⟨this.1, ?_⟩
  rw [aJ_vJ, if_neg, this.2]
  rintro ⟨e1, e2⟩
  subst e1 e2
  rcases hB with z | ⟨⟨z0, z1⟩, z2⟩
  · exact hA z
  · omega
theorem Fr.uI {x : Int} (a : Fr L v s s1) (hf : pfF f = true) : Fr L v s (uI s1 f x) := by
  refine ⟨a.1, fun g hg => ?_, a.2.2⟩
  rw [fI_uI, if_neg (fun z => by rw [z, hf] at hg; cases hg)]
  exact a.2.1 g hg
theorem Fr.node {k t : Int} (a : Fr L v s s1) (h : L 2 ≤ fI s1 1915442860) (h' : L 12 ≤ fI s1 1915442860) : Fr L v s (nodeS s1 k t) := by
  unfold nodeS
  exact (((((((((((((a.vI (by decide) (Or.inl h)).vI (by decide) (Or.inl h)).vI (by decide) (Or.inl h)).vI (by decide) (Or.inl h)).vI (by decide) (Or.inl h')).vI (by decide) (Or.inl h)).vI (by decide) (Or.inl h)).vJ (by decide) h).vI (by decide) (Or.inl h)).vI (by decide) (Or.inl h)).vI (by decide) (Or.inl h')).vJ (by decide) h')).uI (by decide)
theorem Fr.mode {k o t : Int} (a : Fr L v s s1) (h : L 3 ≤ fI s1 1789613740) : Fr L v s (modeS s1 k o t) := by
  unfold modeS
  exact ((((((a.vI (by decide) (Or.inl h)).vI (by decide) (Or.inl h)).vI (by decide) (Or.inl h)).vI (by decide) (Or.inl h)).vI (by decide) (Or.inl h)).vJ (by decide) h).uI (by decide)
theorem Fr.push {g z a0 c e : Int} (a : Fr L v s s1) (h : L 1 ≤ fI s1 2066437804) : Fr L v s (pushS s1 g z a0 c e) := by
  unfold pushS
  exact ((((((a.vI (by decide) (Or.inl h)).vI (by decide) (Or.inl h)).vI (by decide) (Or.inl h)).vI (by decide) (Or.inl h)).vI (by decide) (Or.inl h)).vI (by decide) (Or.inl h)).uI (by decide)
theorem Fr.give {n r : Int} (a : Fr L v s s1) : Fr L v s (giveS s1 n r) := ((a.uI (by decide)).uI (by decide)).uI (by decide)
theorem Fr.gmode {n : Int} (a : Fr L v s s1) : Fr L v s (gmodeS s1 n) := (a.uI (by decide)).uI (by decide)
theorem Fr.child {n c : Int} (a : Fr L v s s1) (h : L 2 ≤ n) (hl : aI s1 20 n ≠ -1 → L 12 ≤ aI s1 21 n ∨ aI s1 21 n = v) : Fr L v s (childS s1 n c) := by
  unfold childS
  split
  · exact (a.vI (by decide) (Or.inl h)).vI (by decide) (Or.inl h)
  · rename_i z
    exact (a.vI (by decide) ((hl z).imp id (fun y => ⟨by decide, y⟩))).vI (by decide) (Or.inl h)
/-- what a failed reading leaves as it was -/
def FrW (s s' : MS) : Prop := (∀ A i, (clA A = 0 ∨ (clA A = 3 ∧ 0 ≤ i ∧ i < 2000 * fI s 1697339052) ∨ (clA A = 4 ∧ 0 ≤ i ∧ i < 1300 * fI s 1697339052) ∨ (clA A = 5 ∧ 0 ≤ i ∧ i < 200 * fI s 1697339052)) → aI s' A i = aI s A i ∧ aJ s' A i = aJ s A i) ∧ (∀ f, pfF f = false → fI s' f = fI s f) ∧ (∀ f, fJ s' f = fJ s f)
theorem FrW.tr (a : FrW s s1) (c : FrW s1 s2) : FrW s s2 := by
  have hp : fI s1 1697339052 = fI s 1697339052 := a.2.1 _ (by decide)
  refine ⟨fun A i hA => ?_, fun f hf => (c.2.1 f hf).trans (a.2.1 f hf), fun f => (c.2.2 f).trans (a.2.2 f)⟩
  have a1 := a.1 A i hA
  have c1 := c.1 A i (by rw [hp]; exact hA)
  exact ⟨c1.1.trans a1.1, c1.2.trans a1.2⟩
theorem Fr.w (a : Fr L v s s1) (h3 : 2000 * fI s 1697339052 ≤ L 3) (h4 : 1300 * fI s 1697339052 ≤ L 4) (h5 : 200 * fI s 1697339052 ≤ L 5) : FrW s s1 := by
  refine ⟨fun A i hA => a.1 A i ?_, a.2.1, a.2.2⟩
  rcases hA with z | ⟨z, y⟩ | ⟨z, y⟩ | ⟨z, y⟩
  · exact Or.inl z
  all_goals
    refine Or.inr ⟨?_, fun w => ?_⟩
    · rw [z]; omega
    · rw [z] at w; cases w

end MRd
