/-! THE MODEL's PARSER: members of modes -/
set_option maxRecDepth 100000
set_option maxHeartbeats 1000000
section MM
variable {s : MS} {b : PH} {m : Nat} {g : Int}
def copyS : Nat → MS → Int → MS
  | 0, s, _ => s
  | n + 1, s, k => copyS n (uI (vJ' (vI' s 12 (fI s 1848333996) (aI s 44 k)) 13 (fI s 1848333996) (aJ s 45 k)) 1848333996 (fI s 1848333996 + 1)) (k + 1)
theorem mw_loop (cf : Nat → List PV → PH → Rs) (B : MB b m) (a c e q : Int) : ∀ (n : Nat) (s : MS) (k : Int), k + n = fI s 2234209964 → 0 ≤ k → fI s 2234209964 ≤ 490 → 0 ≤ fI s 1848333996 → fI s 1848333996 + n ≤ 7800 → FA cf 54876852 51 [vR m, vI a, vI c, vI e, vI q, vI k] [] (MH b m s) = FA cf 54876852 108 [vR m, vI a, vI c, vI e, vI q, vI (k + n)] [] (MH b m (copyS n s k)) := by
  intro n
  induction n with
  | zero =>
    intro s k h1 h2 h3 h4 h5
    have e0 : k + ((0 : Nat) : Int) = k := by omega
    rw [e0, k_X10_withMembers_51 _ _ _ _ _ _ _ _ _ B, if_neg (by omega)]
    rfl
  | succ n ih =>
    intro s k h1 h2 h3 h4 h5
    rw [k_X10_withMembers_51 _ _ _ _ _ _ _ _ _ B, if_pos (by omega), k_X10_withMembers_60 _ _ _ _ _ _ _ _ _ B (by omega) (by omega), w32_id (x := fI s 1848333996 + 1) (by omega) (by omega), w32_id (x := k + 1) (by omega) (by omega)]
    have e1 : k + ((n + 1 : Nat) : Int) = k + 1 + (n : Int) := by omega
    have ih := ih (uI (vJ' (vI' s 12 (fI s 1848333996) (aI s 44 k)) 13 (fI s 1848333996) (aJ s 45 k)) 1848333996 (fI s 1848333996 + 1)) (k + 1)
    rw [e1]
    refine ih ?_ (by omega) ?_ ?_ ?_
    · show k + 1 + (n : Int) = fI s 2234209964
      omega
    · exact h3
    · show 0 ≤ fI s 1848333996 + 1
      omega
    · show fI s 1848333996 + 1 + n ≤ 7800
      omega
theorem copyS_f {f : Nat} : ∀ (n : Nat) (s : MS) (k : Int), fI (copyS n s k) f = if f = 1848333996 then fI s 1848333996 + n else fI s f := by
  intro n
  induction n with
  | zero =>
    intro s k
    show fI s f = _
    split
    · rename_i z; rw [z]; omega
    · rfl
  | succ n ih =>
    intro s k
    show fI (copyS n _ (k + 1)) f = _
    rw [ih]
    simp only [fI_uI, fI_vI, fI_vJ]
    split
    · rw [if_pos trivial]; omega
    · rfl
theorem copyS_F {f : Nat} : ∀ (n : Nat) (s : MS) (k : Int), fJ (copyS n s k) f = fJ s f := by
  intro n
  induction n with
  | zero => intro s k; rfl
  | succ n ih => intro s k; exact ih _ _
theorem copyS_a {A : Nat} {i : Int} (h1 : A ≠ 12) : ∀ (n : Nat) (s : MS) (k : Int), aI (copyS n s k) A i = aI s A i := by
  intro n
  induction n with
  | zero => intro s k; rfl
  | succ n ih =>
    intro s k
    show aI (copyS n _ (k + 1)) A i = _
    rw [ih, aI_uI, aI_vJ, aI_vI, if_neg (fun z => h1 z.1)]
theorem copyS_b {A : Nat} {i : Int} (h1 : A ≠ 13) : ∀ (n : Nat) (s : MS) (k : Int), aJ (copyS n s k) A i = aJ s A i := by
  intro n
  induction n with
  | zero => intro s k; rfl
  | succ n ih =>
    intro s k
    show aJ (copyS n _ (k + 1)) A i = _
    rw [ih, aJ_uI, aJ_vJ, if_neg (fun z => h1 z.1), aJ_vI]
theorem copyS_lo {A : Nat} {i : Int} : ∀ (n : Nat) (s : MS) (k : Int), i < fI s 1848333996 → aI (copyS n s k) A i = aI s A i ∧ aJ (copyS n s k) A i = aJ s A i := by
  intro n
  induction n with
  | zero => intro s k _; exact ⟨rfl, rfl⟩
  | succ n ih =>
    intro s k h
    have := ih (uI (vJ' (vI' s 12 (fI s 1848333996) (aI s 44 k)) 13 (fI s 1848333996) (aJ s 45 k)) 1848333996 (fI s 1848333996 + 1)) (k + 1) (by show i < fI s 1848333996 + 1; omega)
    refine ⟨this.1.trans ?_, this.2.trans ?_⟩
    · rw [aI_uI, aI_vJ, aI_vI, if_neg (fun z => by omega)]
    · rw [aJ_uI, aJ_vJ, if_neg (fun z => by omega), aJ_vI]
theorem copyS_l : ∀ (n : Nat) (s : MS) (k : Int) (j : Nat), j < n → aI (copyS n s k) 12 (fI s 1848333996 + j) = aI s 44 (k + j) ∧ aJ (copyS n s k) 13 (fI s 1848333996 + j) = aJ s 45 (k + j) := by
  intro n
  induction n with
  | zero => intro s k j hj; omega
  | succ n ih =>
    intro s k j hj
    generalize hs1 : (uI (vJ' (vI' s 12 (fI s 1848333996) (aI s 44 k)) 13 (fI s 1848333996) (aJ s 45 k)) 1848333996 (fI s 1848333996 + 1)) = s1
    have el : fI s1 1848333996 = fI s 1848333996 + 1 := by rw [← hs1]; rfl
    have em : ∀ i, aI s1 44 i = aI s 44 i := fun i => by rw [← hs1]; rfl
    have et : ∀ i, aJ s1 45 i = aJ s 45 i := fun i => by rw [← hs1]; rfl
    have ec : copyS (n + 1) s k = copyS n s1 (k + 1) := by rw [← hs1]; rfl
    rw [ec]
    cases j with
    | zero =>
      have := copyS_lo (A := 12) (i := fI s 1848333996 + (0 : Nat)) n s1 (k + 1) (by omega)
      have t2 := copyS_lo (A := 13) (i := fI s 1848333996 + (0 : Nat)) n s1 (k + 1) (by omega)
      rw [this.1, t2.2, show fI s 1848333996 + ((0 : Nat) : Int) = fI s 1848333996 by omega, show k + ((0 : Nat) : Int) = k by omega, ← hs1]
      exact ⟨if_pos ⟨rfl, rfl⟩, if_pos ⟨rfl, rfl⟩⟩
    | succ j =>
      have := ih s1 (k + 1) j (by omega)
      rw [el, em, et] at this
      rw [show fI s 1848333996 + ((j + 1 : Nat) : Int) = fI s 1848333996 + 1 + (j : Int) by omega, show k + ((j + 1 : Nat) : Int) = k + 1 + (j : Int) by omega]
      exact this
/-- a mode with the members that were read -/
def memS (s : MS) (g k e : Int) : MS := uI (copyS (fI s 2234209964 - aI s 37 g).toNat (vI' (vI' (modeS s k e (aI s 38 g)) 8 (fI s 1789613740) (fI s 1848333996)) 9 (fI s 1789613740) (fI s 2234209964 - aI s 37 g)) (aI s 37 g)) 2234209964 (aI s 37 g)
theorem mr_withMembers (d : Nat) (B : MB b m) (k e : Int) (h1 : inA g 600) (h2 : 0 ≤ aI s 37 g) (h3 : aI s 37 g ≤ fI s 2234209964) (h4 : fI s 2234209964 ≤ 490) (h5 : inA (fI s 1789613740) 12000) (h6 : 0 ≤ fI s 1848333996) (h7 : fI s 1848333996 + (fI s 2234209964 - aI s 37 g) ≤ 7800) : F (d + 2) 54876852 [vR m, vI g, vI k, vI e] (MH b m s) = some (.inl (some (vI (fI s 1789613740))), MH b m (memS s g k e)) := by
  have en : aI s 37 g + ((fI s 2234209964 - aI s 37 g).toNat : Int) = fI s 2234209964 := by omega
  rw [e_X10_withMembers, k_X10_withMembers_0 _ _ _ _ _ _ _ _ _ B h1, mf_newMode d B h5, bnd_v, pu_s, k_X10_withMembers_12 _ _ _ _ _ _ _ _ _ _ B h5 h1]
  simp only [fI_modeS, aI_modeS, bnd_v, bnd_x, pu_s, pu_n, b01_T, b01_F, Int.reduceEq, Int.reduceLT, Int.reduceLE, Int.reduceNe, Nat.reduceEqDiff, Nat.reduceLeDiff, and_false, false_and, and_true, true_and, or_false, false_or, or_true, true_or, if_true, if_false, not_true_eq_false, not_false_eq_true, eq_self, ne_eq, reduceCtorEq, false_implies, true_implies, implies_true, w32_id (x := fI s 2234209964 - aI s 37 g) (by omega) (by omega)]
  rw [mw_loop _ B _ _ _ _ (fI s 2234209964 - aI s 37 g).toNat (vI' (vI' (modeS s k e (aI s 38 g)) 8 (fI s 1789613740) (fI s 1848333996)) 9 (fI s 1789613740) (fI s 2234209964 - aI s 37 g)) _ en h2 h4 h6 (by show fI s 1848333996 + _ ≤ 7800; omega), k_X10_withMembers_108 _ _ _ _ _ _ _ _ _ B h1, copyS_a (by decide)]
  rfl
theorem memS_f {k e : Int} {f : Nat} (h3 : aI s 37 g ≤ fI s 2234209964) : fI (memS s g k e) f = if f = 2234209964 then aI s 37 g else if f = 1848333996 then fI s 1848333996 + (fI s 2234209964 - aI s 37 g) else if f = 1789613740 then fI s 1789613740 + 1 else fI s f := by
  unfold memS
  rw [fI_uI, copyS_f]
  simp only [fI_vI, fI_modeS, bnd_v, bnd_x, pu_s, pu_n, b01_T, b01_F, Int.reduceEq, Int.reduceLT, Int.reduceLE, Int.reduceNe, Nat.reduceEqDiff, Nat.reduceLeDiff, and_false, false_and, and_true, true_and, or_false, false_or, or_true, true_or, if_true, if_false, not_true_eq_false, not_false_eq_true, eq_self, ne_eq, reduceCtorEq, false_implies, true_implies, implies_true, show (((fI s 2234209964 - aI s 37 g).toNat : Nat) : Int) = fI s 2234209964 - aI s 37 g by omega]
theorem memS_F {k e : Int} {f : Nat} : fJ (memS s g k e) f = fJ s f := by
  unfold memS
  rw [fJ_uI, copyS_F]
  rfl
theorem memS_a {k e : Int} {A : Nat} {i : Int} (h : A ≠ 12) : aI (memS s g k e) A i = if A = 9 ∧ i = fI s 1789613740 then fI s 2234209964 - aI s 37 g else if A = 8 ∧ i = fI s 1789613740 then fI s 1848333996 else aI (modeS s k e (aI s 38 g)) A i := by
  unfold memS
  rw [aI_uI, copyS_a h, aI_vI, aI_vI]
theorem memS_b {k e : Int} {A : Nat} {i : Int} (h : A ≠ 13) : aJ (memS s g k e) A i = aJ (modeS s k e (aI s 38 g)) A i := by
  unfold memS
  rw [aJ_uI, copyS_b h, aJ_vI, aJ_vI]
theorem memS_l {k e : Int} {j : Nat} (hj : (j : Int) < fI s 2234209964 - aI s 37 g) : aI (memS s g k e) 12 (fI s 1848333996 + j) = aI s 44 (aI s 37 g + j) ∧ aJ (memS s g k e) 13 (fI s 1848333996 + j) = aJ s 45 (aI s 37 g + j) := by
  unfold memS
  rw [aI_uI, aJ_uI]
  exact copyS_l (fI s 2234209964 - aI s 37 g).toNat (vI' (vI' (modeS s k e (aI s 38 g)) 8 (fI s 1789613740) (fI s 1848333996)) 9 (fI s 1789613740) (fI s 2234209964 - aI s 37 g)) (aI s 37 g) j (by omega)
theorem memS_lo {k e : Int} {A : Nat} {i : Int} (h4 : clA A = 4) (hi : i < fI s 1848333996) : aI (memS s g k e) A i = aI s A i ∧ aJ (memS s g k e) A i = aJ s A i := by
  unfold memS
  rw [aI_uI, aJ_uI]
  have := copyS_lo (A := A) (i := i) (fI s 2234209964 - aI s 37 g).toNat (vI' (vI' (modeS s k e (aI s 38 g)) 8 (fI s 1789613740) (fI s 1848333996)) 9 (fI s 1789613740) (fI s 2234209964 - aI s 37 g)) (aI s 37 g) hi
  rw [this.1, this.2]
  have nq : ∀ B, clA B ≠ 4 → A ≠ B := fun B hB e => hB (by rw [← e]; exact h4)
  refine ⟨?_, ?_⟩
  · rw [aI_vI, if_neg (fun z => nq _ (by decide) z.1), aI_vI, if_neg (fun z => nq _ (by decide) z.1), aI_modeS, if_neg (fun z => nq _ (by decide) z.1), if_neg (fun z => nq _ (by decide) z.1), if_neg (fun z => nq _ (by decide) z.1), if_neg (fun z => nq _ (by decide) z.1), if_neg (fun z => nq _ (by decide) z.1)]
  · rw [aJ_vI, aJ_vI, aJ_modeS, if_neg (fun z => nq _ (by decide) z.1)]
theorem Fr.mem {L : Nat → Int} {v k e : Int} {s1 : MS} (a : Fr L v s s1) (h3 : L 3 ≤ fI s1 1789613740) (h4 : L 4 ≤ fI s1 1848333996) (hb : aI s1 37 g ≤ fI s1 2234209964) : Fr L v s (memS s1 g k e) := by
  refine ⟨fun A i hA => ?_, fun f hf => ?_, fun f => ?_⟩
  · have a1 := a.1 A i hA
    have nq : ∀ B, clA A ≠ clA B → A ≠ B := fun B hB e => hB (by rw [e])
    by_cases c4 : clA A = 4
    · rcases hA with z | ⟨⟨z0, z1⟩, z2⟩
      · rw [z] at c4; cases c4
      · rw [c4] at z1
        have := memS_lo (s := s1) (g := g) (k := k) (e := e) c4 (show i < fI s1 1848333996 by omega)
        rw [this.1, this.2]
        exact a1
    · by_cases c3 : clA A = 3
      · rcases hA with z | ⟨⟨z0, z1⟩, z2⟩
        · rw [z] at c3; cases c3
        · rw [c3] at z1
          have ni : i ≠ fI s1 1789613740 := by omega
          rw [memS_a (nq _ (by rw [c3]; decide)), memS_b (nq _ (by rw [c3]; decide)), if_neg (fun z => ni z.2), if_neg (fun z => ni z.2), aI_modeS, aJ_modeS, if_neg (fun z => ni z.2), if_neg (fun z => ni z.2), if_neg (fun z => ni z.2), if_neg (fun z => ni z.2), if_neg (fun z => ni z.2), if_neg (fun z => ni z.2)]
          exact a1
      · have n3 : ∀ B, clA B = 3 → A ≠ B := fun B hB e => c3 (by rw [e]; exact hB)
        have n4 : ∀ B, clA B = 4 → A ≠ B := fun B hB e => c4 (by rw [e]; exact hB)
        rw [memS_a (n4 _ (by decide)), memS_b (n4 _ (by decide)), if_neg (fun z => n3 _ (by decide) z.1), if_neg (fun z => n3 _ (by decide) z.1), aI_modeS, aJ_modeS, if_neg (fun z => n3 _ (by decide) z.1), if_neg (fun z => n3 _ (by decide) z.1), if_neg (fun z => n3 _ (by decide) z.1), if_neg (fun z => n3 _ (by decide) z.1), if_neg (fun z => n3 _ (by decide) z.1), if_neg (fun z => n3 _ (by decide) z.1)]
        exact a1
  · rw [memS_f hb]
    have nf : ∀ x, pfF x = true → f ≠ x := fun x hx e => by rw [e, hx] at hf; cases hf
    rw [if_neg (nf _ (by decide)), if_neg (nf _ (by decide)), if_neg (nf _ (by decide))]
    exact a.2.1 f hf
  · rw [memS_F]
    exact a.2.2 f
end MM
