/-! READING, x AND THE MODEL: what holds together -/
set_option maxRecDepth 100000
section JT
variable {h h1 : PH} {s s1 : MS} {p lx t o t1 o1 : Nat} {X X' : Nat → Prop} {l : List TokE} {PR : Int} {P P1 : List (Nat × Int)} {O O1 W : Nat → Prop} {Z0 Z u : Nat} {L : Nat → Int} {v : Int}
/-- a mode of x and one of the model, alike by what they lead to -/
def MLoc (h : PH) (s : MS) (P : List (Nat × Int)) (O : Nat → Prop) (PR : Int) (q : Nat) (i : Int) : Prop :=
  (hc h q = 9 ∧ O q ∧ O (gR h 646517286 q)) ∧ (2000 * PR ≤ i ∧ i < fI s 1789613740 ∧ aI s 6 i = gI h 638128676 q) ∧ (0 ≤ gI h 638128676 q ∧ gI h 638128676 q ≤ 9) ∧ (gI h 638128676 q < 4 → i = 2000 * PR + gI h 638128676 q) ∧ ((gI h 638128676 q = 4 ∨ gI h 638128676 q = 5 ∨ gI h 638128676 q = 6) → (gR h 671683110 q, aI s 7 i) ∈ P) ∧ (¬ (gI h 638128676 q = 4 ∨ gI h 638128676 q = 5 ∨ gI h 638128676 q = 6) → gR h 671683110 q = 0) ∧ (gI h 638128676 q = 9 → aJ s 11 i = gJ h 663294501 q) ∧
  ∃ ps : List Nat, AL h (gR h 646517286 q) ps ∧ aI s 9 i = ps.length ∧ (ps ≠ [] → 1300 * PR ≤ aI s 8 i ∧ aI s 8 i + ps.length ≤ fI s 1848333996) ∧ (∀ j : Nat, j < ps.length → (ps.getD j 0, aI s 12 (aI s 8 i + j)) ∈ P) ∧ (¬ (gI h 638128676 q = 5 ∨ gI h 638128676 q = 7 ∨ gI h 638128676 q = 8) → ps = []) ∧ (gI h 638128676 q = 7 ∨ gI h 638128676 q = 8 → ps ≠ []) ∧ ps.length ≤ 8 ∧ (gI h 638128676 q = 7 → O (gR h 654905894 q) ∧ hc h (gR h 654905894 q) = 66 ∧ hl h (gR h 654905894 q) = ps.length ∧ ∀ j : Nat, j < ps.length → eJ h (gR h 654905894 q) j = aJ s 13 (aI s 8 i + j))
def MoK (h : PH) (s : MS) (P : List (Nat × Int)) (O : Nat → Prop) (PR : Int) : Prop := (∀ k : Int, 0 ≤ k → k < 4 → aI s 6 (2000 * PR + k) = k ∧ aI s 9 (2000 * PR + k) = 0) ∧ ∀ q i, (q, i) ∈ P → MLoc h s P O PR q i
/-- the indicants that were read -/
def IndL (h : PH) (p : Nat) (P : List (Nat × Int)) (n : Nat) : Prop := ∃ ks : List Nat, AL h (p + 5) ks ∧ (∀ k ∈ ks, (∃ i, (k, i) ∈ P) ∧ gI h 638128676 k = 9) ∧ (∀ q i, (q, i) ∈ P → gI h 638128676 q = 9 → q ∈ ks) ∧ ks.length ≤ n
/-- a candidate of x and the model's mark at a token -/
def CM (h : PH) (s : MS) (P : List (Nat × Int)) (c k : Nat) : Prop := (aI s 32 k = 1 ∧ gI h 92406792 c = 4 ∧ gR h 109184010 c = 0) ∨ (aI s 32 k = 2 ∧ gI h 92406792 c = 2 ∧ gR h 109184010 c = 0) ∨ (aI s 32 k = 3 ∧ gI h 92406792 c = 4 ∧ gR h 109184010 c ≠ 0 ∧ (gR h 109184010 c, aI s 33 k) ∈ P)
/-- what is wrong of itself; of the tokens X nothing is said -/
def Cnd (h : PH) (s : MS) (p : Nat) (l : List TokE) (t : Nat) (X : Nat → Prop) (P : List (Nat × Int)) (O : Nat → Prop) (n : Nat) : Prop := ∃ cs : List Nat, AL h (p + 6) cs ∧ (∀ c ∈ cs, O c ∧ hc h c = 2 ∧ ∃ k : Nat, k < t ∧ ¬ X k ∧ gI h 100795400 c = pl l k ∧ CM h s P c k) ∧ (∀ k : Nat, k < t → ¬ X k → aI s 32 k = 0 ∨ aI s 32 k = 4 ∨ ∃ c ∈ cs, gI h 100795400 c = pl l k ∧ CM h s P c k) ∧ (∀ k : Nat, t ≤ k → k < l.length → aI s 32 k = 0) ∧ cs.length ≤ n
/-- the parser's lists -/
def XFd (h : PH) (p : Nat) : Prop := gR h 1302612114 p = p + 1 ∧ gR h 1311000722 p = p + 2 ∧ gR h 1319389330 p = p + 3 ∧ gR h 1327777938 p = p + 4 ∧ gR h 1336166546 p = p + 5 ∧ gR h 1344555154 p = p + 6
def S6 (h : PH) (p : Nat) : Int := cap h (p + 1) + cap h (p + 2) + cap h (p + 3) + cap h (p + 4) + cap h (p + 5) + cap h (p + 6)
/-- what was used: Z units, and the parser's lists -/
def Bud (h : PH) (p Z0 Z : Nat) : Prop := (hs h : Int) ≤ 64 * Z + 4 * S6 h p ∧ (hk h : Int) ≤ Z + S6 h p ∧ Z0 ≤ Z ∧ ∀ j : Nat, 1 ≤ j → j ≤ 6 → hc h (p + j) = 48 ∧ 0 ≤ cap h (p + j) ∧ cap h (p + j) ≤ 2 * ((Z : Int) - Z0) + 10
/-- the model's side alone -/
def MJ (s : MS) (l : List TokE) (t o : Nat) (PR : Int) : Prop := MA s l t ∧ fI s 1781225132 = o ∧ fI s 1772836524 = -1 ∧ fI s 1697339052 = PR ∧ (0 ≤ PR ∧ PR ≤ 5) ∧ (2000 * PR + 4 ≤ fI s 1789613740 ∧ fI s 1789613740 ≤ 2000 * PR + 4 + t) ∧ (1300 * PR ≤ fI s 1848333996 ∧ fI s 1848333996 + fI s 2234209964 ≤ 1300 * PR + t) ∧ 0 ≤ fI s 2234209964 ∧ 200 * PR ≤ fI s 2024494764
/-- beyond the parser's own -/
def OM (p : Nat) (O : Nat → Prop) : Nat → Prop := fun q => O q ∧ p + 6 < q
def JD (h : PH) (s : MS) (p lx : Nat) (l : List TokE) (t o : Nat) (PR : Int) (P : List (Nat × Int)) (X : Nat → Prop) (O : Nat → Prop) (Z0 Z : Nat) : Prop := PXs h p lx l t o ∧ XFd h p ∧ ((∀ q, q ≤ p + 6 → O q) ∧ (∀ q, O q → q < hn h)) ∧ MJ s l t o PR ∧ MoK h s P (OM p O) PR ∧ IndL h p P (Z - Z0) ∧ Cnd h s p l t X P (OM p O) (Z - Z0) ∧ Bud h p Z0 Z
theorem JD.x (J : JD h s p lx l t o PR P X O Z0 Z) : PXs h p lx l t o := J.1
theorem JD.i (J : JD h s p lx l t o PR P X O Z0 Z) : HI h := J.1.i
theorem JD.m (J : JD h s p lx l t o PR P X O Z0 Z) : MJ s l t o PR := J.2.2.2.1
theorem JD.a (J : JD h s p lx l t o PR P X O Z0 Z) : MA s l t := J.2.2.2.1.1
theorem JD.lo (J : JD h s p lx l t o PR P X O Z0 Z) {q : Nat} (hq : q ≤ p + 6) : O q := J.2.2.1.1 q hq
theorem JD.hi (J : JD h s p lx l t o PR P X O Z0 Z) {q : Nat} (hq : O q) : q < hn h := J.2.2.1.2 q hq
theorem JD.nO (J : JD h s p lx l t o PR P X O Z0 Z) : ¬ O (hn h) := fun z => Nat.lt_irrefl _ (J.hi z)
/-- frames: what the model's parser leaves -/
theorem Fr.mono {L' : Nat → Int} (a : Fr L v s s1) (hL : ∀ k, L' k ≤ L k) : Fr L' v s s1 := by
  refine ⟨fun A i hA => a.1 A i ?_, a.2⟩
  rcases hA with z | ⟨⟨z0, z1⟩, z2⟩
  · exact Or.inl z
  · exact Or.inr ⟨⟨z0, Int.lt_of_lt_of_le z1 (hL _)⟩, z2⟩
theorem TM.fr (T : TM s l) (a : Fr L v s s1) : TM s1 l := by
  refine ⟨(a.2.1 _ (by decide)).trans T.1, T.2.1, T.2.2.1, fun k hk => ?_⟩
  have := T.2.2.2 k hk
  rw [(a.1 2 (0 + (k : Int)) (Or.inl (by decide))).1, (a.1 3 (0 + (k : Int)) (Or.inl (by decide))).1, (a.1 4 (0 + (k : Int)) (Or.inl (by decide))).1, (a.1 5 (0 + (k : Int)) (Or.inl (by decide))).2]
  exact this
theorem MJ.fr (M : MJ s l t o PR) (a : Fr L v s s1) (h1 : fI s1 1764447916 = t1) (ht : t ≤ t1) (hx : t1 < xc l) (h2 : fI s1 1781225132 = o1) (h3 : fI s1 1772836524 = -1) (h4 : fI s 1789613740 ≤ fI s1 1789613740 ∧ fI s1 1789613740 + t ≤ fI s 1789613740 + t1) (h5 : fI s 1848333996 ≤ fI s1 1848333996 ∧ fI s1 1848333996 + fI s1 2234209964 + t ≤ fI s 1848333996 + fI s 2234209964 + t1) (h6 : 0 ≤ fI s1 2234209964) (h7 : fI s 2024494764 ≤ fI s1 2024494764) : MJ s1 l t1 o1 PR := by
  obtain ⟨m1, m2, m3, m4, m5, m6, m7, m8⟩ := M
  exact ⟨⟨m1.1.fr a, h1, hx⟩, h2, h3, (a.2.1 _ (by decide)).trans m4, m5, by omega, by omega, h6, by omega⟩
/-- what a step of x must leave -/
theorem MLoc.st {q : Nat} {i : Int} (M : MLoc h s P O PR q i) (C : ConH h) (E : Ev W u h h1) (hW : ∀ q, W q → ¬ O q ∨ hc h q = 36) (h0 : ¬ W 0) (hO : ∀ q, O q → q < hn h) (a : Fr L v s s1) (PR0 : 0 ≤ PR) (h3 : fI s 1789613740 ≤ L 3) (h4 : fI s 1848333996 ≤ L 4) (g3 : fI s 1789613740 ≤ fI s1 1789613740) (g4 : fI s 1848333996 ≤ fI s1 1848333996) (hP : ∀ e ∈ P, e ∈ P1) (hOO : ∀ q, O q → O1 q) : MLoc h1 s1 P1 O1 PR q i := by
  obtain ⟨⟨a1, a2, a3⟩, ⟨b1, b2, b3⟩, c1, c2, c3, c4, c5, ps, d1, d2, d3, d4, d5, d6, d7, d8⟩ := M
  have nW : ∀ q, O q → hc h q ≠ 36 → ¬ W q := fun q z y w => (hW q w).elim (fun x => x z) y
  have S := E.ob (hO q a2) (nW q a2 (by rw [a1]; decide)) (by rw [a1]; decide)
  obtain ⟨s1', s2', s3', s4', s5', s6', s7', s8'⟩ := S
  have i0 : 0 ≤ i := by omega
  have k3 : i < L 3 := by omega
  have r : ∀ A, clA A = 3 → aI s1 A i = aI s A i ∧ aJ s1 A i = aJ s A i := fun A hA => a.1 A i (Or.inr ⟨by rw [hA]; exact ⟨i0, k3⟩, fun z => by rw [hA] at z; cases z⟩)
  have rl : ∀ A, clA A = 4 → ∀ j : Nat, j < ps.length → aI s1 A (aI s 8 i + j) = aI s A (aI s 8 i + j) ∧ aJ s1 A (aI s 8 i + j) = aJ s A (aI s 8 i + j) := fun A hA j hj => by
    have := d3 (fun z => by rw [z] at hj; exact absurd hj (Nat.not_lt_zero _))
    exact a.1 A _ (Or.inr ⟨by rw [hA]; constructor <;> omega, fun z => by rw [hA] at z; cases z⟩)
  have e1 := (r 6 (by decide)).1
  have e2 := (r 7 (by decide)).1
  have e3 := (r 8 (by decide)).1
  have e4 := (r 9 (by decide)).1
  have e5 := (r 11 (by decide)).2
  have k := s3' 638128676
  have kp := s5' 646517286
  unfold MLoc
  rw [k, kp, s5' 671683110, s5' 654905894, s4' 663294501, s1', e1, e2, e3, e4, e5]
  refine ⟨⟨a1, hOO _ a2, hOO _ a3⟩, ⟨b1, by omega, b3⟩, c1, c2, fun z => hP _ (c3 z), c4, c5, ps, E.al C (nW _ a3 (by rw [d1.1]; decide)) h0 d1, d2, fun z => ⟨(d3 z).1, by have := (d3 z).2; omega⟩, fun j hj => ?_, d5, d6, d7, fun z => ?_⟩
  · rw [(rl 12 (by decide) j hj).1]; exact hP _ (d4 j hj)
  · obtain ⟨f1, f2, f3, f4⟩ := d8 z
    have S' := E.ob (hO _ f1) (nW _ f1 (by rw [f2]; decide)) (by rw [f2]; decide)
    refine ⟨hOO _ f1, by rw [S'.1]; exact f2, by rw [S'.2.1]; exact f3, fun j hj => ?_⟩
    rw [S'.2.2.2.2.2.2.1, (rl 13 (by decide) j hj).2]; exact f4 j hj
theorem MoK.st (M : MoK h s P O PR) (J : MJ s l t o PR) (C : ConH h) (E : Ev W u h h1) (hW : ∀ q, W q → ¬ O q ∨ hc h q = 36) (h0 : ¬ W 0) (hO : ∀ q, O q → q < hn h) (a : Fr L v s s1) (h3 : fI s 1789613740 ≤ L 3) (h4 : fI s 1848333996 ≤ L 4) (g3 : fI s 1789613740 ≤ fI s1 1789613740) (g4 : fI s 1848333996 ≤ fI s1 1848333996) (hP : ∀ e ∈ P, e ∈ P1) (hOO : ∀ q, O q → O1 q) (hN : ∀ q i, (q, i) ∈ P1 → (q, i) ∈ P ∨ MLoc h1 s1 P1 O1 PR q i) : MoK h1 s1 P1 O1 PR := by
  have PR0 : 0 ≤ PR := J.2.2.2.2.1.1
  refine ⟨fun k k0 k1 => ?_, fun q i z => ?_⟩
  · have := M.1 k k0 k1
    have mm := J.2.2.2.2.2.1
    have r : ∀ A, clA A = 3 → aI s1 A (2000 * PR + k) = aI s A (2000 * PR + k) := fun A hA => (a.1 A _ (Or.inr ⟨by rw [hA]; constructor <;> omega, fun z => by rw [hA] at z; cases z⟩)).1
    rw [r _ (by decide), r _ (by decide)]
    exact this
  · rcases hN q i z with y | y
    · exact (M.2 q i y).st C E hW h0 hO a PR0 h3 h4 g3 g4 hP hOO
    · exact y
theorem MoK.kind {q : Nat} {i : Int} (M : MoK h s P O PR) (E : Ev W u h h1) (hW : ∀ q, W q → ¬ O q ∨ hc h q = 36) (hO : ∀ q, O q → q < hn h) (z : (q, i) ∈ P) : gI h1 638128676 q = gI h 638128676 q := by
  have m := (M.2 q i z).1
  have nW : ¬ W q := fun w => (hW q w).elim (fun x => x m.2.1) (fun y => by rw [m.1] at y; cases y)
  exact (E.ob (hO q m.2.1) nW (by rw [m.1]; decide)).2.2.1 _
theorem IndL.st {n n1 : Nat} (I : IndL h p P n) (M : MoK h s P O PR) (C : ConH h) (E : Ev W u h h1) (hW : ∀ q, W q → ¬ O q ∨ hc h q = 36) (h0 : ¬ W 0) (h5 : ¬ W (p + 5)) (hO : ∀ q, O q → q < hn h) (hn1 : n ≤ n1) : IndL h1 p P n1 := by
  obtain ⟨ks, k1, k2, k3, k4⟩ := I
  refine ⟨ks, E.al C h5 h0 k1, fun k z => ?_, fun q i z y => k3 q i z (by rw [← M.kind E hW hO z]; exact y), by omega⟩
  obtain ⟨⟨i, z1⟩, z2⟩ := k2 k z
  exact ⟨⟨i, z1⟩, by rw [M.kind E hW hO z1]; exact z2⟩
theorem Cnd.st {n n1 : Nat} (I : Cnd h s p l t X P O n) (C : ConH h) (E : Ev W u h h1) (hW : ∀ q, W q → ¬ O q ∨ hc h q = 36) (h0 : ¬ W 0) (h6 : ¬ W (p + 6)) (hO : ∀ q, O q → q < hn h) (a : Fr L v s s1) (h11 : (l.length : Int) ≤ L 11) (ht : t ≤ t1) (tl : t1 < l.length) (hn1 : n ≤ n1) (hP : ∀ e ∈ P, e ∈ P1) (hOO : ∀ q, O q → O1 q) : Cnd h1 s1 p l t1 X P1 O1 n1 := by
  obtain ⟨cs, c1, c2, c3, c5, c6⟩ := I
  have nW : ∀ q, O q → hc h q ≠ 36 → ¬ W q := fun q z y w => (hW q w).elim (fun x => x z) y
  have rw11 : ∀ A, clA A = 11 → ∀ k : Nat, k < l.length → aI s1 A k = aI s A k := fun A hA k hk => (a.1 A k (Or.inr ⟨by rw [hA]; constructor <;> omega, fun z => by rw [hA] at z; cases z⟩)).1
  have cm : ∀ c k, O c → hc h c = 2 → k < l.length → CM h s P c k → CM h1 s1 P1 c k := fun c k oc hc2 hk z => by
    have S := E.ob (hO c oc) (nW c oc (by rw [hc2]; decide)) (by rw [hc2]; decide)
    unfold CM
    rw [rw11 32 (by decide) k hk, rw11 33 (by decide) k hk, S.2.2.1, S.2.2.2.2.1]
    rcases z with z | z | ⟨z1, z2, z3, z4⟩
    · exact Or.inl z
    · exact Or.inr (Or.inl z)
    · exact Or.inr (Or.inr ⟨z1, z2, z3, hP _ z4⟩)
  refine ⟨cs, E.al C h6 h0 c1, fun c z => ?_, fun k z y => ?_, fun k z y => ?_, by omega⟩
  · obtain ⟨d1, d2, k, d3, d4, d5, d6⟩ := c2 c z
    have S := E.ob (hO c d1) (nW c d1 (by rw [d2]; decide)) (by rw [d2]; decide)
    exact ⟨hOO _ d1, by rw [S.1]; exact d2, k, by omega, d4, by rw [S.2.2.1]; exact d5, cm c k d1 d2 (by omega) d6⟩
  · rw [rw11 32 (by decide) k (by omega)]
    rcases Nat.lt_or_ge k t with w | w
    · rcases c3 k w y with x | x | ⟨c, x1, x2, x3⟩
      · exact Or.inl x
      · exact Or.inr (Or.inl x)
      · obtain ⟨d1, d2, -⟩ := c2 c x1
        have S := E.ob (hO c d1) (nW c d1 (by rw [d2]; decide)) (by rw [d2]; decide)
        exact Or.inr (Or.inr ⟨c, x1, by rw [S.2.2.1]; exact x2, cm c k d1 d2 (by omega) x3⟩)
    · exact Or.inl (c5 k w (by omega))
  · rw [rw11 32 (by decide) k y]
    exact c5 k (by omega) y
theorem cap_st {r : Nat} (I : HI h) (E : Ev W u h h1) (h48 : hc h r = 48) (hr : r < hn h) (hw : ¬ W r) : cap h1 r = cap h r ∧ hc h1 r = 48 := by
  have S := E.ob hr hw (by rw [h48]; decide)
  refine ⟨?_, by rw [S.1]; exact h48⟩
  unfold cap
  rw [S.2.2.2.2.1]
  have lt : gR h eD r < hn h := by
    rcases I.2 r h48 with w | w
    · rw [w]; exact I.1.1.2.1
    · exact w.1
  exact E.1.2.2.2.2 _ lt
theorem Bud.st (B : Bud h p Z0 Z) (I : HI h) (hp : p + 6 < hn h) (E : Ev W u h h1) (hw : ∀ q, p < q → q ≤ p + 6 → ¬ W q) : Bud h1 p Z0 (Z + u) := by
  obtain ⟨b1, b2, b3, b4⟩ := B
  have ca : ∀ j : Nat, 1 ≤ j → j ≤ 6 → cap h1 (p + j) = cap h (p + j) ∧ hc h1 (p + j) = 48 := fun j z y => cap_st I E (b4 j z y).1 (by omega) (hw _ (by omega) (by omega))
  have e6 : S6 h1 p = S6 h p := by
    unfold S6
    rw [(ca 1 (by omega) (by omega)).1, (ca 2 (by omega) (by omega)).1, (ca 3 (by omega) (by omega)).1, (ca 4 (by omega) (by omega)).1, (ca 5 (by omega) (by omega)).1, (ca 6 (by omega) (by omega)).1]
  have E4 := E.2.2.2.1
  have E5 := E.2.2.2.2
  refine ⟨by rw [e6]; omega, by rw [e6]; omega, by omega, fun j z y => ?_⟩
  have := b4 j z y
  rw [(ca j z y).1]
  exact ⟨(ca j z y).2, this.2.1, by omega⟩
/-- one of the parser's lists gets one more -/
theorem Bud.add {j0 n : Nat} (B : Bud h p Z0 Z) (I : HI h) (hp : p + 6 < hn h) (j1 : 1 ≤ j0) (j6 : j0 ≤ 6) (E : Ev (· = p + j0) u h h1) (c1 : (hs h1 : Int) + 4 * cap h (p + j0) ≤ hs h + 4 * cap h1 (p + j0)) (c2 : (hk h1 : Int) + cap h (p + j0) ≤ hk h + cap h1 (p + j0)) (c3 : cap h1 (p + j0) = cap h (p + j0) ∨ cap h1 (p + j0) ≤ 2 * n + 10) (hn : n ≤ Z - Z0) : Bud h1 p Z0 Z := by
  obtain ⟨b1, b2, b3, b4⟩ := B
  have ca : ∀ j : Nat, 1 ≤ j → j ≤ 6 → j ≠ j0 → cap h1 (p + j) = cap h (p + j) ∧ hc h1 (p + j) = 48 := fun j z y w => cap_st I E (b4 j z y).1 (by omega) (fun x => w (by omega))
  have h48 : hc h1 (p + j0) = 48 := by
    have := E.1.2.2.2.1 (p + j0) (by omega)
    rw [this]
    exact (b4 j0 j1 j6).1
  have cc : ∀ j : Nat, 1 ≤ j → j ≤ 6 → hc h1 (p + j) = 48 ∧ 0 ≤ cap h1 (p + j) ∧ cap h1 (p + j) ≤ 2 * ((Z : Int) - Z0) + 10 := fun j z y => by
    have b := b4 j z y
    by_cases w : j = j0
    · subst w
      refine ⟨h48, ?_, by omega⟩
      have := b.2.1
      have hss := E.1.2.1
      omega
    · rw [(ca j z y w).1]
      exact ⟨(ca j z y w).2, b.2⟩
  have d : S6 h1 p - S6 h p = cap h1 (p + j0) - cap h (p + j0) := by
    unfold S6
    have : j0 = 1 ∨ j0 = 2 ∨ j0 = 3 ∨ j0 = 4 ∨ j0 = 5 ∨ j0 = 6 := by omega
    rcases this with w | w | w | w | w | w <;> subst w
    · rw [(ca 2 (by omega) (by omega) (by omega)).1, (ca 3 (by omega) (by omega) (by omega)).1, (ca 4 (by omega) (by omega) (by omega)).1, (ca 5 (by omega) (by omega) (by omega)).1, (ca 6 (by omega) (by omega) (by omega)).1]; omega
    · rw [(ca 1 (by omega) (by omega) (by omega)).1, (ca 3 (by omega) (by omega) (by omega)).1, (ca 4 (by omega) (by omega) (by omega)).1, (ca 5 (by omega) (by omega) (by omega)).1, (ca 6 (by omega) (by omega) (by omega)).1]; omega
    · rw [(ca 1 (by omega) (by omega) (by omega)).1, (ca 2 (by omega) (by omega) (by omega)).1, (ca 4 (by omega) (by omega) (by omega)).1, (ca 5 (by omega) (by omega) (by omega)).1, (ca 6 (by omega) (by omega) (by omega)).1]; omega
    · rw [(ca 1 (by omega) (by omega) (by omega)).1, (ca 2 (by omega) (by omega) (by omega)).1, (ca 3 (by omega) (by omega) (by omega)).1, (ca 5 (by omega) (by omega) (by omega)).1, (ca 6 (by omega) (by omega) (by omega)).1]; omega
    · rw [(ca 1 (by omega) (by omega) (by omega)).1, (ca 2 (by omega) (by omega) (by omega)).1, (ca 3 (by omega) (by omega) (by omega)).1, (ca 4 (by omega) (by omega) (by omega)).1, (ca 6 (by omega) (by omega) (by omega)).1]; omega
    · rw [(ca 1 (by omega) (by omega) (by omega)).1, (ca 2 (by omega) (by omega) (by omega)).1, (ca 3 (by omega) (by omega) (by omega)).1, (ca 4 (by omega) (by omega) (by omega)).1, (ca 5 (by omega) (by omega) (by omega)).1]; omega
  exact ⟨by omega, by omega, b3, cc⟩
theorem JD.hp (J : JD h s p lx l t o PR P X O Z0 Z) : p + 6 < hn h := J.hi (J.lo (Nat.le_refl _))
/-- one step of both: no mark is new, nor any of the parser's lists -/
theorem JD.step (J : JD h s p lx l t o PR P X O Z0 Z) (E : Ev W u h h1) (hW : ∀ q, W q → ¬ O q ∨ q = p) (X1 : PXs h1 p lx l t1 o1) (F1 : XFd h1 p) (a : Fr L v s s1) (M1 : MJ s1 l t1 o1 PR) (ht : t ≤ t1) (h3 : fI s 1789613740 ≤ L 3) (h4 : fI s 1848333996 ≤ L 4) (h11 : (l.length : Int) ≤ L 11) (g3 : fI s 1789613740 ≤ fI s1 1789613740) (g4 : fI s 1848333996 ≤ fI s1 1848333996) : JD h1 s1 p lx l t1 o1 PR P X O Z0 (Z + u) := by
  have hp := J.hp
  obtain ⟨j1, j2, ⟨j3, j3'⟩, j4, j5, j6, j7, j8⟩ := J
  have C := j1.c
  have hO : ∀ q, OM p O q → q < hn h := fun q z => j3' q z.1
  have hW' : ∀ q, W q → ¬ OM p O q ∨ hc h q = 36 := fun q z => (hW q z).imp (fun y x => y x.1) (fun y => by rw [y]; exact j1.1)
  have nW : ∀ q, O q → hc h q ≠ 36 → ¬ W q := fun q z y w => (hW q w).elim (fun x => x z) (fun x => y (by rw [x]; exact j1.1))
  have nW0 : ¬ W 0 := nW 0 (j3 0 (by omega)) (by rw [C.1.1]; decide)
  have n6 : ∀ q, p < q → q ≤ p + 6 → ¬ W q := fun q z y w => (hW q w).elim (fun x => x (j3 q y)) (fun x => by omega)
  exact ⟨X1, F1, ⟨j3, fun q z => Nat.lt_of_lt_of_le (j3' q z) E.1.1⟩, M1, j5.st j4 C E hW' nW0 hO a h3 h4 g3 g4 (fun _ z => z) (fun _ z => z) (fun _ _ z => Or.inl z), j6.st j5 C E hW' nW0 (n6 _ (by omega) (by omega)) hO (by omega), j7.st C E hW' nW0 (n6 _ (by omega) (by omega)) hO a h11 ht M1.1.a (by omega) (fun _ z => z) (fun _ z => z), j8.st j1.i hp E n6⟩
/-- a new mode, not of an indicant -/
theorem JD.mode {q : Nat} {i : Int} (J : JD h s p lx l t o PR P X O Z0 Z) (hOO : ∀ x, O x → O1 x) (hO1 : ∀ x, O1 x → x < hn h) (N : MLoc h s ((q, i) :: P) (OM p O1) PR q i) (h9 : gI h 638128676 q ≠ 9) : JD h s p lx l t o PR ((q, i) :: P) X O1 Z0 Z := by
  obtain ⟨j1, j2, ⟨j3, j3'⟩, j4, j5, j6, j7, j8⟩ := J
  have C := j1.c
  have E : Ev W0 0 h h := Ev.rf j1.i
  have hO : ∀ q, OM p O q → q < hn h := fun q z => j3' q z.1
  have hOM : ∀ x, OM p O x → OM p O1 x := fun x z => ⟨hOO x z.1, z.2⟩
  have Rf : Fr (fun _ => 1000000) (-1) s s := Fr.rf
  have mm := j4.2.2.2.2
  have tl := j4.1.a
  have tl2 := j4.1.1.2.1
  refine ⟨j1, j2, ⟨fun x z => hOO x (j3 x z), hO1⟩, j4, j5.st j4 C E (fun _ z => z.elim) (fun z => z) hO Rf (by show _ ≤ (1000000 : Int); omega) (by show _ ≤ (1000000 : Int); omega) (Int.le_refl _) (Int.le_refl _) (fun _ z => List.mem_cons_of_mem _ z) hOM (fun q' i' z => ?_), ?_, ?_, j8⟩
  · rcases List.mem_cons.mp z with y | y
    · injection y with y1 y2
      rw [y1, y2]
      exact Or.inr N
    · exact Or.inl y
  · obtain ⟨ks, k1, k2, k3, k4⟩ := j6
    refine ⟨ks, k1, fun k z => ⟨?_, (k2 k z).2⟩, fun q' i' z y => ?_, k4⟩
    · obtain ⟨i', z1⟩ := (k2 k z).1
      exact ⟨i', List.mem_cons_of_mem _ z1⟩
    · rcases List.mem_cons.mp z with w | w
      · injection w with w1 w2
        rw [w1] at y
        exact absurd y h9
      · exact k3 q' i' w y
  · exact j7.st C E (fun _ z => z.elim) (fun z => z) (fun z => z) hO Rf (by show _ ≤ (1000000 : Int); omega) (Nat.le_refl _) tl (Nat.le_refl _) (fun _ z => List.mem_cons_of_mem _ z) hOM
end JT
