/-! READING NODES, x AND THE MODEL: what holds together -/
set_option maxRecDepth 100000
set_option maxHeartbeats 1000000
section JNs
variable {hG h h1 : PH} {sG s s1 : MS} {p lx t o t1 o1 : Nat} {l : List TokE} {PR g : Int} {P P1 : List (Nat × Int)} {O O1 W : Nat → Prop} {Z0 ZM u y y1 : Nat} {L : Nat → Int} {v w : Int} {dl : List Nat}
def Xe : Nat → Prop := fun _ => False
def Wp (p : Nat) : Nat → Prop := fun q => p ≤ q ∧ q ≤ p + 6
def isMdT (l : List TokE) (k : Nat) : Bool := sI l (k - 1) == 0
/-- what stands behind MODE and PRIO -/
def MPL (h : PH) (s : MS) (p : Nat) (l : List TokE) (t : Nat) (P : List (Nat × Int)) (O : Nat → Prop) (dl : List Nat) : Prop := (∀ k : Nat, k < t → kd l k = 1 ∧ (sI l k = 0 ∨ sI l k = 1) → k + 1 ∈ dl) ∧ (∀ k ∈ dl, (1 ≤ k ∧ k < t) ∧ kd l k = 2 ∧ kd l (k - 1) = 1 ∧ (sI l (k - 1) = 0 ∨ sI l (k - 1) = 1 ∧ (kd l (k + 1) = 5 ∧ sI l (k + 1) = 61 ∧ kd l (k + 2) = 4 ∧ 1 ≤ sI l (k + 2) ∧ sI l (k + 2) ≤ 9))) ∧ dl.Pairwise (· < ·) ∧ 2 * dl.length ≤ t ∧ (fI s 1873499820 = (dl.filter (isMdT l)).length ∧ ∀ r : Nat, r < (dl.filter (isMdT l)).length → aI s 14 r = (dl.filter (isMdT l)).getD r 0 ∧ aJ s 15 r = wd l ((dl.filter (isMdT l)).getD r 0)) ∧ ∃ ts ps ms bs : List Nat, (AL h (p + 1) ts ∧ AL h (p + 2) ps ∧ AL h (p + 3) ms ∧ AL h (p + 4) bs) ∧ (ts.length = dl.length ∧ ps.length = dl.length ∧ ms.length = dl.length ∧ bs.length = dl.length) ∧ ∀ j : Nat, j < dl.length → (O (ts.getD j 0) ∧ BxJ h (ts.getD j 0) (wd l (dl.getD j 0))) ∧ (O (ps.getD j 0) ∧ BxI h (ps.getD j 0) (pl l (dl.getD j 0))) ∧ (O (bs.getD j 0) ∧ BxB h (bs.getD j 0) (if isMdT l (dl.getD j 0) then 0 else 1)) ∧ (isMdT l (dl.getD j 0) = false → ms.getD j 0 = 0) ∧ (isMdT l (dl.getD j 0) = true → ∃ r : Nat, r < (dl.filter (isMdT l)).length ∧ (dl.filter (isMdT l)).getD r 0 = dl.getD j 0 ∧ (ms.getD j 0, aI s 16 r) ∈ P)
/-- the model's counts -/
def CN (s : MS) (t o : Nat) (PR : Int) : Prop := (0 ≤ fI s 1915442860 ∧ 0 ≤ fI s 2217432748 ∧ 0 ≤ fI s 2192266924 ∧ fI s 2175489708 = fI s 2192266924) ∧ fI s 2192266924 + fI s 2217432748 ≤ t ∧ fI s 1915442860 + fI s 2217432748 + fI s 2192266924 ≤ t + o + 1 ∧ 3 * (fI s 2024494764 - 200 * PR) ≤ t
def JNX (X : Nat → Prop) (hG : PH) (sG : MS) (p lx : Nat) (l : List TokE) (PR : Int) (Z0 ZM : Nat) (h : PH) (s : MS) (t o : Nat) (P : List (Nat × Int)) (O : Nat → Prop) (dl : List Nat) (y : Nat) : Prop := (∃ Z, JD h s p lx l t o PR P X O Z0 Z ∧ Z + 24 * (482 - t) + 20 + y ≤ ZM) ∧ (ZM ≤ 79000 ∧ ZM - Z0 ≤ 11700 ∧ hn hG ≤ p + 7) ∧ ((∃ u, Ev (Wp p) u hG h) ∧ FrW sG s) ∧ MPL h s p l t P O dl ∧ CN s t o PR
def JN (hG : PH) (sG : MS) (p lx : Nat) (l : List TokE) (PR : Int) (Z0 ZM : Nat) (h : PH) (s : MS) (t o : Nat) (P : List (Nat × Int)) (O : Nat → Prop) (dl : List Nat) (y : Nat) : Prop := JNX Xe hG sG p lx l PR Z0 ZM h s t o P O dl y
def Lk (s : MS) (c : Nat) : Int := if c = 11 then 1000000 else Lm s c
def Ln (s : MS) (c : Nat) : Int := if c = 11 then 0 else Lm s c
/-- both fail, at the same token -/
def BN (hG : PH) (sG : MS) (p : Nat) (l : List TokE) (Z0 ZM : Nat) (r : Rs) (s : MS) : Prop := ∃ e h1 s1 k, r = some (.inr e, h1) ∧ k < xc l ∧ FaultAt h1 e 1 (pl l k) ∧ (∃ u, Ev (Wp p) u hG h1) ∧ Bud h1 p Z0 ZM ∧ Reach s s1 ∧ fI s1 1772836524 = pl l k ∧ FrW sG s1
/-- what reading a node does to the model's state -/
def NPo (v w g : Int) (s s1 : MS) : Prop := FrN (Ln s) v w s s1 ∧ fI s1 2066437804 = g ∧ (fI s1 2234209964 = fI s 2234209964 ∧ fI s1 2175489708 = fI s 2175489708 ∧ fI s1 2192266924 = fI s 2192266924 ∧ fI s1 2217432748 = fI s 2217432748) ∧ (fI s 1915442860 ≤ fI s1 1915442860 ∧ fI s 2024494764 ≤ fI s1 2024494764 ∧ fI s 1873499820 ≤ fI s1 1873499820 ∧ fI s 1789613740 ≤ fI s1 1789613740 ∧ fI s 1848333996 ≤ fI s1 1848333996)
/-- a step of the model that makes no mode -/
def SG (v w g : Int) (s s1 : MS) (t1 o1 : Nat) : Prop := FrN (Lk s) v w s s1 ∧ fI s1 2066437804 = g ∧ (fI s1 1764447916 = t1 ∧ fI s1 1781225132 = o1 ∧ fI s1 1772836524 = -1) ∧ (fI s1 1789613740 = fI s 1789613740 ∧ fI s1 1848333996 = fI s 1848333996 ∧ fI s1 2234209964 = fI s 2234209964 ∧ fI s1 2024494764 = fI s 2024494764 ∧ fI s1 1873499820 = fI s 1873499820 ∧ fI s1 2175489708 = fI s 2175489708 ∧ fI s1 2192266924 = fI s 2192266924 ∧ fI s1 2217432748 = fI s 2217432748) ∧ fI s 1915442860 ≤ fI s1 1915442860
/-- what is owned and known only grows -/
def Gw (h : PH) (P : List (Nat × Int)) (O : Nat → Prop) (P1 : List (Nat × Int)) (O1 : Nat → Prop) : Prop := (∀ x, O x → O1 x) ∧ (∀ x, O1 x → O x ∨ hn h ≤ x) ∧ (∀ e ∈ P, e ∈ P1)
theorem Gw.rf : Gw h P O P O := ⟨fun _ z => z, fun _ z => Or.inl z, fun _ z => z⟩
theorem Gw.tr {P2 : List (Nat × Int)} {O2 : Nat → Prop} (a : Gw h P O P1 O1) (b : Gw h1 P1 O1 P2 O2) (hn1 : hn h ≤ hn h1) : Gw h P O P2 O2 := ⟨fun x z => b.1 x (a.1 x z), fun x z => (b.2.1 x z).elim (a.2.1 x) (fun w => Or.inr (Nat.le_trans hn1 w)), fun e z => b.2.2 e (a.2.2 e z)⟩
theorem Ln_le {s1 : MS} (g1 : fI s 2066437804 ≤ fI s1 2066437804) (h2 : fI s 1915442860 ≤ fI s1 1915442860) (h3 : fI s 1789613740 ≤ fI s1 1789613740) (h4 : fI s 1848333996 ≤ fI s1 1848333996) (h5 : fI s 2024494764 ≤ fI s1 2024494764) (h6 : fI s 1873499820 ≤ fI s1 1873499820) (h7 : fI s 2175489708 ≤ fI s1 2175489708) (h8 : fI s 2192266924 ≤ fI s1 2192266924) (h9 : fI s 2217432748 ≤ fI s1 2217432748) (h10 : fI s 2234209964 ≤ fI s1 2234209964) : ∀ k, Ln s k ≤ Ln s1 k := by
  intro k
  unfold Ln
  by_cases c11 : k = 11
  · rw [if_pos c11, if_pos c11]; exact Int.le_refl _
  rw [if_neg c11, if_neg c11]
  unfold Lm
  by_cases c1 : k = 1
  · rw [if_pos c1, if_pos c1]; omega
  rw [if_neg c1, if_neg c1]
  by_cases c2 : k = 2
  · rw [if_pos c2, if_pos c2]; exact h2
  rw [if_neg c2, if_neg c2]
  by_cases c3 : k = 3
  · rw [if_pos c3, if_pos c3]; exact h3
  rw [if_neg c3, if_neg c3]
  by_cases c4 : k = 4
  · rw [if_pos c4, if_pos c4]; exact h4
  rw [if_neg c4, if_neg c4]
  by_cases c5 : k = 5
  · rw [if_pos c5, if_pos c5]; exact h5
  rw [if_neg c5, if_neg c5]
  by_cases c6 : k = 6
  · rw [if_pos c6, if_pos c6]; exact h6
  rw [if_neg c6, if_neg c6]
  by_cases c7 : k = 7
  · rw [if_pos c7, if_pos c7]; exact h7
  rw [if_neg c7, if_neg c7]
  by_cases c8 : k = 8
  · rw [if_pos c8, if_pos c8]; exact h8
  rw [if_neg c8, if_neg c8]
  by_cases c9 : k = 9
  · rw [if_pos c9, if_pos c9]; exact h9
  rw [if_neg c9, if_neg c9]
  by_cases c10 : k = 10
  · rw [if_pos c10, if_pos c10]; exact h10
  rw [if_neg c10, if_neg c10, if_neg c11, if_neg c11]
  exact h2
theorem Ln_Lk (k : Nat) : Ln s k ≤ Lk s k := by
  unfold Ln Lk
  by_cases c11 : k = 11
  · rw [if_pos c11, if_pos c11]; decide
  · rw [if_neg c11, if_neg c11]; exact Int.le_refl _
theorem Ln_Lm (h0 : 0 ≤ fI s 1764447916) (k : Nat) : Ln s k ≤ Lm s k := by
  unfold Ln
  by_cases c11 : k = 11
  · rw [if_pos c11, c11]; exact h0
  · rw [if_neg c11]; exact Int.le_refl _
theorem NPo.seq {s2 : MS} {v1 w1 g1 g2 : Int} (a : NPo v w g1 s s1) (hg : fI s 2066437804 ≤ g1) (b : NPo v1 w1 g2 s1 s2) (hv : v1 = v ∨ fI s 1915442860 ≤ v1 ∨ v1 < 0) (hw : w1 = w ∨ fI s 1915442860 ≤ w1 ∨ w1 < 0) : NPo v w g2 s s2 := by
  obtain ⟨a1, a2, a3, a4⟩ := a
  obtain ⟨b1, b2, b3, b4⟩ := b
  exact ⟨a1.tr b1 (Ln_le (by omega) (by omega) (by omega) (by omega) (by omega) (by omega) (by omega) (by omega) (by omega) (by omega)) (by show _ ∨ fI s 1915442860 ≤ v1 ∨ _; exact hv) (by show _ ∨ fI s 1915442860 ≤ w1 ∨ _; exact hw), b2, by omega, by omega⟩
theorem NPo.rf : NPo v w (fI s 2066437804) s s := ⟨Fr.rf.n, rfl, ⟨rfl, rfl, rfl, rfl⟩, ⟨Int.le_refl _, Int.le_refl _, Int.le_refl _, Int.le_refl _, Int.le_refl _⟩⟩
theorem SG.po (a : SG v w g s s1 t1 o1) : NPo v w g s s1 := by
  obtain ⟨a1, a2, a3, a4, a5⟩ := a
  exact ⟨a1.mono Ln_Lk, a2, by omega, by omega⟩
/-- behind a declarer -/
theorem DPost.po (a : DPost s s1 t t1 g) (h0 : 0 ≤ fI s 1764447916) : NPo (-1) (-1) g s s1 := by
  obtain ⟨e1, e2, e3, e4, e5, e6, e7, e8, e9, e10, e11⟩ := a
  exact ⟨(e1.mono (Ln_Lm h0)).n, e2, by omega, by omega⟩
theorem JNX.x {X : Nat → Prop} (J : JNX X hG sG p lx l PR Z0 ZM h s t o P O dl y) : PXs h p lx l t o := by obtain ⟨⟨Z, z, _⟩, _⟩ := J; exact z.x
theorem JNX.i {X : Nat → Prop} (J : JNX X hG sG p lx l PR Z0 ZM h s t o P O dl y) : HI h := J.x.i
theorem JNX.m {X : Nat → Prop} (J : JNX X hG sG p lx l PR Z0 ZM h s t o P O dl y) : MJ s l t o PR := by obtain ⟨⟨Z, z, _⟩, _⟩ := J; exact z.m
theorem JNX.f {X : Nat → Prop} (J : JNX X hG sG p lx l PR Z0 ZM h s t o P O dl y) : XFd h p := by obtain ⟨⟨Z, z, _⟩, _⟩ := J; exact z.2.1
theorem JNX.c {X : Nat → Prop} (J : JNX X hG sG p lx l PR Z0 ZM h s t o P O dl y) : CN s t o PR := J.2.2.2.2
theorem JNX.lo {X : Nat → Prop} (J : JNX X hG sG p lx l PR Z0 ZM h s t o P O dl y) {q : Nat} (hq : q ≤ p + 6) : O q := by obtain ⟨⟨Z, z, _⟩, _⟩ := J; exact z.lo hq
theorem JNX.hi {X : Nat → Prop} (J : JNX X hG sG p lx l PR Z0 ZM h s t o P O dl y) {q : Nat} (hq : O q) : q < hn h := by obtain ⟨⟨Z, z, _⟩, _⟩ := J; exact z.hi hq
theorem JNX.nO {X : Nat → Prop} (J : JNX X hG sG p lx l PR Z0 ZM h s t o P O dl y) : ¬ O (hn h) := fun z => Nat.lt_irrefl _ (J.hi z)
theorem JNX.hp {X : Nat → Prop} (J : JNX X hG sG p lx l PR Z0 ZM h s t o P O dl y) : p + 6 < hn h := J.hi (J.lo (Nat.le_refl _))
theorem JNX.mono {X : Nat → Prop} (J : JNX X hG sG p lx l PR Z0 ZM h s t o P O dl y) (hy : y1 ≤ y) : JNX X hG sG p lx l PR Z0 ZM h s t o P O dl y1 := by
  obtain ⟨⟨Z, z, z1⟩, r⟩ := J
  exact ⟨⟨Z, z, by omega⟩, r⟩
theorem JNX.room {X : Nat → Prop} (J : JNX X hG sG p lx l PR Z0 ZM h s t o P O dl y) : Room 9000 h := by
  obtain ⟨⟨Z, z, z1⟩, r, _⟩ := J
  exact (z.room (by omega) (by omega)).le (by omega)
theorem JNX.p0 {X : Nat → Prop} (J : JNX X hG sG p lx l PR Z0 ZM h s t o P O dl y) : p ≠ 0 := fun z => by have := J.x.1; rw [z, J.x.c.1.1] at this; cases this
theorem Lk3 : fI s 1789613740 ≤ Lk s 3 := Int.le_refl _
theorem Lk4 : fI s 1848333996 ≤ Lk s 4 := Int.le_refl _
theorem Lk5 : fI s 2024494764 ≤ Lk s 5 := Int.le_refl _
theorem Lk6 : fI s 1873499820 ≤ Lk s 6 := Int.le_refl _
/-- below the bounds, nodes apart -/
def L0 (L : Nat → Int) : Nat → Int := fun c => if c = 2 then 0 else L c
theorem FrN.z (a : FrN L v w s s1) : Fr (L0 L) v s s1 := by
  refine ⟨fun A i hA => a.1 A i ?_, a.2⟩
  rcases hA with z | ⟨⟨z0, z1⟩, z2⟩
  · exact Or.inl z
  · have n2 : clA A ≠ 2 := fun y => by rw [y] at z1; have z1 : i < 0 := z1; omega
    have e : L0 L (clA A) = L (clA A) := if_neg n2
    rw [e] at z1
    exact Or.inr ⟨⟨z0, z1⟩, z2, fun y => absurd y n2⟩
theorem MPL.st (M : MPL h s p l t P O dl) (C : ConH h) (E : Ev W u h h1) (hW : ∀ q, W q → ¬ O q ∨ hc h q = 36 ∨ hc h q = 48) (n4 : ∀ j, 1 ≤ j → j ≤ 4 → ¬ W (p + j)) (h0 : ¬ W 0) (a : Fr L v s s1) (L6 : fI s 1873499820 ≤ L 6) (e6 : fI s1 1873499820 = fI s 1873499820) (nm : NMP l t t1) (ht : t ≤ t1) (hP : ∀ e ∈ P, e ∈ P1) (hOO : ∀ q, O q → O1 q) : MPL h1 s1 p l t1 P1 O1 dl := by
  obtain ⟨m1, m2, m3, m4, ⟨m6, m7⟩, ts, ps, ms, bs, ⟨l1, l2, l3, l4⟩, ll, H⟩ := M
  have r6 : ∀ A, clA A = 6 → ∀ r : Nat, r < (dl.filter (isMdT l)).length → aI s1 A r = aI s A r ∧ aJ s1 A r = aJ s A r := fun A hA r hr => a.1 A r (Or.inr ⟨by rw [hA]; constructor <;> omega, fun z => by rw [hA] at z; cases z⟩)
  refine ⟨fun k z1 z2 => ?_, fun k z => ?_, m3, by omega, ⟨by omega, fun r hr => ?_⟩, ts, ps, ms, bs, ⟨E.al C (n4 1 (by omega) (by omega)) h0 l1, E.al C (n4 2 (by omega) (by omega)) h0 l2, E.al C (n4 3 (by omega) (by omega)) h0 l3, E.al C (n4 4 (by omega) (by omega)) h0 l4⟩, ll, fun j hj => ?_⟩
  · rcases Nat.lt_or_ge k t with z | z
    · exact m1 k z z2
    · exact absurd z2 (nm k z z1)
  · have := m2 k z
    exact ⟨⟨this.1.1, by have := this.1.2; omega⟩, this.2⟩
  · rw [(r6 14 (by decide) r hr).1, (r6 15 (by decide) r hr).2]
    exact m7 r hr
  · obtain ⟨⟨a1, a2⟩, ⟨b1, b2⟩, ⟨c1, c2⟩, d1, d2⟩ := H j hj
    refine ⟨⟨hOO _ a1, a2.ev C E (fun w => ?_)⟩, ⟨hOO _ b1, b2.ev C E (fun w => ?_)⟩, ⟨hOO _ c1, c2.ev C E (fun w => ?_)⟩, d1, fun z => ?_⟩
    · rcases hW _ w with z | z | z
      · exact z a1
      · rcases a2.1 with y | y <;> rw [y] at z <;> cases z
      · rcases a2.1 with y | y <;> rw [y] at z <;> cases z
    · rcases hW _ w with z | z | z
      · exact z b1
      · rcases b2.1 with y | y <;> rw [y] at z <;> cases z
      · rcases b2.1 with y | y <;> rw [y] at z <;> cases z
    · rcases hW _ w with z | z | z
      · exact z c1
      · rw [c2.1] at z; cases z
      · rw [c2.1] at z; cases z
    · obtain ⟨r, r1, r2, r3⟩ := d2 z
      exact ⟨r, r1, r2, by rw [(r6 16 (by decide) r r1).1]; exact hP _ r3⟩
theorem CN.sg (c : CN s t o PR) (S : SG v w g s s1 t1 o1) (ht : t ≤ t1) (hm : fI s1 1915442860 + fI s 2217432748 + fI s 2192266924 ≤ t1 + o1 + 1) : CN s1 t1 o1 PR := by
  obtain ⟨c1, c2, c3, c4⟩ := c
  obtain ⟨-, -, -, a4, a5⟩ := S
  exact ⟨by omega, by omega, by omega, by omega⟩
theorem MJ.sg (M : MJ s l t o PR) (S : SG v w g s s1 t1 o1) (ht : t ≤ t1) (hx : t1 < xc l) : MJ s1 l t1 o1 PR := by
  obtain ⟨a1, a2, ⟨b1, b2, b3⟩, a4, a5⟩ := S
  refine M.fr a1.z b1 ht hx b2 b3 ?_ ?_ ?_ ?_
  · omega
  · omega
  · have := M.2.2.2.2; omega
  · omega
theorem SG.fw (S : SG v w g s s1 t1 o1) (M : MJ s l t o PR) : FrW s s1 := by
  have mm := M.2.2.2
  exact S.1.z.w (by show _ ≤ fI s 1789613740; omega) (by show _ ≤ fI s 1848333996; omega) (by show _ ≤ fI s 2024494764; omega)
/-- one step of both -/
theorem JNX.step {X : Nat → Prop} (J : JNX X hG sG p lx l PR Z0 ZM h s t o P O dl y) (E : Ev W u h h1) (hW : ∀ q, W q → ¬ O q ∨ q = p) (X1 : PXs h1 p lx l t1 o1) (F1 : XFd h1 p) (S : SG v w g s s1 t1 o1) (ht : t ≤ t1) (nm : NMP l t t1) (hy : y1 + u ≤ y + 24 * (t1 - t)) (hm : fI s1 1915442860 + fI s 2217432748 + fI s 2192266924 ≤ t1 + o1 + 1) : JNX X hG sG p lx l PR Z0 ZM h1 s1 t1 o1 P O dl y1 := by
  have hp := J.hp
  have M := J.m
  have c36 := J.x.1
  have C := J.x.c
  have lo := fun q z => J.lo (q := q) z
  have hx : t1 < xc l := X1.2.2.2.2.1
  have hx0 : t < xc l := M.1.2.2
  have xl := M.1.1.x
  have l2 := M.1.1.2.1
  obtain ⟨⟨Z, z, z1⟩, z2, ⟨⟨u0, z3⟩, z4⟩, z5, z6⟩ := J
  have M1 : MJ s1 l t1 o1 PR := M.sg S ht hx
  have w0 : ¬ W 0 := fun w => by
    rcases hW 0 w with y | y
    · exact y (lo 0 (Nat.zero_le _))
    · rw [← y, C.1.1] at c36; cases c36
  have n4 : ∀ j, 1 ≤ j → j ≤ 4 → ¬ W (p + j) := fun j j1 j2 w => by
    rcases hW _ w with y | y
    · exact y (lo _ (by omega))
    · omega
  have J1 := z.step E hW X1 F1 S.1.z M1 ht Lk3 Lk4 (by show (l.length : Int) ≤ (1000000 : Int); omega) (by have := S.2.2.2.1; omega) (by have := S.2.2.2.1; omega)
  refine ⟨⟨_, J1, by omega⟩, z2, ⟨⟨_, z3.tr E (fun q hq w => ?_)⟩, z4.tr (S.fw M)⟩, z5.st C E (fun q w => (hW q w).imp id (fun y => Or.inl (by rw [y]; exact c36))) n4 w0 S.1.z Lk6 S.2.2.2.1.2.2.2.2.1 nm ht (fun _ w => w) (fun _ w => w), z6.sg S ht hm⟩
  rcases hW q w with y | y
  · exact absurd (lo q (by omega)) y
  · exact ⟨by omega, by omega⟩
/-- both fail now -/
theorem JNX.now {X : Nat → Prop} {r : Rs} {h0 : PH} {k : Nat} (J : JNX X hG sG p lx l PR Z0 ZM h s t o P O dl y) (E : Ev W u h h0) (hW : ∀ q, W q → ¬ O q ∨ q = p) (hy : u ≤ y + 18) (xf : XFail h0 l k r) (hk : k < xc l) (R : Reach s s1) (hb : fI s1 1772836524 = pl l k) (hf : FrW s s1) : BN hG sG p l Z0 ZM r s := by
  have hp := J.hp
  have lo := fun q z => J.lo (q := q) z
  have I := J.i
  obtain ⟨⟨Z, z, z1⟩, z2, ⟨⟨u0, z3⟩, z4⟩, z5, z6⟩ := J
  obtain ⟨e, h1, x1, x2, x3⟩ := xf
  have E2 : Ev W (u + 1) h h1 := E.tr x3 (fun _ _ w => w.elim)
  have b := z.2.2.2.2.2.2.2.st I hp E2 (fun q a1 a2 w => by
    rcases hW q w with y | y
    · exact y (lo q a2)
    · omega)
  obtain ⟨b1, b2, b3, b4⟩ := b
  refine ⟨e, h1, s1, k, x1, hk, x2, ⟨_, z3.tr E2 (fun q hq w => ?_)⟩, ⟨by omega, by omega, by omega, fun j z y => by have := b4 j z y; exact ⟨this.1, this.2.1, by omega⟩⟩, R, hb, z4.tr hf⟩
  rcases hW q w with y | y
  · exact absurd (lo q (by omega)) y
  · exact ⟨by omega, by omega⟩
theorem BN.up {r r1 : Rs} (b : BN hG sG p l Z0 ZM r1 s1) (R : Reach s s1) (hr : ∀ e h2, r1 = some (.inr e, h2) → r = some (.inr e, h2)) : BN hG sG p l Z0 ZM r s := by
  obtain ⟨e, h2, s2, k, b1, b2, b3, b4, b5, b6, b7⟩ := b
  exact ⟨e, h2, s2, k, hr e h2 b1, b2, b3, b4, b5, R.tr b6, b7⟩
end JNs
