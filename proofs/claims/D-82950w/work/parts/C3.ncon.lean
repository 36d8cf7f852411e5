/-! READING NODES: contracts -/
set_option maxRecDepth 100000
set_option maxHeartbeats 1000000
section NC
variable {hG h h1 : PH} {sG s s1 : MS} {p lx t o t1 o1 : Nat} {l : List TokE} {PR g : Int} {P P1 : List (Nat × Int)} {O O1 W X : Nat → Prop} {Z0 ZM u y y1 : Nat} {L : Nat → Int} {v w : Int} {dl dl1 : List Nat} {R R1 : Int × Nat → Prop}
/-- what trees own -/
def ON (p : Nat) (O : Nat → Prop) : Nat → Prop := fun q => O q ∧ ¬ Wp p q
/-- the model's goal at hand -/
def GP (s : MS) (g c z : Int) : Prop := fI s 2066437804 = g + 1 ∧ 0 ≤ g ∧ aI s 34 g = c ∧ aI s 35 g = z
theorem kp_of (J : JNX X hG sG p lx l PR Z0 ZM h s t o P O dl y) (E : Ev W u h h1) (hW : ∀ q, W q → ¬ O q ∨ Wp p q) (N : NPo v w g s s1) : Kp W (ON p O) u (Ln s) h h1 s s1 := by
  refine ⟨J.x.c, E, fun q z w => (hW q w).elim (fun y => y z.1) z.2, fun w => ?_, fun q z => J.hi z.1, ⟨Int.le_refl _, Int.le_refl _, Int.le_refl _⟩, by have := N.2.2.2; omega⟩
  rcases hW 0 w with y | y
  · exact y (J.lo (Nat.zero_le _))
  · exact J.p0 (Nat.le_zero.mp y.1)
theorem ON.up (G : Gw h P O P1 O1) : ∀ q, ON p O q → ON p O1 q := fun q z => ⟨G.1 q z.1, z.2⟩
theorem KD.go {i : Int} {q : Nat} (K : KD h s l P (ON p O) PR R i q) (J : JNX X hG sG p lx l PR Z0 ZM h s t o P O dl y) (E : Ev W u h h1) (hW : ∀ q, W q → ¬ O q ∨ Wp p q) (N : NPo v w g s s1) (G : Gw h P O P1 O1) (hv : ∀ b, ¬ R (v, b)) (hw : ∀ b, ¬ R (w, b)) : KD h1 s1 l P1 (ON p O1) PR R i q := K.st (kp_of J E hW N) N.1 J.m.2.2.2.2.1.1 G.2.2 (ON.up G) hv hw
theorem KF.go {ks : List (Int × Nat)} (K : KF h s l P (ON p O) PR R ks) (J : JNX X hG sG p lx l PR Z0 ZM h s t o P O dl y) (E : Ev W u h h1) (hW : ∀ q, W q → ¬ O q ∨ Wp p q) (N : NPo v w g s s1) (G : Gw h P O P1 O1) (hv : ∀ b, ¬ R (v, b)) (hw : ∀ b, ¬ R (w, b)) : KF h1 s1 l P1 (ON p O1) PR R ks := K.st (kp_of J E hW N) N.1 J.m.2.2.2.2.1.1 G.2.2 (ON.up G) hv hw
theorem KD.gov {i : Int} {q : Nat} (K : KD h s l P (ON p O) PR R i q) (J : JNX X hG sG p lx l PR Z0 ZM h s t o P O dl y) (E : Ev W u h h1) (hW : ∀ q, W q → ¬ O q ∨ Wp p q) (N : NPo i w g s s1) (G : Gw h P O P1 O1) (hw : ∀ b, ¬ R (w, b)) : KF h1 s1 l P1 (ON p O1) PR R [(i, q)] := K.stv (kp_of J E hW N) N.1 J.m.2.2.2.2.1.1 G.2.2 (ON.up G) hw
theorem UN.go {n : Int} {ks : List Int} (U : UN s n ks) (N : NPo v w g s s1) (hv : v ∉ ks) (nw : n ≠ w) : UN s1 n ks := U.fr N.1 (Int.le_refl _) (Int.le_refl _) N.2.2.2.1 hv nw
/-- a goal below is as it was -/
theorem NPo.gl (N : NPo v w g s s1) {A : Nat} {i : Int} (hA : clA A = 1) (h0 : 0 ≤ i) (h2 : i < fI s 2066437804 - 1) : aI s1 A i = aI s A i ∧ aJ s1 A i = aJ s A i := N.1.rk hA h0 h2 (by decide) (by decide)
theorem NPo.nd (N : NPo v w g s s1) {A : Nat} {i : Int} (hA : clA A = 2) (h0 : 0 ≤ i) (h2 : i < fI s 1915442860) (iw : i ≠ w) : aI s1 A i = aI s A i ∧ aJ s1 A i = aJ s A i := N.1.r2 hA h0 h2 iw
theorem NPo.nx (N : NPo v w g s s1) {A : Nat} {i : Int} (hA : clA A = 12) (h0 : 0 ≤ i) (h2 : i < fI s 1915442860) (hv : i ≠ v) : aI s1 A i = aI s A i ∧ aJ s1 A i = aJ s A i := N.1.r12 hA h0 h2 hv
/-- a node was read by both -/
def NOK (c v : Int) (R0 : Int × Nat → Prop) (hG : PH) (sG : MS) (p lx : Nat) (l : List TokE) (PR : Int) (Z0 ZM : Nat) (r : Rs) (h : PH) (s : MS) (t o : Nat) (P : List (Nat × Int)) (O : Nat → Prop) (y : Nat) (g : Int) : Prop := ∃ q i h1 s1 t1 P1 O1 dl1, r = some (.inl (some (vR q)), h1) ∧ Reach s s1 ∧ JN hG sG p lx l PR Z0 ZM h1 s1 t1 o P1 O1 dl1 y ∧ (KD h1 s1 l P1 (ON p O1) PR (fun e => R0 e ∨ Rg (fI s 1915442860) (fI s1 1915442860) (hn h) (hn h1) e) i q ∧ fI s1 2125158060 = i) ∧ NPo v (-1) g s s1 ∧ (∃ u, Ev (Wp p) u h h1) ∧ Gw h P O P1 O1 ∧ t ≤ t1 ∧ fI s1 1915442860 + t ≤ fI s 1915442860 + t1 + c
def R0 : Int × Nat → Prop := fun _ => False
def UnitC (k : Nat) : Prop := ∀ (hG : PH) (sG : MS) (p lx : Nat) (l : List TokE) (PR : Int) (Z0 ZM : Nat) (h : PH) (s : MS) (t o : Nat) (P : List (Nat × Int)) (O : Nat → Prop) (dl : List Nat) (y : Nat) (g : Int) (D : Nat), 24 ≤ o + k → JN hG sG p lx l PR Z0 ZM h s t o P O dl y → GP s g 2 0 → g ≤ 20 * o + 6 → 300 + 60 * (24 - o) ≤ D → BN hG sG p l Z0 ZM (F D 105718337 [vR p] h) s ∨ (NOK 0 (-1) R0 hG sG p lx l PR Z0 ZM (F D 105718337 [vR p] h) h s t o P O y g)
def SerC (k : Nat) : Prop := ∀ (hG : PH) (sG : MS) (p lx : Nat) (l : List TokE) (PR : Int) (Z0 ZM : Nat) (h : PH) (s : MS) (t o : Nat) (P : List (Nat × Int)) (O : Nat → Prop) (dl : List Nat) (y : Nat) (g : Int) (D : Nat), 24 ≤ o + k → JN hG sG p lx l PR Z0 ZM h s t o P O dl (y + 12) → GP s g 1 0 → aI s 37 g = 0 → aI s 38 g = 0 → fI s 1915442860 + fI s 2217432748 + fI s 2192266924 ≤ t + o → g ≤ 20 * o + 4 → 304 + 60 * (24 - o) ≤ D → BN hG sG p l Z0 ZM (F D 101261889 [vR p] h) s ∨ (NOK 1 (-1) R0 hG sG p lx l PR Z0 ZM (F D 101261889 [vR p] h) h s t o P O y g)
/-- a formula's goal -/
def FG (s : MS) (g z : Int) : Prop := GP s g 3 z ∧ (0 ≤ aI s 36 g ∧ aI s 36 g ≤ fI s 2192266924) ∧ (0 ≤ aI s 37 g ∧ aI s 37 g ≤ fI s 2217432748) ∧ aI s 39 g = aI s 36 g
/-- the flag of routines, or no bracket -/
def FlC (s : MS) (g : Int) (l : List TokE) (t : Nat) : Prop := aI s 38 g = 0 ∨ (aI s 38 g = 2 ∧ ¬ (kd l t = 5 ∧ sI l t = 40))
/-- the rest of a formula's step, from the end of an operand on -/
def OE (g : Int) (s s3 : MS) : Prop := ∀ (b : PH) (m d : Nat) (a2 a3 a4 a5 : PV), MB b m → ConH b → FA (F (d + 9)) 52517554 0 [vR m, vI g, a2, a3, a4, a5] [] (MH b m s) = some (.inl none, MH b m s3)
/-- not now, but by the next step of the formula -/
def Eqv (g : Int) (s1 s2 : MS) : Prop := ∀ s3, OE g s2 s3 → OE g s1 s3
theorem Eqv.rf : Eqv g s s := fun _ z => z
theorem Eqv.tr {s2 : MS} (a : Eqv g s s1) (b : Eqv g s1 s2) : Eqv g s s2 := fun s3 z => a s3 (b s3 z)
/-- an operand was read: the model has it when what stands ahead is taken off -/
def VOK (R0 : Int × Nat → Prop) (z : Int) (hG : PH) (sG : MS) (p lx : Nat) (l : List TokE) (PR : Int) (Z0 ZM : Nat) (r : Rs) (h : PH) (s : MS) (t o : Nat) (P : List (Nat × Int)) (O : Nat → Prop) (y : Nat) (g v : Int) : Prop := ∃ q i h1 s1 s2 t1 P1 O1 dl1, r = some (.inl (some (vR q)), h1) ∧ (Reach s s1 ∧ GP s1 g 3 z ∧ fI s1 1772836524 = -1 ∧ Eqv g s1 s2) ∧ JN hG sG p lx l PR Z0 ZM h1 s2 t1 o P1 O1 dl1 y ∧ (KD h1 s2 l P1 (ON p O1) PR (fun e => R0 e ∨ Rg (fI s 1915442860) (fI s2 1915442860) (hn h) (hn h1) e) i q ∧ fI s2 2125158060 = i) ∧ NPo v (-1) (g + 1) s s2 ∧ (∃ u, Ev (Wp p) u h h1) ∧ Gw h P O P1 O1 ∧ (t ≤ t1 ∧ fI s2 1915442860 + t ≤ fI s 1915442860 + t1) ∧ (aI s2 34 g = 3 ∧ aI s2 35 g = z ∧ aI s2 36 g = aI s 36 g ∧ aI s2 37 g = aI s 37 g ∧ aI s2 39 g = aI s 39 g)
def OpdC (M B : Nat) (z : Int) (k : Nat) : Prop := ∀ (hG : PH) (sG : MS) (p lx : Nat) (l : List TokE) (PR : Int) (Z0 ZM : Nat) (h : PH) (s : MS) (t o : Nat) (P : List (Nat × Int)) (O : Nat → Prop) (dl : List Nat) (y : Nat) (g : Int) (D : Nat), 24 ≤ o + k → JN hG sG p lx l PR Z0 ZM h s t o P O dl y → FG s g z → FlC s g l t → g ≤ 20 * o + 8 → B + 60 * (24 - o) ≤ D → BN hG sG p l Z0 ZM (F D M [vR p] h) s ∨ (VOK R0 7 hG sG p lx l PR Z0 ZM (F D M [vR p] h) h s t o P O y g (-1))
def TerC (k : Nat) : Prop := ∀ (hG : PH) (sG : MS) (p lx : Nat) (l : List TokE) (PR : Int) (Z0 ZM : Nat) (h : PH) (s : MS) (t o : Nat) (P : List (Nat × Int)) (O : Nat → Prop) (dl : List Nat) (y : Nat) (g : Int) (D : Nat), 24 ≤ o + k → JN hG sG p lx l PR Z0 ZM h s t o P O dl y → FG s g 0 → aI s 36 g = fI s 2192266924 → aI s 37 g = fI s 2217432748 → FlC s g l t → ¬ (kd l t = 1 ∧ sI l t = 6) → g ≤ 20 * o + 8 → 290 + 60 * (24 - o) ≤ D → BN hG sG p l Z0 ZM (F D 115155521 [vR p] h) s ∨ (NOK 0 (-1) R0 hG sG p lx l PR Z0 ZM (F D 115155521 [vR p] h) h s t o P O y g)
/-- a declarer was read -/
def DN (hG : PH) (sG : MS) (p lx : Nat) (l : List TokE) (PR : Int) (Z0 ZM : Nat) (r : Rs) (h : PH) (s : MS) (t o : Nat) (P : List (Nat × Int)) (O : Nat → Prop) (dl : List Nat) (y : Nat) (g mv : Int) : Prop := ∃ q i h1 s1 t1 P1 X1 O1, r = some (.inl (some (vR q)), h1) ∧ Reach s s1 ∧ JNX X1 hG sG p lx l PR Z0 ZM h1 s1 t1 o P1 O1 dl y ∧ ((q, i) ∈ P1 ∧ fI s1 2133546668 = i) ∧ (NPo (-1) (-1) g s s1 ∧ fI s1 1915442860 = fI s 1915442860 ∧ fI s1 2024494764 = fI s 2024494764) ∧ (∃ u, Ev (Wp p) u h h1) ∧ Gw h P O P1 O1 ∧ t < t1 ∧ ((gI h1 638128676 q = 3 ↔ isVd l t) ∧ (gI h1 638128676 q = 6 ↔ isBr l t)) ∧ ((mv = 2 ∧ isVd l t ∧ X1 = (fun j => Xe j ∨ j = t) ∧ aI s1 32 t = 1) ∨ (¬ (mv = 2 ∧ isVd l t) ∧ X1 = Xe)) ∧ NMP l t t1
theorem JNX.decl {mv : Int} {D : Nat} (J : JN hG sG p lx l PR Z0 ZM h s t o P O dl y) (Pre : DPre s o g mv) (hD : 100 + 40 * (24 - o) ≤ D) : BN hG sG p l Z0 ZM (F D 104145474 [vR p, vI (xmv mv)] h) s ∨ DN hG sG p lx l PR Z0 ZM (F D 104145474 [vR p, vI (xmv mv)] h) h s t o P O dl y g mv := by
  have lo := fun q z => JNX.lo J (q := q) z
  have hp := JNX.hp J
  have M := JNX.m J
  have C := (JNX.x J).c
  have p0 := JNX.p0 J
  have c36 := (JNX.x J).1
  obtain ⟨⟨Z, z, z1⟩, z2, ⟨⟨u0, z3⟩, z4⟩, z5, z6⟩ := J
  have bd := z.2.2.2.2.2.2.2
  have w7 : ∀ q, W7 p q → Wp p q := fun q w => ⟨w.1, w.2.1⟩
  have at0 : 0 ≤ fI s 1764447916 := by rw [M.1.2.1]; omega
  rcases decl_all 24 h s p lx l t o PR P Xe O Z0 Z g mv D (by omega) z (fun _ w => w.elim) (by omega) (by omega) Pre hD with B | B
  · left
    obtain ⟨e, h1, s1, k, b1, b2, b3, ⟨u', b4⟩, ⟨c1, c2, c3, c4⟩, b6, b7, b8⟩ := B
    exact ⟨e, h1, s1, k, b1, b2, b3, ⟨_, z3.tr b4 (fun q _ w => w7 q w)⟩, ⟨by omega, by omega, by omega, fun j z y => by have := c4 j z y; exact ⟨this.1, this.2.1, by omega⟩⟩, b6, b7, z4.tr b8⟩
  · right
    obtain ⟨q, i, h1, s1, t1, P1, X1, O1, b1, b2, b3, b4, b6, ⟨u2, b7⟩, ⟨b8, b9, b10⟩, b11, b12, b13, b14⟩ := B
    have tx : t1 < xc l := b3.x.2.2.2.2.1
    have xl := M.1.1.x
    have l2 := M.1.1.2.1
    have po := b6.po at0
    obtain ⟨e1, e2, e3, e4, e5, e6, e7, e8, e9, e10, e11⟩ := b6
    refine ⟨q, i, h1, s1, t1, P1, X1, O1, b1, b2, ⟨⟨_, b3, by omega⟩, z2, ⟨⟨_, z3.tr b7 (fun q _ w => w7 q w)⟩, z4.tr (frm M e1)⟩, z5.st C b7 (fun q w => Or.inr ?_) (fun j j1 j2 w => ?_) (fun w => p0 (by have := w.1; omega)) e1 (Int.le_refl _) e9 b14 (by omega) b10 b8, ?_⟩, b4, ⟨po, e7, e8⟩, ⟨_, b7.mono (fun q _ w => w7 q w) (Nat.le_refl _)⟩, ⟨b8, b9, b10⟩, b11, b12, b13, b14⟩
    · obtain ⟨w1, w2, w3⟩ := w
      rcases w3 with w3 | w3
      · rw [w3]; exact Or.inl c36
      · obtain ⟨j, hj⟩ : ∃ j, q = p + j := ⟨q - p, by omega⟩
        rw [hj]
        exact Or.inr (bd.2.2.2 j (by omega) (by omega)).1
    · have := w.2.2; omega
    · obtain ⟨c1, c2, c3, c4⟩ := z6
      exact ⟨by omega, by omega, by omega, by omega⟩
end NC
