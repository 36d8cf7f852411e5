/-! READING NODES: one part more is read -/
set_option maxRecDepth 100000
set_option maxHeartbeats 1000000
section PRT
variable {hG h h1 : PH} {sG s s1 : MS} {p lx t o t1 o1 : Nat} {l : List TokE} {PR g n i2 k tk a b c md tg Pl cc a0 : Int} {P P1 : List (Nat × Int)} {O O1 W X : Nat → Prop} {Z0 ZM u y y1 d q0 r q2 tg' b0 : Nat} {v w : Int} {dl : List Nat} {R00 : Int × Nat → Prop} {ks : List (Int × Nat)} {fi fj : Nat → Int} {fr : Nat → Nat} {rr : Rs}
/-- the region of a node's parts: R00 ahead of it, the others behind -/
def RB (R00 : Int × Nat → Prop) (n : Int) (q0 : Nat) (a0 : Int) (b0 : Nat) : Int × Nat → Prop := fun e => R00 e ∨ Rg (n + 1) a0 (q0 + 2) b0 e
/-- a node under way, on both sides -/
def Bld (h : PH) (s : MS) (l : List TokE) (P : List (Nat × Int)) (O : Nat → Prop) (PR : Int) (R : Int × Nat → Prop) (ks : List (Int × Nat)) (n : Int) (q0 r : Nat) (k tk a b c md tg : Int) (tg' : Nat) (Pl : Int) (fi fj : Nat → Int) (fr : Nat → Nat) : Prop := KF h s l P O PR R ks ∧ UN s n (ks.map (·.1)) ∧ AtM s n k tk a b c md tg ∧ NF h q0 tg' r Pl fi fj fr ∧ AL h r (ks.map (·.2))
/-- and x has a part more than the model -/
def Pnd (h : PH) (s : MS) (l : List TokE) (P : List (Nat × Int)) (O : Nat → Prop) (PR : Int) (R R2 : Int × Nat → Prop) (ks : List (Int × Nat)) (i2 : Int) (q2 : Nat) (n : Int) (q0 r : Nat) (k tk a b c md tg : Int) (tg' : Nat) (Pl : Int) (fi fj : Nat → Int) (fr : Nat → Nat) : Prop := KF h s l P O PR R ks ∧ (KD h s l P O PR R2 i2 q2 ∧ fI s 2125158060 = i2) ∧ UN s n (ks.map (·.1)) ∧ AtM s n k tk a b c md tg ∧ NF h q0 tg' r Pl fi fj fr ∧ AL h r (ks.map (·.2) ++ [q2])
theorem AL.ne {q : Nat} (A : AL h r (ks.map (·.2))) (N : NF h q tg' b0 Pl fi fj fr) (t34 : inT 11 34 tg') : r ≠ q := fun z => by
  have e := A.1
  rw [z, N.1] at e
  rw [e] at t34
  exact absurd t34 (by decide)
theorem pn_with (d : Nat) (J : JNX Xe hG sG p lx l PR Z0 ZM h s t o P O dl y1) (V : NOK cc (-1) R0 hG sG p lx l PR Z0 ZM rr h s t o P O (y + 3) g) (B : Bld h s l P (ON p O) PR (RB R00 n q0 (fI s 1915442860) (hn h)) ks n q0 r k tk a b c md tg tg' Pl fi fj fr) (hR : ∀ e, R00 e → 0 ≤ e.1 ∧ e.1 < n ∧ e.2 < q0) (t34 : inT 11 34 tg') (q0p : p + 6 < q0) (rp : p + 6 < r) (rO : ¬ O r) (qO : ¬ O q0) (len : ks.length < 50) (nb : n < fI s 1915442860) : ∃ q2 i2 h3 h4 s3 t1 P1 O1 dl1, rr = some (.inl (some (vR q2)), h3) ∧ F (d + 7) 118296754 [vR q0, vR q2] h3 = some (.inl (some (vR q0)), h4) ∧ Reach s s3 ∧ JN hG sG p lx l PR Z0 ZM h4 s3 t1 o P1 O1 dl1 y ∧ Pnd h4 s3 l P1 (ON p O1) PR (RB R00 n q0 (fI s 1915442860) (hn h)) (Rg (fI s 1915442860) (fI s3 1915442860) (hn h) (hn h4)) ks i2 q2 n q0 r k tk a b c md tg tg' Pl fi fj fr ∧ NPo (-1) (-1) g s s3 ∧ (∃ u, Ev (fun x => Wp p x ∨ x = r) u h h4) ∧ Gw h P O P1 O1 ∧ (t ≤ t1 ∧ fI s3 1915442860 + t ≤ fI s 1915442860 + t1 + cc) ∧ (hn h ≤ hn h4 ∧ ¬ O1 r ∧ ¬ O1 q0) ∧ (hc h3 q0 = tg' ∧ hc h3 p = 36 ∧ PXs h4 p lx l t1 o) := by
  obtain ⟨q2, i2, h3, s3, t1, P1, O1, dl1, b1, b2, b3, ⟨b4, b5⟩, b6, ⟨u3, b7⟩, b8, b9, b10⟩ := V
  obtain ⟨B1, B2, B3, B4, B5⟩ := B
  have Y3 := JNX.x b3
  have rq := AL.ne B5 B4 t34
  have rl : r < hn h := B5.lt J.x.c
  have ql : q0 < hn h := J.i.z (by rw [B4.1]; intro z; rw [z] at t34; exact absurd t34 (by decide))
  have wq : ¬ Wp p q0 := fun z => by have := z.2; omega
  have wr : ¬ Wp p r := fun z => by have := z.2; omega
  have al3 := b7.al J.x.c wr (fun z => J.p0 (by have := z.1; omega)) B5
  have n3 := XU.nf B4 b7 J.i wq t34
  have ng : ∀ e, RB R00 n q0 (fI s 1915442860) (hn h) e → 0 ≤ e.1 := fun e z => by
    have := B2.1.1
    rcases z with z | z
    · exact (hR e z).1
    · have := z.1; omega
  have K3 := B1.go J b7 (fun x z => Or.inr z) b6 b8 (fun e z => by have : (0 : Int) ≤ -1 := ng _ z; omega) (fun e z => by have : (0 : Int) ≤ -1 := ng _ z; omega)
  have U3 := B2.go b6 (fun z => by obtain ⟨e', e1, e2⟩ := List.mem_map.mp z; have := (B1.1 e' e1).2.1; omega) (by have := B2.1.1; omega)
  have A3 := B3.go b6 B2.1.1 nb (by have := B2.1.1; omega) (by have := B2.1.1; omega)
  have nr : ¬ O1 r := fun z => (b8.2.1 _ z).elim rO (fun w => by omega)
  have nq : ¬ O1 q0 := fun z => (b8.2.1 _ z).elim qO (fun w => by omega)
  obtain ⟨h4, l1, l2, l3⟩ := f_with' d Y3.i (q := q0) (r := r) (v := q2) (by rw [n3.1]; exact t34) n3.2.1 al3 (ok_nd b4.1.1) (by rw [List.length_map]; omega) ((JNX.room b3).le (by omega))
  have X4 := (XU.rf (W := (· = r)) Y3 (JNX.f b3)).tr l2 (fun x z => ⟨by omega, Or.inl z⟩)
  have hW : ∀ x, x = r → ¬ O1 x ∨ x = p := fun x z => Or.inl (by rw [z]; exact nr)
  have S0 : SG (-1) (-1) (fI s3 2066437804) s3 s3 t1 o := ⟨FrN.rf, rfl, ⟨(JNX.m b3).1.2.1, (JNX.m b3).2.1, (JNX.m b3).2.2.1⟩, ⟨rfl, rfl, rfl, rfl, rfl, rfl, rfl, rfl⟩, Int.le_refl _⟩
  have J4 := JNX.step b3 X4.1 hW X4.2.1 X4.2.2 S0 (Nat.le_refl _) nmp_rf (y1 := y) (by omega) (JNX.c b3).2.2.1
  have hn3 : hn h ≤ hn h3 := b7.1.1
  have hn4 : hn h3 ≤ hn h4 := l2.1.1
  have wW : ∀ x, x = r → ¬ O1 x ∨ Wp p x := fun x z => Or.inl (by rw [z]; exact nr)
  have K4 := K3.go b3 l2 wW S0.po Gw.rf (fun e z => by have : (0 : Int) ≤ -1 := ng _ z; omega) (fun e z => by have : (0 : Int) ≤ -1 := ng _ z; omega)
  have rgp : ∀ x : Nat, ¬ (R0 (-1, x) ∨ Rg (fI s 1915442860) (fI s3 1915442860) (hn h) (hn h3) (-1, x)) := fun x z => by
    have := B2.1.1
    rcases z with z | z
    · exact z
    · have : fI s 1915442860 ≤ -1 := z.1; omega
  have D4 := (b4.go b3 l2 wW S0.po Gw.rf rgp rgp).up (R1 := Rg (fI s 1915442860) (fI s3 1915442860) (hn h) (hn h4)) (fun e z => by
    rcases z with z | ⟨z1, z2, z3, z4⟩
    · exact z.elim
    · exact ⟨z1, z2, z3, by omega⟩)
  have n4 := XU.nf n3 l2 Y3.i (fun z => rq z.symm) t34
  refine ⟨q2, i2, h3, h4, s3, t1, P1, O1, dl1, b1, l1, b2, J4, ⟨K4, ⟨D4, b5⟩, U3, A3, n4, l3⟩, b6, ⟨_, (b7.mono (W' := fun x => Wp p x ∨ x = r) (fun x _ z => Or.inl z) (Nat.le_refl _)).tr l2 (fun x _ z => Or.inr z)⟩, b8, ⟨b9, b10⟩, ⟨by omega, nr, nq⟩, n3.1, Y3.1, X4.2.1⟩
end PRT
