/-! READING DECLARERS: the contract -/
set_option maxRecDepth 100000
set_option maxHeartbeats 1000000
section DC
variable {h h1 : PH} {s s1 : MS} {p lx t o t1 o1 : Nat} {X X' : Nat → Prop} {l : List TokE} {PR g : Int} {P P1 : List (Nat × Int)} {O O1 W : Nat → Prop} {Z0 Z Z1 u : Nat} {L : Nat → Int} {v : Int}
def W7 (p : Nat) : Nat → Prop := fun q => p ≤ q ∧ q ≤ p + 6 ∧ (q = p ∨ p + 5 ≤ q)
def Lc (g : Int) : Nat → Int := fun c => if c = 1 then g else 1000000
/-- both fail, at the same token -/
def BFw (W : Nat → Prop) (r : Rs) (h : PH) (s : MS) (p : Nat) (l : List TokE) (Z0 Z : Nat) : Prop := ∃ e h1 s1 k, r = some (.inr e, h1) ∧ k < xc l ∧ FaultAt h1 e 1 (pl l k) ∧ (∃ u, Ev W u h h1) ∧ Bud h1 p Z0 Z ∧ Reach s s1 ∧ fI s1 1772836524 = pl l k ∧ FrW s s1
def BF (r : Rs) (h : PH) (s : MS) (p : Nat) (l : List TokE) (Z0 Z : Nat) : Prop := BFw (W7 p) r h s p l Z0 Z
/-- what a declarer's reading does to the model's counts -/
def DPost (s s1 : MS) (t t1 : Nat) (g : Int) : Prop := Fr (Lm s) (-1) s s1 ∧ fI s1 2066437804 = g ∧ fI s1 2234209964 = fI s 2234209964 ∧ fI s1 2175489708 = fI s 2175489708 ∧ fI s1 2192266924 = fI s 2192266924 ∧ fI s1 2217432748 = fI s 2217432748 ∧ fI s1 1915442860 = fI s 1915442860 ∧ fI s1 2024494764 = fI s 2024494764 ∧ fI s1 1873499820 = fI s 1873499820 ∧ (fI s 1789613740 ≤ fI s1 1789613740 ∧ fI s1 1789613740 + t ≤ fI s 1789613740 + t1) ∧ (fI s 1848333996 ≤ fI s1 1848333996 ∧ fI s1 1848333996 + 1 + t ≤ fI s 1848333996 + t1)
def isVd (l : List TokE) (t : Nat) : Prop := kd l t = 1 ∧ sI l t = 36
def isBr (l : List TokE) (t : Nat) : Prop := kd l t = 5 ∧ sI l t = 91
/-- no MODE, no PRIO among these tokens -/
def NMP (l : List TokE) (a b : Nat) : Prop := ∀ k, a ≤ k → k < b → ¬ (kd l k = 1 ∧ (sI l k = 0 ∨ sI l k = 1))
theorem NMP.tr {a b c : Nat} (x : NMP l a b) (y : NMP l b c) : NMP l a c := fun k h1 h2 => (Nat.lt_or_ge k b).elim (fun z => x k h1 z) (fun z => y k z h2)
theorem nmp_k {a : Nat} {w : Int} (q : kd l a = w) (hw : w ≠ 1) : NMP l a (a + 1) := fun k h1 h2 z => by
  have e : k = a := by omega
  rw [e, q] at z
  exact hw z.1
theorem nmp_w {a : Nat} {w : Int} (r : sI l a = w) (h0 : w ≠ 0) (h1 : w ≠ 1) : NMP l a (a + 1) := fun k a1 a2 z => by
  have e : k = a := by omega
  rw [e, r] at z
  exact z.2.elim h0 h1
/-- a declarer was read by both -/
def DOK (r : Rs) (h : PH) (s : MS) (p lx : Nat) (l : List TokE) (t o : Nat) (PR : Int) (P : List (Nat × Int)) (X O : Nat → Prop) (Z0 Z : Nat) (g mv : Int) : Prop := ∃ q i h1 s1 t1 P1 X1 O1, r = some (.inl (some (vR q)), h1) ∧ Reach s s1 ∧ JD h1 s1 p lx l t1 o PR P1 X1 O1 Z0 (Z + 24 * (t1 - t)) ∧ ((q, i) ∈ P1 ∧ fI s1 2133546668 = i) ∧ DPost s s1 t t1 g ∧ (∃ u, Ev (W7 p) u h h1) ∧ ((∀ x, O x → O1 x) ∧ (∀ x, O1 x → O x ∨ hn h ≤ x) ∧ (∀ e ∈ P, e ∈ P1)) ∧ t < t1 ∧ ((gI h1 638128676 q = 3 ↔ isVd l t) ∧ (gI h1 638128676 q = 6 ↔ isBr l t)) ∧ ((mv = 2 ∧ isVd l t ∧ X1 = (fun j => X j ∨ j = t) ∧ aI s1 32 t = 1) ∨ (¬ (mv = 2 ∧ isVd l t) ∧ X1 = X)) ∧ NMP l t t1
/-- where a declarer begins -/
def DPre (s : MS) (o : Nat) (g mv : Int) : Prop := fI s 2066437804 = g + 1 ∧ 0 ≤ g ∧ g ≤ 20 * o + 14 ∧ aI s 34 g = 4 ∧ aI s 35 g = 0 ∧ aI s 36 g = mv ∧ (mv = 0 ∨ mv = 1 ∨ mv = 2)
def xmv (mv : Int) : Int := if mv = 0 then 0 else 1
def DeclC (k : Nat) : Prop := ∀ (h : PH) (s : MS) (p lx : Nat) (l : List TokE) (t o : Nat) (PR : Int) (P : List (Nat × Int)) (X O : Nat → Prop) (Z0 Z : Nat) (g mv : Int) (D : Nat), 24 ≤ o + k → JD h s p lx l t o PR P X O Z0 Z → (∀ j, X j → j < t) → Z + 24 * (482 - t) ≤ 80000 → Z - Z0 + 24 * (482 - t) ≤ 11800 → DPre s o g mv → 100 + 40 * (24 - o) ≤ D → BF (F D 104145474 [vR p, vI (xmv mv)] h) h s p l Z0 (Z + 24 * (482 - t) + 10) ∨ DOK (F D 104145474 [vR p, vI (xmv mv)] h) h s p lx l t o PR P X O Z0 Z g mv
/-- x moves on over its tokens -/
def XM (h0 h : PH) (p lx : Nat) (l : List TokE) (t o : Nat) : Prop := Ev (· = p) 0 h0 h ∧ PXs h p lx l t o ∧ XFd h p
theorem XM.rf (X : PXs h p lx l t o) (F1 : XFd h p) : XM h h p lx l t o := ⟨Ev.rf X.i, X, F1⟩
theorem XM.st {h0 : PH} (a : XM h0 h p lx l t o) (ht : t1 < xc l) : XM h0 (pI h 1285834896 p ((t1 : Nat) : Int)) p lx l t1 o := ⟨a.1.cI (Or.inl rfl) (by rw [a.2.1.1]; rfl), a.2.1.setT ht, a.2.2⟩
theorem XM.so {h0 : PH} (a : XM h0 h p lx l t o) (ht : o1 ≤ 24) : XM h0 (pI h 1294223504 p ((o1 : Nat) : Int)) p lx l t o1 := ⟨a.1.cI (Or.inl rfl) (by rw [a.2.1.1]; rfl), a.2.1.setO ht, a.2.2⟩
/-- both fail now -/
theorem bf_now {r : Rs} {k e : Nat} {h0 : PH} (J : JD h0 s p lx l t o PR P X O Z0 Z) (hk : k < xc l) (E0 : Ev (· = p) u h0 h) (hr : r = some (.inr e, h1)) (f : FaultAt h1 e 1 (pl l k)) (E : Ev W0 1 h h1) (hz : Z + u + 1 ≤ Z1) (R : Reach s s1) (hb : fI s1 1772836524 = pl l k) (hf : FrW s s1) : BF r h0 s p l Z0 Z1 := by
  have e2 := E0.tr E (fun _ _ z => z.elim)
  refine ⟨e, h1, s1, k, hr, hk, f, ⟨_, e2.mono (fun q _ z => ⟨by omega, by omega⟩) (Nat.le_refl _)⟩, ?_, R, hb, hf⟩
  have b := J.2.2.2.2.2.2.2.st J.i J.hp e2 (fun q z y w => by omega)
  obtain ⟨b1, b2, b3, b4⟩ := b
  exact ⟨by omega, by omega, by omega, fun j z y => by have := b4 j z y; exact ⟨this.1, this.2.1, by omega⟩⟩
theorem JD.pl0 (J : JD h s p lx l t o PR P X O Z0 Z) {k : Nat} (hk : k < xc l) : 0 ≤ pl l k := (J.x.tok hk).1.1
end DC
