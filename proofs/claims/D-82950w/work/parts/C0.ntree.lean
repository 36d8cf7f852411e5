/-! TREES OF NODES: x's and the model's -/
set_option maxRecDepth 100000
set_option maxHeartbeats 1000000
section NTr
variable {h h1 : PH} {s s1 : MS} {l : List TokE} {PR : Int} {P P1 : List (Nat × Int)} {O O1 W : Nat → Prop} {u : Nat} {L : Nat → Int} {v w : Int}


/-- as Fr; w: a node that gets parts -/
def FrN (L : Nat → Int) (v w : Int) (s s' : MS) : Prop := (∀ A i, (clA A = 0 ∨ ((0 ≤ i ∧ i < L (clA A)) ∧ (clA A = 12 → i ≠ v) ∧ (clA A = 2 → i ≠ w))) → aI s' A i = aI s A i ∧ aJ s' A i = aJ s A i) ∧ (∀ f, pfF f = false → fI s' f = fI s f) ∧ (∀ f, fJ s' f = fJ s f)
theorem Fr.n (a : Fr L v s s1) : FrN L v w s s1 := ⟨fun A i hA => a.1 A i (hA.imp id (fun z => ⟨z.1, z.2.1⟩)), a.2⟩
theorem FrN.r2 {A : Nat} {i : Int} (a : FrN L v w s s1) (hA : clA A = 2) (h0 : 0 ≤ i) (h2 : i < L 2) (iw : i ≠ w) : aI s1 A i = aI s A i ∧ aJ s1 A i = aJ s A i := a.1 A i (Or.inr ⟨by rw [hA]; exact ⟨h0, h2⟩, fun z => absurd (hA.symm.trans z) (by decide), fun _ => iw⟩)
theorem FrN.r12 {A : Nat} {i : Int} (a : FrN L v w s s1) (hA : clA A = 12) (h0 : 0 ≤ i) (h2 : i < L 12) (iv : i ≠ v) : aI s1 A i = aI s A i ∧ aJ s1 A i = aJ s A i := a.1 A i (Or.inr ⟨by rw [hA]; exact ⟨h0, h2⟩, fun _ => iv, fun z => absurd (hA.symm.trans z) (by decide)⟩)
theorem FrN.rk {A c : Nat} {i : Int} (a : FrN L v w s s1) (hA : clA A = c) (h0 : 0 ≤ i) (h2 : i < L c) (hc2 : c ≠ 2) (hc12 : c ≠ 12) : aI s1 A i = aI s A i ∧ aJ s1 A i = aJ s A i := a.1 A i (Or.inr ⟨by rw [hA]; exact ⟨h0, h2⟩, fun z => absurd (hA.symm.trans z) hc12, fun z => absurd (hA.symm.trans z) hc2⟩)
theorem FrN.f (a : FrN L v w s s1) (h2 : L 2 ≤ 0) : Fr L v s s1 := ⟨fun A i hA => a.1 A i (hA.imp id (fun z => ⟨z.1, z.2, fun y => by have := z.1; rw [y] at this; omega⟩)), a.2⟩
theorem FrN.mono {L' : Nat → Int} (a : FrN L v w s s1) (hL : ∀ k, L' k ≤ L k) : FrN L' v w s s1 := ⟨fun A i hA => a.1 A i (hA.imp id (fun z => ⟨⟨z.1.1, Int.lt_of_lt_of_le z.1.2 (hL _)⟩, z.2⟩)), a.2⟩
theorem FrN.tr {s2 : MS} {L' : Nat → Int} {v' w' : Int} (a : FrN L v w s s1) (c : FrN L' v' w' s1 s2) (h : ∀ k, L k ≤ L' k) (hv : v' = v ∨ L 12 ≤ v' ∨ v' < 0) (hw : w' = w ∨ L 2 ≤ w' ∨ w' < 0) : FrN L v w s s2 := by
  refine ⟨fun A i hA => ?_, fun f hf => (c.2.1 f hf).trans (a.2.1 f hf), fun f => (c.2.2 f).trans (a.2.2 f)⟩
  have a1 := a.1 A i hA
  have c1 := c.1 A i (by
    rcases hA with z | ⟨⟨z0, z1⟩, z2, z3⟩
    · exact Or.inl z
    · refine Or.inr ⟨⟨z0, Int.lt_of_lt_of_le z1 (h _)⟩, fun y => ?_, fun y => ?_⟩
      · have := z2 y
        rw [y] at z1
        omega
      · have := z3 y
        rw [y] at z1
        omega)
  exact ⟨c1.1.trans a1.1, c1.2.trans a1.2⟩
/-- what a node has, by its kind; its token is k -/
def APu (h : PH) (s : MS) (l : List TokE) (P : List (Nat × Int)) (i : Int) (q k : Nat) : Prop := (aI s 18 i = 1 → hc h q = 21) ∧ (aI s 18 i = 2 → hc h q = 15 ∧ ∃ j : Nat, j < xc l ∧ isOp l j ∧ aI s 23 i = j ∧ aJ s 25 i = mop l j ∧ gJ h 856628797 q = xop l j) ∧ (aI s 18 i = 3 → hc h q = 14 ∧ (gR h 831396922 q, aI s 24 i) ∈ P ∧ ∃ j : Nat, j < xc l ∧ kd l j = 3 ∧ aI s 23 i = j ∧ aJ s 25 i = wd l j ∧ gJ h 839785529 q = wd l j ∧ gI h 848174136 q = pl l j) ∧ (aI s 18 i = 4 → hc h q = 16 ∧ (gR h 881860674 q, aI s 24 i) ∈ P ∧ gI h 873472067 q = aI s 26 i ∧ (aI s 26 i = 0 ∨ aI s 26 i = 1) ∧ (gI h 907026499 q = 1 ∧ (aI s 27 i = 2 ∨ aI s 27 i = 12) ∨ gI h 907026499 q = 0 ∧ (aI s 27 i = 0 ∨ aI s 27 i = 10)) ∧ ∃ j : Nat, j < xc l ∧ kd l j = 3 ∧ aI s 23 i = j ∧ aJ s 25 i = wd l j ∧ gJ h 890249281 q = wd l j ∧ gI h 898637888 q = pl l j) ∧ (aI s 18 i = 5 → hc h q = 11) ∧ (aI s 18 i = 6 → hc h q = 25 ∧ gI h 1041838695 q = 1 - aI s 23 i ∧ (aI s 23 i = 0 ∨ aI s 23 i = 1)) ∧ (aI s 18 i = 7 → hc h q = 30 ∧ (gR h 1142832250 q, aI s 24 i) ∈ P) ∧ (aI s 18 i = 8 → hc h q = 32) ∧ (aI s 18 i = 9 → hc h q = 27) ∧ (aI s 18 i = 10 → hc h q = 23 ∧ aJ s 25 i = mop l k ∧ gJ h 999763549 q = xop l k ∧ isOp l k) ∧ (aI s 18 i = 11 → hc h q = 23 ∧ aJ s 25 i = mop l k ∧ gJ h 999763549 q = xop l k ∧ isOp l k) ∧ (aI s 18 i = 12 → hc h q = 18 ∧ (aI s 23 i = 2 ∧ gI h 923935819 q = 1 ∨ aI s 23 i = 1 ∧ gI h 923935819 q = 0)) ∧ (aI s 18 i = 13 → hc h q = 31 ∧ aJ s 25 i = wd l k ∧ gJ h 1176452733 q = wd l k) ∧ (aI s 18 i = 14 → hc h q = 24 ∧ (gR h 1033384034 q, aI s 24 i) ∈ P ∧ gI h 1024995427 q = aI s 26 i ∧ (aI s 26 i = 0 ∨ aI s 26 i = 1) ∧ (aI s 27 i = 0 ∨ aI s 27 i = 2)) ∧ (aI s 18 i = 15 → hc h q = 28 ∧ gI h 1092368496 q = 15 ∧ gJ h 1100757105 q = aI s 23 i) ∧ (aI s 18 i = 16 → hc h q = 28 ∧ gI h 1092368496 q = 16 ∧ gJ h 1100757105 q = aI s 23 i) ∧ (aI s 18 i = 17 → hc h q = 28 ∧ gI h 1092368496 q = 17 ∧ gJ h 1100757105 q = aI s 23 i) ∧ (aI s 18 i = 18 → hc h q = 34 ∧ aJ s 25 i = wd l k ∧ gJ h 1218593929 q = wd l k) ∧ (aI s 18 i = 19 → hc h q = 13 ∧ (gR h 814553654 q, aI s 24 i) ∈ P) ∧ (aI s 18 i = 20 → hc h q = 12) ∧ (aI s 18 i = 21 → hc h q = 33) ∧ (aI s 18 i = 22 → hc h q = 33) ∧ (aI s 18 i = 23 → hc h q = 17) ∧ (aI s 18 i = 24 → hc h q = 20) ∧ (aI s 18 i = 25 → hc h q = 19 ∧ gI h 940779084 q = aI s 27 i) ∧ (aI s 18 i = 26 → hc h q = 22) ∧ (aI s 18 i = 27 → hc h q = 26 ∧ gI h 1050293352 q = aI s 26 i ∧ (gI h 1067070571 q = 1 ∧ kd l (k + 1) = 3 ∧ aJ s 25 i = wd l (k + 1) ∧ gJ h 1058681961 q = wd l (k + 1) ∧ gI h 1075459176 q = pl l (k + 1) ∨ gI h 1067070571 q = 0 ∧ aJ s 25 i = 0)) ∧ (aI s 18 i = 28 → hc h q = 29)
theorem APu.mono {i : Int} {q k : Nat} (A : APu h s l P i q k) (hP : ∀ e ∈ P, e ∈ P1) : APu h s l P1 i q k := by
  obtain ⟨a1, a2, a3, a4, a5, a6, a7, a8, a9, a10, a11, a12, a13, a14, a15, a16, a17, a18, a19, a20, a21, a22, a23, a24, a25, a26, a27, a28⟩ := A
  exact ⟨a1, a2, fun z => ⟨(a3 z).1, hP _ (a3 z).2.1, (a3 z).2.2⟩, fun z => ⟨(a4 z).1, hP _ (a4 z).2.1, (a4 z).2.2⟩, a5, a6, fun z => ⟨(a7 z).1, hP _ (a7 z).2⟩, a8, a9, a10, a11, a12, a13, fun z => ⟨(a14 z).1, hP _ (a14 z).2.1, (a14 z).2.2⟩, a15, a16, a17, a18, fun z => ⟨(a19 z).1, hP _ (a19 z).2⟩, a20, a21, a22, a23, a24, a25, a26, a27, a28⟩
/-- how many parts it has -/
def Ari (k b c : Int) (n : Nat) : Prop := (k = 1 → 1 ≤ n) ∧ (k = 2 → n = 1) ∧ (k = 3 → n = 1) ∧ (k = 4 → ((c = 0 ∧ n = 0) ∨ (c = 2 ∧ n = 2) ∨ (c = 10 ∧ n = 1) ∨ (c = 12 ∧ n = 3))) ∧ (k = 5 → n = 2) ∧ (k = 6 → n = 2) ∧ (k = 7 → n = 1) ∧ (k = 8 → n = 0) ∧ (k = 9 → n = 0) ∧ (k = 10 → n = 2) ∧ (k = 11 → n = 1) ∧ (k = 12 → n = 1) ∧ (k = 13 → n = 1) ∧ (k = 14 → (n : Int) = c) ∧ (k = 15 → n = 0) ∧ (k = 16 → n = 0) ∧ (k = 17 → n = 0) ∧ (k = 18 → n = 0) ∧ (k = 19 → n = 1) ∧ (k = 20 → 2 ≤ n ∧ n ≤ 9) ∧ (k = 21 → n = 2) ∧ (k = 22 → n = 3) ∧ (k = 23 → n ≠ 1 ∧ n ≤ 8) ∧ (k = 24 → (n : Int) = 2 + b ∧ (b = 0 ∨ b = 1)) ∧ (k = 25 → (n : Int) = 1 + c + b ∧ (b = 0 ∨ b = 1) ∧ 2 ≤ c ∧ c ≤ 8) ∧ (k = 26 → (n : Int) = 1 + c + b ∧ (b = 0 ∨ b = 1) ∧ 1 ≤ c ∧ c ≤ 8) ∧ (k = 27 → ∃ b0 b1 b2 b3 : Int, (b0 = 0 ∨ b0 = 1) ∧ (b1 = 0 ∨ b1 = 1) ∧ (b2 = 0 ∨ b2 = 1) ∧ (b3 = 0 ∨ b3 = 1) ∧ b = b0 + 2 * b1 + 4 * b2 + 8 * b3 ∧ (n : Int) = 1 + b0 + b1 + b2 + b3) ∧ (k = 28 → n = 1)
/-- a routine's parameters -/
def ARo (h : PH) (s : MS) (l : List TokE) (P : List (Nat × Int)) (O : Nat → Prop) (PR : Int) (i : Int) (q : Nat) : Prop := (O (gR h 1117666426 q) ∧ O (gR h 1126055034 q) ∧ O (gR h 1134443642 q) ∧ O (gR h 1167998074 q)) ∧ (200 * PR ≤ aI s 26 i ∧ 0 ≤ aI s 27 i ∧ aI s 26 i + aI s 27 i ≤ fI s 2024494764) ∧ AL h (gR h 1167998074 q) [] ∧ ∃ ms ts ps : List Nat, (AL h (gR h 1117666426 q) ms ∧ AL h (gR h 1126055034 q) ts ∧ AL h (gR h 1134443642 q) ps) ∧ (aI s 27 i = ms.length ∧ ts.length = ms.length ∧ ps.length = ms.length ∧ ms.length ≤ 8) ∧ ∀ j : Nat, j < ms.length → (ms.getD j 0, aI s 30 (aI s 26 i + j)) ∈ P ∧ O (ts.getD j 0) ∧ BxJ h (ts.getD j 0) (aJ s 31 (aI s 26 i + j)) ∧ O (ps.getD j 0) ∧ ∃ k : Nat, k < xc l ∧ kd l k = 3 ∧ wd l k = aJ s 31 (aI s 26 i + j) ∧ BxI h (ps.getD j 0) (pl l k)
/-- the modes and tags of a choice by mode -/
def AWh (h : PH) (s : MS) (P : List (Nat × Int)) (O : Nat → Prop) (i : Int) (q : Nat) (ks : List Int) : Prop := (O (gR h 957754458 q) ∧ O (gR h 966143066 q) ∧ O (gR h 974531674 q) ∧ O (gR h 982920282 q) ∧ O (gR h 991308890 q)) ∧ (AL h (gR h 974531674 q) [] ∧ AL h (gR h 982920282 q) [] ∧ AL h (gR h 991308890 q) []) ∧ ∃ ms ts : List Nat, (AL h (gR h 957754458 q) ms ∧ AL h (gR h 966143066 q) ts) ∧ (aI s 27 i = ms.length ∧ ts.length = ms.length ∧ ms.length < ks.length) ∧ ∀ j : Nat, j < ms.length → (ms.getD j 0, aI s 28 (ks.getD (j + 1) 0)) ∈ P ∧ O (ts.getD j 0) ∧ BxJ h (ts.getD j 0) (aJ s 29 (ks.getD (j + 1) 0))
def afI : List Nat := [740443180, 848174136, 873472067, 898637888, 907026499, 1041838695, 923935819, 1024995427, 1092368496, 940779084, 1050293352, 1067070571, 1075459176]
def afR : List Nat := [748831790, 831396922, 881860674, 1117666426, 1126055034, 1134443642, 1142832250, 1167998074, 1033384034, 814553654, 957754458, 966143066, 974531674, 982920282, 991308890]
/-- a node with its parts -/
def NAt (h : PH) (s : MS) (l : List TokE) (P : List (Nat × Int)) (O : Nat → Prop) (PR : Int) (i : Int) (q : Nat) (ks : List (Int × Nat)) : Prop := (inT 11 34 (hc h q) ∧ O q ∧ O (gR h 748831790 q)) ∧ (0 ≤ i ∧ i < fI s 1915442860) ∧ (1 ≤ aI s 18 i ∧ aI s 18 i ≤ 28) ∧ (∃ k : Nat, k < xc l ∧ aI s 19 i = k ∧ gI h 740443180 q = pl l k ∧ APu h s l P i q k) ∧ Ari (aI s 18 i) (aI s 26 i) (aI s 27 i) ks.length ∧ (aI s 18 i = 7 → ARo h s l P O PR i q) ∧ (aI s 18 i = 26 → AWh h s P O i q (ks.map (·.1))) ∧ (∀ f, f ∉ afI → gI h f q = 0) ∧ (∀ f, f ∉ afR → gR h f q = 0)
/-- the model's parts of a node, one by one -/
def Chn (s : MS) : Int → List Int → Prop
  | c, [] => c = -1
  | c, i :: is => c = i ∧ Chn s (aI s 22 i) is
def FT (N : List (Int × Nat) → Int → Nat → Prop) : List (Int × Nat) → List (Int × Nat) → Prop
  | [], T => T = []
  | k :: ks, T => ∃ T1 T2, T = T1 ++ T2 ∧ N T1 k.1 k.2 ∧ FT N ks T2
/-- a tree: T its nodes, each ahead of its parts -/
def NT (h : PH) (s : MS) (l : List TokE) (P : List (Nat × Int)) (O : Nat → Prop) (PR : Int) : Nat → List (Int × Nat) → Int → Nat → Prop
  | 0 => fun _ _ _ => False
  | n + 1 => fun T i q => ∃ ks T1, T = (i, q) :: T1 ∧ NAt h s l P O PR i q ks ∧ AL h (gR h 748831790 q) (ks.map (·.2)) ∧ Chn s (aI s 20 i) (ks.map (·.1)) ∧ FT (NT h s l P O PR n) ks T1
theorem FT.mono {N N' : List (Int × Nat) → Int → Nat → Prop} : ∀ {ks T : List (Int × Nat)}, FT N ks T → (∀ (T1 : List (Int × Nat)) (k : Int × Nat), (∀ e ∈ T1, e ∈ T) → N T1 k.1 k.2 → N' T1 k.1 k.2) → FT N' ks T
  | [], _, a, _ => a
  | k :: ks, T, a, H => by
    obtain ⟨T1, T2, e, n1, f⟩ := a
    exact ⟨T1, T2, e, H T1 k (fun x z => by rw [e]; exact List.mem_append_left _ z) n1, f.mono (fun T3 k3 z => H T3 k3 (fun x y => by rw [e]; exact List.mem_append_right _ (z x y)))⟩
theorem NT.up : ∀ {n m : Nat} {T : List (Int × Nat)} {i : Int} {q : Nat}, NT h s l P O PR n T i q → n ≤ m → NT h s l P O PR m T i q
  | 0, _, _, _, _, a, _ => a.elim
  | n + 1, 0, _, _, _, _, z => absurd z (Nat.not_succ_le_zero _)
  | n + 1, m + 1, T, i, q, a, z => by
    obtain ⟨ks, T1, a1, a2, a3, a4, a5⟩ := a
    exact ⟨ks, T1, a1, a2, a3, a4, a5.mono (fun T3 k3 _ y => NT.up y (Nat.le_of_succ_le_succ z))⟩
theorem FT.mem {n : Nat} : ∀ {ks T : List (Int × Nat)}, FT (NT h s l P O PR n) ks T → ∀ k ∈ ks, k ∈ T
  | [], _, _, _, z => by cases z
  | k :: ks, T, a, k', z => by
    obtain ⟨T1, T2, e, n1, f⟩ := a
    rw [e]
    rcases List.mem_cons.mp z with y | y
    · subst y
      cases n with
      | zero => exact n1.elim
      | succ n =>
        obtain ⟨_, T3, e1, _⟩ := n1
        exact List.mem_append_left _ (by rw [e1]; exact List.mem_cons_self ..)
    · exact List.mem_append_right _ (f.mem k' y)
theorem Chn.fr : ∀ {is : List Int} {c : Int}, Chn s c is → (∀ i ∈ is, aI s1 22 i = aI s 22 i) → Chn s1 c is
  | [], _, a, _ => a
  | i :: is, c, a, H => ⟨a.1, by rw [H i (List.mem_cons_self ..)]; exact a.2.fr (fun j z => H j (List.mem_cons_of_mem _ z))⟩
/-- what must hold of a step that leaves trees as they are -/
def Kp (W O : Nat → Prop) (u : Nat) (L : Nat → Int) (h h1 : PH) (s s1 : MS) : Prop := ConH h ∧ Ev W u h h1 ∧ (∀ q, O q → ¬ W q) ∧ ¬ W 0 ∧ (∀ q, O q → q < hn h) ∧ (fI s 1915442860 ≤ L 2 ∧ fI s 1915442860 ≤ L 12 ∧ fI s 2024494764 ≤ L 5) ∧ (fI s 1915442860 ≤ fI s1 1915442860 ∧ fI s 2024494764 ≤ fI s1 2024494764)
theorem ARo.st {i : Int} {q : Nat} (R : ARo h s l P O PR i q) (K : Kp W O u L h h1 s s1) (a : FrN L v w s s1) (S : SmR h h1 q) (i0 : 0 ≤ i ∧ i < fI s 1915442860) (iw : i ≠ w) (PR0 : 0 ≤ PR) (hP : ∀ e ∈ P, e ∈ P1) (hOO : ∀ q, O q → O1 q) : ARo h1 s1 l P1 O1 PR i q := by
  obtain ⟨C, E, hW, h0, hO, ⟨k1, k2, k3⟩, k4, k5⟩ := K
  obtain ⟨⟨r1, r2, r3, r4⟩, ⟨b1, b2, b3⟩, n1, ms, ts, ps, ⟨a1, a2, a3⟩, c1, H⟩ := R
  have g := S.2.2.2.2.1
  have r : ∀ A, clA A = 2 → aI s1 A i = aI s A i := fun A hA => (a.r2 hA i0.1 (by omega) iw).1
  have e1 := r 26 (by decide)
  have e2 := r 27 (by decide)
  have rp : ∀ A, clA A = 5 → ∀ j : Nat, j < ms.length → aI s1 A (aI s 26 i + j) = aI s A (aI s 26 i + j) ∧ aJ s1 A (aI s 26 i + j) = aJ s A (aI s 26 i + j) := fun A hA j hj => a.rk hA (by omega) (by omega) (by decide) (by decide)
  unfold ARo
  rw [g, g, g, g, e1, e2]
  refine ⟨⟨hOO _ r1, hOO _ r2, hOO _ r3, hOO _ r4⟩, ⟨b1, b2, by omega⟩, E.al C (hW _ r4) h0 n1, ms, ts, ps, ⟨E.al C (hW _ r1) h0 a1, E.al C (hW _ r2) h0 a2, E.al C (hW _ r3) h0 a3⟩, c1, fun j hj => ?_⟩
  obtain ⟨d1, d2, d3, d4, k, d5, d5', d6, d7⟩ := H j hj
  rw [(rp 30 (by decide) j hj).1, (rp 31 (by decide) j hj).2]
  exact ⟨hP _ d1, hOO _ d2, d3.ev C E (hW _ d2), hOO _ d4, k, d5, d5', d6, d7.ev C E (hW _ d4)⟩
theorem AWh.st {i : Int} {q : Nat} {ks : List Int} (R : AWh h s P O i q ks) (K : Kp W O u L h h1 s s1) (a : FrN L v w s s1) (S : SmR h h1 q) (i0 : 0 ≤ i ∧ i < fI s 1915442860) (iw : i ≠ w) (hk : ∀ k ∈ ks, 0 ≤ k ∧ k < fI s 1915442860 ∧ k ≠ v) (hP : ∀ e ∈ P, e ∈ P1) (hOO : ∀ q, O q → O1 q) : AWh h1 s1 P1 O1 i q ks := by
  obtain ⟨C, E, hW, h0, hO, ⟨k1, k2, k3⟩, k4, k5⟩ := K
  obtain ⟨⟨r1, r2, r3, r4, r5⟩, ⟨n1, n2, n3⟩, ms, ts, ⟨a1, a2⟩, ⟨c1, c2, c3⟩, H⟩ := R
  have g := S.2.2.2.2.1
  have e2 : aI s1 27 i = aI s 27 i := (a.r2 (by decide) i0.1 (by omega) iw).1
  have rp : ∀ A, clA A = 12 → ∀ j : Nat, j < ms.length → aI s1 A (ks.getD (j + 1) 0) = aI s A (ks.getD (j + 1) 0) ∧ aJ s1 A (ks.getD (j + 1) 0) = aJ s A (ks.getD (j + 1) 0) := fun A hA j hj => by
    have hj2 : j + 1 < ks.length := by omega
    have := hk (ks.getD (j + 1) 0) (by rw [List.getD_eq_getElem?_getD, List.getElem?_eq_getElem hj2]; exact List.getElem_mem _)
    exact a.r12 hA this.1 (by omega) this.2.2
  unfold AWh
  rw [g, g, g, g, g, e2]
  refine ⟨⟨hOO _ r1, hOO _ r2, hOO _ r3, hOO _ r4, hOO _ r5⟩, ⟨E.al C (hW _ r3) h0 n1, E.al C (hW _ r4) h0 n2, E.al C (hW _ r5) h0 n3⟩, ms, ts, ⟨E.al C (hW _ r1) h0 a1, E.al C (hW _ r2) h0 a2⟩, ⟨c1, c2, c3⟩, fun j hj => ?_⟩
  obtain ⟨d1, d2, d3⟩ := H j hj
  rw [(rp 28 (by decide) j hj).1, (rp 29 (by decide) j hj).2]
  exact ⟨hP _ d1, hOO _ d2, d3.ev C E (hW _ d2)⟩
theorem NAt.st {i : Int} {q : Nat} {ks : List (Int × Nat)} (A : NAt h s l P O PR i q ks) (K : Kp W O u L h h1 s s1) (a : FrN L v w s s1) (iw : i ≠ w) (hk : ∀ k ∈ ks, 0 ≤ k.1 ∧ k.1 < fI s 1915442860 ∧ k.1 ≠ v) (PR0 : 0 ≤ PR) (hP : ∀ e ∈ P, e ∈ P1) (hOO : ∀ q, O q → O1 q) : NAt h1 s1 l P1 O1 PR i q ks ∧ SmR h h1 q ∧ aI s1 20 i = aI s 20 i := by
  obtain ⟨⟨a1, a2, a3⟩, a4, a5, ⟨k, c1, c2, c3, c4⟩, a7, a8, a9, a10, a11⟩ := A
  have S : SmR h h1 q := K.2.1.ob (K.2.2.2.2.1 q a2) (K.2.2.1 q a2) (fun z => by rw [z] at a1; exact absurd a1 (by decide))
  have r : ∀ A, clA A = 2 → aI s1 A i = aI s A i ∧ aJ s1 A i = aJ s A i := fun A hA => a.r2 hA a4.1 (by have := K.2.2.2.2.2.1; omega) iw
  have r1 := (r 18 (by decide)).1
  have r2 := (r 19 (by decide)).1
  have r3 := (r 23 (by decide)).1
  have r4 := (r 26 (by decide)).1
  have r5 := (r 27 (by decide)).1
  have r6 := (r 24 (by decide)).1
  have r7 := (r 25 (by decide)).2
  have r8 := (r 20 (by decide)).1
  refine ⟨?_, S, r8⟩
  have R7 := fun z => (a8 z).st K a S a4 iw PR0 hP hOO
  have R9 := fun z => (a9 z).st K a S a4 iw (fun k z => by obtain ⟨e, z1, z2⟩ := List.mem_map.mp z; rw [← z2]; exact hk e z1) hP hOO
  unfold NAt
  rw [S.1, S.2.2.1, S.2.2.2.2.1, r1, r2, r4, r5]
  refine ⟨⟨a1, hOO _ a2, hOO _ a3⟩, ⟨a4.1, by have := K.2.2.2.2.2.2; omega⟩, a5, ⟨k, c1, c2, c3, ?_⟩, a7, R7, R9, fun f z => (S.2.2.1 f).trans (a10 f z), fun f z => (S.2.2.2.2.1 f).trans (a11 f z)⟩
  have c5 := c4.mono hP
  unfold APu at c5 ⊢
  simp only [S.1, S.2.2.1, S.2.2.2.1, S.2.2.2.2.1, r1, r3, r4, r5, r6, r7]
  exact c5
theorem NT.in {n : Nat} {T : List (Int × Nat)} {i : Int} {q : Nat} (a : NT h s l P O PR n T i q) : (inT 11 34 (hc h q) ∧ O q ∧ O (gR h 748831790 q)) ∧ (0 ≤ i ∧ i < fI s 1915442860) := by
  cases n with
  | zero => exact a.elim
  | succ n =>
    obtain ⟨_, _, _, b, _⟩ := a
    exact ⟨b.1, b.2.1⟩
theorem FT.kid {N : List (Int × Nat) → Int → Nat → Prop} : ∀ {ks T : List (Int × Nat)}, FT N ks T → ∀ k ∈ ks, ∃ T1, N T1 k.1 k.2
  | [], _, _, _, z => by cases z
  | k :: ks, T, a, k', z => by
    obtain ⟨T1, T2, e, n1, f⟩ := a
    rcases List.mem_cons.mp z with y | y
    · subst y; exact ⟨T1, n1⟩
    · exact f.kid k' y
theorem NT.st (K : Kp W O u L h h1 s s1) (a : FrN L v w s s1) (PR0 : 0 ≤ PR) (hP : ∀ e ∈ P, e ∈ P1) (hOO : ∀ q, O q → O1 q) : ∀ {n : Nat} {T : List (Int × Nat)} {i : Int} {q : Nat}, NT h s l P O PR n T i q → (∀ e ∈ T.tail, e.1 ≠ v) → (∀ e ∈ T, e.1 ≠ w) → NT h1 s1 l P1 O1 PR n T i q
  | 0, _, _, _, N, _, _ => N.elim
  | n + 1, T, i, q, N, hv, hw => by
    obtain ⟨ks, T1, e, A, al, ch, ft⟩ := N
    rw [e] at hv hw
    have iw : i ≠ w := hw (i, q) (List.mem_cons_self ..)
    have hv : ∀ e ∈ T1, e.1 ≠ v := hv
    have hk : ∀ k ∈ ks, 0 ≤ k.1 ∧ k.1 < fI s 1915442860 ∧ k.1 ≠ v := fun k z => by
      obtain ⟨T3, y⟩ := ft.kid k z
      have := y.in.2
      exact ⟨this.1, this.2, hv k (ft.mem k z)⟩
    obtain ⟨A1, S, f⟩ := A.st K a iw hk PR0 hP hOO
    refine ⟨ks, T1, e, A1, ?_, ?_, ft.mono (fun T3 k z y => NT.st K a PR0 hP hOO y (fun e w => hv e (z e (List.mem_of_mem_tail w))) (fun e w => hw e (List.mem_cons_of_mem _ (z e w))))⟩
    · rw [S.2.2.2.2.1]
      exact K.2.1.al K.1 (K.2.2.1 _ A.1.2.2) K.2.2.2.1 al
    · rw [f]
      refine ch.fr (fun j z => ?_)
      obtain ⟨e', z1, z2⟩ := List.mem_map.mp z
      have := hk e' z1
      rw [z2] at this
      exact (a.r12 (by decide) this.1 (by have := K.2.2.2.2.2.1; omega) this.2.2).1
end NTr
