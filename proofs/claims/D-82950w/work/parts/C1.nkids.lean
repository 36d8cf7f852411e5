/-! NODES UNDER WAY: their parts on both sides -/
set_option maxRecDepth 100000
set_option maxHeartbeats 1000000
section NK
variable {h h1 : PH} {s s1 : MS} {l : List TokE} {PR : Int} {P P1 : List (Nat × Int)} {O O1 W : Nat → Prop} {u : Nat} {L : Nat → Int} {v w : Int} {R R1 R2 : Int × Nat → Prop}
def Rg (lo hi : Int) (a b : Nat) : Int × Nat → Prop := fun e => lo ≤ e.1 ∧ e.1 < hi ∧ a ≤ e.2 ∧ e.2 < b
def NDs (T : List (Int × Nat)) : Prop := (T.map (·.1)).Nodup ∧ (T.map (·.2)).Nodup
/-- a node that was read, its tree within R -/
def KD (h : PH) (s : MS) (l : List TokE) (P : List (Nat × Int)) (O : Nat → Prop) (PR : Int) (R : Int × Nat → Prop) (i : Int) (q : Nat) : Prop := (inT 11 34 (hc h q) ∧ O q ∧ O (gR h 748831790 q)) ∧ (0 ≤ i ∧ i < fI s 1915442860) ∧ R (i, q) ∧ aI s 22 i = -1 ∧ (PG l → ∃ n T, NT h s l P O PR n T i q ∧ NDs T ∧ ∀ e ∈ T, R e)
def KF (h : PH) (s : MS) (l : List TokE) (P : List (Nat × Int)) (O : Nat → Prop) (PR : Int) (R : Int × Nat → Prop) (ks : List (Int × Nat)) : Prop := (∀ k ∈ ks, (inT 11 34 (hc h k.2) ∧ O k.2) ∧ (0 ≤ k.1 ∧ k.1 < fI s 1915442860) ∧ R k) ∧ (PG l → ∃ n T, FT (NT h s l P O PR n) ks T ∧ NDs T ∧ ∀ e ∈ T, R e)
/-- the model's node that gets parts -/
def UN (s : MS) (n : Int) (ks : List Int) : Prop := (0 ≤ n ∧ n < fI s 1915442860) ∧ Chn s (aI s 20 n) ks ∧ (∀ c, ks.getLast? = some c → aI s 21 n = c) ∧ (∀ k ∈ ks, 0 ≤ k ∧ k < fI s 1915442860) ∧ ks.Nodup ∧ (ks = [] → aI s 21 n = -1)
theorem KD.up {i : Int} {q : Nat} (K : KD h s l P O PR R i q) (H : ∀ e, R e → R1 e) : KD h s l P O PR R1 i q := by
  obtain ⟨k1, k2, k3, k4, k5⟩ := K
  refine ⟨k1, k2, H _ k3, k4, fun z => ?_⟩
  obtain ⟨n, T, a, b, c⟩ := k5 z
  exact ⟨n, T, a, b, fun e w => H e (c e w)⟩
theorem KF.up {ks : List (Int × Nat)} (K : KF h s l P O PR R ks) (H : ∀ e, R e → R1 e) : KF h s l P O PR R1 ks := by
  refine ⟨fun k z => ⟨(K.1 k z).1, (K.1 k z).2.1, H _ (K.1 k z).2.2⟩, fun z => ?_⟩
  obtain ⟨n, T, a, b, c⟩ := K.2 z
  exact ⟨n, T, a, b, fun e w => H e (c e w)⟩
theorem KF.nil : KF h s l P O PR R [] := ⟨fun k z => absurd z List.not_mem_nil, fun _ => ⟨0, [], rfl, ⟨List.nodup_nil, List.nodup_nil⟩, fun e z => absurd z List.not_mem_nil⟩⟩
theorem Kp.sm (K : Kp W O u L h h1 s s1) {q : Nat} (hq : O q) (ht : inT 11 34 (hc h q)) : SmR h h1 q := K.2.1.ob (K.2.2.2.2.1 q hq) (K.2.2.1 q hq) (fun z => by rw [z] at ht; exact absurd ht (by decide))
theorem KD.st {i : Int} {q : Nat} (D : KD h s l P O PR R i q) (K : Kp W O u L h h1 s s1) (a : FrN L v w s s1) (PR0 : 0 ≤ PR) (hP : ∀ e ∈ P, e ∈ P1) (hOO : ∀ q, O q → O1 q) (hv : ∀ b, ¬ R (v, b)) (hw : ∀ b, ¬ R (w, b)) : KD h1 s1 l P1 O1 PR R i q := by
  obtain ⟨k1, k2, k3, k4, k5⟩ := D
  have S := K.sm k1.2.1 k1.1
  have nv : i ≠ v := fun z => hv q (by rw [← z]; exact k3)
  refine ⟨by rw [S.1, S.2.2.2.2.1]; exact ⟨k1.1, hOO _ k1.2.1, hOO _ k1.2.2⟩, ⟨k2.1, by have := K.2.2.2.2.2.2; omega⟩, k3, ?_, fun z => ?_⟩
  · rw [← k4]
    exact (a.r12 (by decide) k2.1 (by have := K.2.2.2.2.2.1; omega) nv).1
  · obtain ⟨n, T, b, c, d⟩ := k5 z
    exact ⟨n, T, b.st K a PR0 hP hOO (fun e w y => hv e.2 (by rw [← y]; exact d e (List.mem_of_mem_tail w))) (fun e w y => hw e.2 (by rw [← y]; exact d e w)), c, d⟩
/-- what is said of it when it becomes a part -/
theorem KD.stv {i : Int} {q : Nat} (D : KD h s l P O PR R i q) (K : Kp W O u L h h1 s s1) (a : FrN L i w s s1) (PR0 : 0 ≤ PR) (hP : ∀ e ∈ P, e ∈ P1) (hOO : ∀ q, O q → O1 q) (hw : ∀ b, ¬ R (w, b)) : KF h1 s1 l P1 O1 PR R [(i, q)] := by
  obtain ⟨k1, k2, k3, k4, k5⟩ := D
  have S := K.sm k1.2.1 k1.1
  refine ⟨fun k z => ?_, fun z => ?_⟩
  · have e : k = (i, q) := List.mem_singleton.mp z
    subst e
    exact ⟨by rw [S.1]; exact ⟨k1.1, hOO _ k1.2.1⟩, ⟨k2.1, by have := K.2.2.2.2.2.2; show i < _; omega⟩, k3⟩
  · obtain ⟨n, T, b, c, d⟩ := k5 z
    refine ⟨n, T, ⟨T, [], (List.append_nil _).symm, b.st K a PR0 hP hOO (fun e w y => ?_) (fun e w y => hw e.2 (by rw [← y]; exact d e w)), rfl⟩, c, d⟩
    cases n with
    | zero => exact b.elim
    | succ n =>
      obtain ⟨ks, T1, e1, _⟩ := b
      rw [e1] at w c
      have w : e ∈ T1 := w
      have c1 : (i :: T1.map (·.1)).Nodup := c.1
      exact (List.nodup_cons.mp c1).1 (by rw [← y]; exact List.mem_map_of_mem w)
theorem KF.st {ks : List (Int × Nat)} (D : KF h s l P O PR R ks) (K : Kp W O u L h h1 s s1) (a : FrN L v w s s1) (PR0 : 0 ≤ PR) (hP : ∀ e ∈ P, e ∈ P1) (hOO : ∀ q, O q → O1 q) (hv : ∀ b, ¬ R (v, b)) (hw : ∀ b, ¬ R (w, b)) : KF h1 s1 l P1 O1 PR R ks := by
  refine ⟨fun k z => ?_, fun z => ?_⟩
  · obtain ⟨k1, k2, k3⟩ := D.1 k z
    have S := K.sm k1.2 k1.1
    exact ⟨by rw [S.1]; exact ⟨k1.1, hOO _ k1.2⟩, ⟨k2.1, by have := K.2.2.2.2.2.2; omega⟩, k3⟩
  · obtain ⟨n, T, b, c, d⟩ := D.2 z
    exact ⟨n, T, b.mono (fun T1 k w y => y.st K a PR0 hP hOO (fun e x y => hv e.2 (by rw [← y]; exact d e (w e (List.mem_of_mem_tail x)))) (fun e x y => hw e.2 (by rw [← y]; exact d e (w e x)))), c, d⟩
theorem FT.app {N : List (Int × Nat) → Int → Nat → Prop} : ∀ {ks T : List (Int × Nat)} {k : Int × Nat} {T1 : List (Int × Nat)}, FT N ks T → N T1 k.1 k.2 → FT N (ks ++ [k]) (T ++ T1)
  | [], T, k, T1, a, b => by
    have a : T = [] := a
    subst a
    exact ⟨T1, [], (List.append_nil _).symm, b, rfl⟩
  | k' :: ks, T, k, T1, a, b => by
    obtain ⟨Ta, Tb, e, n1, f⟩ := a
    exact ⟨Ta, Tb ++ T1, by rw [e, List.append_assoc], n1, f.app b⟩
theorem nds_app {T T1 : List (Int × Nat)} (a : NDs T) (b : NDs T1) (H : ∀ e ∈ T, ∀ e' ∈ T1, e.1 ≠ e'.1 ∧ e.2 ≠ e'.2) : NDs (T ++ T1) := by
  unfold NDs
  rw [List.map_append, List.map_append, List.nodup_append, List.nodup_append]
  refine ⟨⟨a.1, b.1, fun x hx y hy => ?_⟩, a.2, b.2, fun x hx y hy => ?_⟩
  · obtain ⟨e, e1, e2⟩ := List.mem_map.mp hx
    obtain ⟨e', e1', e2'⟩ := List.mem_map.mp hy
    rw [← e2, ← e2']
    exact (H e e1 e' e1').1
  · obtain ⟨e, e1, e2⟩ := List.mem_map.mp hx
    obtain ⟨e', e1', e2'⟩ := List.mem_map.mp hy
    rw [← e2, ← e2']
    exact (H e e1 e' e1').2
/-- one more part -/
theorem KF.app {ks : List (Int × Nat)} {i : Int} {q : Nat} (a : KF h s l P O PR R ks) (b : KF h s l P O PR R1 [(i, q)]) (H : ∀ e e', R e → R1 e' → e.1 ≠ e'.1 ∧ e.2 ≠ e'.2) : KF h s l P O PR (fun e => R e ∨ R1 e) (ks ++ [(i, q)]) := by
  refine ⟨fun k z => ?_, fun z => ?_⟩
  · rcases List.mem_append.mp z with y | y
    · have := a.1 k y
      exact ⟨this.1, this.2.1, Or.inl this.2.2⟩
    · have := b.1 k y
      exact ⟨this.1, this.2.1, Or.inr this.2.2⟩
  · obtain ⟨n, T, a1, a2, a3⟩ := a.2 z
    obtain ⟨n', T', b1, b2, b3⟩ := b.2 z
    obtain ⟨Ta, Tb, e, n1, f⟩ := b1
    have f : Tb = [] := f
    subst f
    rw [List.append_nil] at e
    subst e
    refine ⟨max n n', T ++ T', (a1.mono (fun T1 k _ y => y.up (Nat.le_max_left _ _))).app (n1.up (Nat.le_max_right _ _)), nds_app a2 b2 (fun e he e' he' => H e e' (a3 e he) (b3 e' he')), fun e he => ?_⟩
    rcases List.mem_append.mp he with y | y
    · exact Or.inl (a3 e y)
    · exact Or.inr (b3 e y)
/-- the whole, when its parts are there -/
theorem KD.mk {ks : List (Int × Nat)} {i : Int} {q : Nat} (a : KF h s l P O PR R ks) (A : NAt h s l P O PR i q ks) (al : AL h (gR h 748831790 q) (ks.map (·.2))) (U : UN s i (ks.map (·.1))) (hx : aI s 22 i = -1) (H : ∀ e, R e → e.1 ≠ i ∧ e.2 ≠ q) : KD h s l P O PR (fun e => R e ∨ e = (i, q)) i q := by
  refine ⟨A.1, A.2.1, Or.inr rfl, hx, fun z => ?_⟩
  obtain ⟨n, T, a1, a2, a3⟩ := a.2 z
  refine ⟨n + 1, (i, q) :: T, ⟨ks, T, rfl, A, al, U.2.1, a1⟩, ⟨?_, ?_⟩, fun e he => ?_⟩
  · show (i :: T.map (·.1)).Nodup
    refine List.nodup_cons.mpr ⟨fun w => ?_, a2.1⟩
    obtain ⟨e, e1, e2⟩ := List.mem_map.mp w
    exact (H e (a3 e e1)).1 e2
  · show (q :: T.map (·.2)).Nodup
    refine List.nodup_cons.mpr ⟨fun w => ?_, a2.2⟩
    obtain ⟨e, e1, e2⟩ := List.mem_map.mp w
    exact (H e (a3 e e1)).2 e2
  · rcases List.mem_cons.mp he with y | y
    · exact Or.inr y
    · exact Or.inl (a3 e y)
theorem UN.fr {n : Int} {ks : List Int} (U : UN s n ks) (a : FrN L v w s s1) (k2 : fI s 1915442860 ≤ L 2) (k12 : fI s 1915442860 ≤ L 12) (hm : fI s 1915442860 ≤ fI s1 1915442860) (hv : v ∉ ks) (nw : n ≠ w) : UN s1 n ks := by
  obtain ⟨u1, u2, u3, u4, u5⟩ := U
  have r : ∀ A, clA A = 2 → aI s1 A n = aI s A n := fun A hA => (a.r2 hA u1.1 (by omega) nw).1
  refine ⟨⟨u1.1, by omega⟩, ?_, fun c z => by rw [r _ (by decide)]; exact u3 c z, fun k z => ⟨(u4 k z).1, by have := (u4 k z).2; omega⟩, u5.1, fun z => by rw [r _ (by decide)]; exact u5.2 z⟩
  rw [r _ (by decide)]
  exact u2.fr (fun j z => (a.r12 (by decide) (u4 j z).1 (by have := (u4 j z).2; omega) (fun y => hv (by rw [← y]; exact z))).1)
theorem Chn.put : ∀ {ks : List Int} {c d e : Int}, Chn s c ks → ks.getLast? = some e → d ∉ ks → ks.Nodup → (∀ j, aI s1 22 j = if j = e then d else aI s 22 j) → aI s 22 d = -1 → d ≠ e → Chn s1 c (ks ++ [d])
  | [], _, _, _, _, z, _, _, _, _, _ => by cases z
  | [k], c, d, e, a, z, hd, _, H, hn, de => by
    have z : k = e := by injection z
    subst z
    refine ⟨a.1, ?_, ?_⟩
    · rw [H, if_pos rfl]
    · show aI s1 22 d = -1
      rw [H, if_neg de, hn]
  | k :: k' :: ks, c, d, e, a, z, hd, nd, H, hn, de => by
    have z' : (k' :: ks).getLast? = some e := by rw [← z]; rfl
    have ke : k ≠ e := fun y => by
      have m : e ∈ k' :: ks := List.mem_of_getLast? z'
      rw [← y] at m
      exact (List.nodup_cons.mp nd).1 m
    refine ⟨a.1, ?_⟩
    rw [H k, if_neg ke]
    exact Chn.put a.2 z' (fun y => hd (List.mem_cons_of_mem _ y)) (List.nodup_cons.mp nd).2 H hn de
theorem UN.add {n d : Int} {ks : List Int} (U : UN s n ks) (hd : d ∉ ks) (hx : aI s 22 d = -1) (d0 : 0 ≤ d ∧ d < fI s 1915442860) : UN (childS s n d) n (ks ++ [d]) := by
  obtain ⟨u1, u2, u3, u4, nd, _⟩ := U
  refine ⟨by rw [fI_childS]; exact u1, ?_, fun c z => ?_, fun k z => ?_, ?_, fun z => absurd z (by simp)⟩
  · cases ks with
    | nil =>
      have f : aI s 20 n = -1 := u2
      refine ⟨?_, ?_⟩
      · rw [aI_childS, if_neg (fun z => absurd z.1 (by decide)), if_pos ⟨rfl, rfl, f⟩]
      · show aI (childS s n d) 22 d = -1
        rw [aI_childS, if_neg (fun z => absurd z.1 (by decide)), if_neg (fun z => absurd z.1 (by decide)), if_neg (fun z => z.2.2 f), hx]
    | cons k ks =>
      have f : aI s 20 n ≠ -1 := by
        rw [u2.1]
        have := (u4 k (List.mem_cons_self ..)).1
        omega
      obtain ⟨e, he⟩ : ∃ e, (k :: ks).getLast? = some e := ⟨_, List.getLast?_eq_some_getLast (List.cons_ne_nil _ _)⟩
      have le := u3 e he
      have em : e ∈ k :: ks := List.mem_of_getLast? he
      rw [aI_childS, if_neg (fun z => absurd z.1 (by decide)), if_neg (fun z => f z.2.2), if_neg (fun z => absurd z.1 (by decide))]
      refine u2.put he hd nd (fun j => ?_) hx (fun y => hd (by rw [y]; exact em))
      rw [aI_childS, if_neg (fun z => absurd z.1 (by decide)), if_neg (fun z => absurd z.1 (by decide)), le]
      by_cases y : j = e
      · rw [if_pos y, if_pos ⟨rfl, y, f⟩]
      · rw [if_neg y, if_neg (fun z => y z.2.1)]
  · rw [List.getLast?_append, List.getLast?_singleton] at z
    have z : d = c := by injection z
    rw [aI_childS, if_pos ⟨rfl, rfl⟩, z]
  · rw [fI_childS]
    rcases List.mem_append.mp z with y | y
    · exact u4 k y
    · rw [List.mem_singleton.mp y]; exact d0
  · rw [List.nodup_append]
    refine ⟨nd, List.nodup_cons.mpr ⟨List.not_mem_nil, List.nodup_nil⟩, fun x hx y hy => ?_⟩
    rw [List.mem_singleton.mp hy]
    exact fun z => hd (by rw [← z]; exact hx)
end NK
