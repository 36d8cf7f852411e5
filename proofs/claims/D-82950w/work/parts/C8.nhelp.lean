/-! READING NODES: helpers -/
set_option maxRecDepth 100000
set_option maxHeartbeats 1000000
theorem dq_10 : dsp 10 21 = some 118296754 := rfl
theorem dq_11 : dsp 11 21 = some 118558898 := rfl
theorem dq_12 : dsp 12 30 = some 118296754 := rfl
theorem dq_13 : dsp 13 14 = some 118296754 := rfl
theorem dq_14 : dsp 14 13 = some 118296754 := rfl
theorem dq_15 : dsp 15 23 = some 118296754 := rfl
theorem dq_16 : dsp 16 18 = some 118296754 := rfl
theorem dq_17 : dsp 17 31 = some 118296754 := rfl
theorem dq_18 : dsp 18 29 = some 118296754 := rfl
theorem dq_19 : dsp 19 20 = some 118296754 := rfl
theorem dq_20 : dsp 20 22 = some 118296754 := rfl
theorem dq_21 : dsp 21 17 = some 118296754 := rfl
theorem dq_22 : dsp 22 19 = some 118296754 := rfl
theorem dq_23 : dsp 23 11 = some 118296754 := rfl
theorem dq_24 : dsp 24 25 = some 118296754 := rfl
theorem dq_25 : dsp 25 15 = some 118296754 := rfl
theorem dq_26 : dsp 26 16 = some 118296754 := rfl
section NH
variable {hG h h0 h1 : PH} {sG s s1 : MS} {p lx t o t1 o1 : Nat} {l : List TokE} {PR g : Int} {P P1 : List (Nat × Int)} {O O1 W W1 X : Nat → Prop} {Z0 ZM Z u u' y y1 : Nat} {L : Nat → Int} {v w : Int} {dl dl1 : List Nat} {R R1 : Int × Nat → Prop}
/-- x moves on: its heap, its token, what it used -/
def XU (W : Nat → Prop) (u : Nat) (h0 h : PH) (p lx : Nat) (l : List TokE) (t o : Nat) : Prop := Ev W u h0 h ∧ PXs h p lx l t o ∧ XFd h p
theorem XU.rf (X : PXs h p lx l t o) (F1 : XFd h p) : XU W 0 h h p lx l t o := ⟨Ev.rf X.i, X, F1⟩
theorem XU.st (a : XU W u h0 h p lx l t o) (wp : W p) (ht : t1 < xc l) : XU W u h0 (pI h 1285834896 p ((t1 : Nat) : Int)) p lx l t1 o := ⟨a.1.cI (Or.inl wp) (by rw [a.2.1.1]; rfl), a.2.1.setT ht, a.2.2⟩
theorem XU.so (a : XU W u h0 h p lx l t o) (wp : W p) (ht : o1 ≤ 24) : XU W u h0 (pI h 1294223504 p ((o1 : Nat) : Int)) p lx l t o1 := ⟨a.1.cI (Or.inl wp) (by rw [a.2.1.1]; rfl), a.2.1.setO ht, a.2.2⟩
theorem XU.tr (a : XU W u h0 h p lx l t o) (E : Ev W1 u' h h1) (hw : ∀ q, W1 q → p < q ∧ (W q ∨ hn h0 ≤ q)) : XU W (u + u') h0 h1 p lx l t o := ⟨a.1.tr E (fun q hq z => (hw q z).2.elim id (fun y => absurd hq (Nat.not_lt.mpr y))), a.2.1.ev E (fun q z => (hw q z).1), a.2.2.ev a.2.1 E (fun z => absurd (hw p z).1 (Nat.lt_irrefl _))⟩
theorem XU.mO {tg n : Nat} (a : XU W u h0 h p lx l t o) (hn0 : n ≤ 64) (ht : tg ≤ 55) : XU W (u + 1) h0 (nO h tg n) p lx l t o := a.tr ((Ev.rf (W := W0) a.2.1.i).mO (t := tg) (n := n) hn0 ht) (fun _ z => z.elim)
theorem XU.i (a : XU W u h0 h p lx l t o) : HI h := a.2.1.i
/-- the model's node: what it has -/
def AtM (s : MS) (n k tk a b c md tg : Int) : Prop := aI s 18 n = k ∧ aI s 19 n = tk ∧ aI s 23 n = a ∧ aI s 26 n = b ∧ aI s 27 n = c ∧ aI s 24 n = md ∧ aJ s 25 n = tg ∧ aI s 22 n = -1
theorem AtM.go {n k tk a b c md tg : Int} (A : AtM s n k tk a b c md tg) (N : NPo v w g s s1) (h0 : 0 ≤ n) (h2 : n < fI s 1915442860) (hv : n ≠ v) (hw : n ≠ w) : AtM s1 n k tk a b c md tg := by
  obtain ⟨a1, a2, a3, a4, a5, a6, a7, a8⟩ := A
  exact ⟨(N.nd (by decide) h0 h2 hw).1.trans a1, (N.nd (by decide) h0 h2 hw).1.trans a2, (N.nd (by decide) h0 h2 hw).1.trans a3, (N.nd (by decide) h0 h2 hw).1.trans a4, (N.nd (by decide) h0 h2 hw).1.trans a5, (N.nd (by decide) h0 h2 hw).1.trans a6, (N.nd (by decide) h0 h2 hw).2.trans a7, (N.nx (by decide) h0 h2 hv).1.trans a8⟩
theorem un_new {k tk : Int} (h0 : 0 ≤ fI s 1915442860) : UN (nodeS s k tk) (fI s 1915442860) [] := by
  refine ⟨⟨h0, ?_⟩, ?_, fun c z => (by cases z), fun k z => absurd z List.not_mem_nil, List.nodup_nil, fun _ => ?_⟩
  · rw [fI_nodeS, if_pos rfl]; omega
  · show aI (nodeS s k tk) 20 (fI s 1915442860) = -1
    simp (config := {implicitDefEqProofs := false}) only [bnd_v, bnd_x, pu_s, pu_n, b01_T, b01_F, Int.reduceEq, Int.reduceLT, Int.reduceLE, Int.reduceNe, Nat.reduceEqDiff, Nat.reduceLeDiff, and_false, false_and, and_true, true_and, or_false, false_or, or_true, true_or, if_true, if_false, not_true_eq_false, not_false_eq_true, eq_self, ne_eq, reduceCtorEq, false_implies, true_implies, implies_true, fI_uI, fI_uJ, fI_vI, fI_vJ, fJ_uI, fJ_uJ, fJ_vI, fJ_vJ, aI_uI, aI_uJ, aI_vI, aI_vJ, aJ_uI, aJ_uJ, aJ_vI, aJ_vJ, aI_nodeS]
  · simp (config := {implicitDefEqProofs := false}) only [bnd_v, bnd_x, pu_s, pu_n, b01_T, b01_F, Int.reduceEq, Int.reduceLT, Int.reduceLE, Int.reduceNe, Nat.reduceEqDiff, Nat.reduceLeDiff, and_false, false_and, and_true, true_and, or_false, false_or, or_true, true_or, if_true, if_false, not_true_eq_false, not_false_eq_true, eq_self, ne_eq, reduceCtorEq, false_implies, true_implies, implies_true, fI_uI, fI_uJ, fI_vI, fI_vJ, fJ_uI, fJ_uJ, fJ_vI, fJ_vJ, aI_uI, aI_uJ, aI_vI, aI_vJ, aJ_uI, aJ_uJ, aJ_vI, aJ_vJ, aI_nodeS]
theorem UN.cong {n : Int} {ks : List Int} (U : UN s n ks) (e1 : aI s1 20 n = aI s 20 n) (e2 : aI s1 21 n = aI s 21 n) (e3 : ∀ j, aI s1 22 j = aI s 22 j) (e4 : fI s1 1915442860 = fI s 1915442860) : UN s1 n ks := by
  obtain ⟨u1, u2, u3, u4, u5⟩ := U
  exact ⟨by rw [e4]; exact u1, by rw [e1]; exact u2.fr (fun j _ => e3 j), fun c z => by rw [e2]; exact u3 c z, fun k z => by rw [e4]; exact u4 k z, u5.1, fun z => by rw [e2]; exact u5.2 z⟩
theorem UN.ok {n : Int} {ks : List Int} (U : UN s n ks) (h7 : fI s 1915442860 ≤ 700) : (0 ≤ n ∧ n < 700) ∧ (aI s 20 n = -1 ∨ (0 ≤ aI s 21 n ∧ aI s 21 n < 700)) := by
  obtain ⟨u1, u2, u3, u4, u5⟩ := U
  refine ⟨⟨u1.1, by omega⟩, ?_⟩
  cases ks with
  | nil => exact Or.inl u2
  | cons k ks =>
    obtain ⟨e, he⟩ : ∃ e, (k :: ks).getLast? = some e := ⟨_, List.getLast?_eq_some_getLast (List.cons_ne_nil _ _)⟩
    rw [u3 e he]
    have := u4 e (List.mem_of_getLast? he)
    exact Or.inr ⟨this.1, by omega⟩
theorem KD.kf {i : Int} {q : Nat} (D : KD h s l P O PR R i q) : KF h s l P O PR R [(i, q)] := by
  obtain ⟨k1, k2, k3, k4, k5⟩ := D
  refine ⟨fun k z => ?_, fun z => ?_⟩
  · have e : k = (i, q) := List.mem_singleton.mp z
    subst e
    exact ⟨⟨k1.1, k1.2.1⟩, k2, k3⟩
  · obtain ⟨n, T, b, c, d⟩ := k5 z
    exact ⟨n, T, ⟨T, [], (List.append_nil _).symm, b, rfl⟩, c, d⟩
theorem FT.monoV {n : Nat} {N' : List (Int × Nat) → Int → Nat → Prop} : ∀ {ks T : List (Int × Nat)}, FT (NT h s l P O PR n) ks T → (T.map (·.1)).Nodup → ((∀ e ∈ T, e.1 ≠ v) ∨ v ∈ ks.map (·.1)) → (∀ (T1 : List (Int × Nat)) (k : Int × Nat), (∀ e ∈ T1, e ∈ T) → (∀ e ∈ T1.tail, e.1 ≠ v) → NT h s l P O PR n T1 k.1 k.2 → N' T1 k.1 k.2) → FT N' ks T
  | [], _, a, _, _, _ => a
  | k :: ks, T, a, nd, hv, H => by
    obtain ⟨T1, T2, e, n1, f⟩ := a
    have fm := f.mem
    rw [e, List.map_append, List.nodup_append] at nd
    obtain ⟨nd1, nd2, nd3⟩ := nd
    have hd : ∃ T3, T1 = (k.1, k.2) :: T3 := by
      cases n with
      | zero => exact n1.elim
      | succ n => obtain ⟨_, T3, e1, _⟩ := n1; exact ⟨T3, e1⟩
    obtain ⟨T3, e3⟩ := hd
    have k1 : k.1 ∈ T1.map (·.1) := by rw [e3]; exact List.mem_cons_self ..
    refine ⟨T1, T2, e, H T1 k (fun x z => by rw [e]; exact List.mem_append_left _ z) (fun x z y => ?_) n1, f.monoV nd2 ?_ (fun T4 k4 z => H T4 k4 (fun x y => by rw [e]; exact List.mem_append_right _ (z x y)))⟩
    · have xm : x.1 ∈ T1.map (·.1) := List.mem_map_of_mem (List.mem_of_mem_tail z)
      rcases hv with w | w
      · exact w x (by rw [e]; exact List.mem_append_left _ (List.mem_of_mem_tail z)) y
      · rcases List.mem_cons.mp w with w | w
        · have w : v = k.1 := w
          rw [e3] at z nd1
          have z : x ∈ T3 := z
          have nd1 : (k.1 :: T3.map (·.1)).Nodup := nd1
          exact (List.nodup_cons.mp nd1).1 (by rw [← w, ← y]; exact List.mem_map_of_mem z)
        · obtain ⟨e', w1, w2⟩ := List.mem_map.mp w
          have : v ∈ T2.map (·.1) := by rw [← w2]; exact List.mem_map_of_mem (fm e' w1)
          exact nd3 x.1 xm v this y
    · rcases hv with w | w
      · exact Or.inl (fun x z => w x (by rw [e]; exact List.mem_append_right _ z))
      · rcases List.mem_cons.mp w with w | w
        · have w : v = k.1 := w
          exact Or.inl (fun x z y => nd3 k.1 k1 x.1 (List.mem_map_of_mem z) (by rw [← w, y]))
        · exact Or.inr w
/-- parts stay when one of them gets a next one -/
theorem KF.gov {ks : List (Int × Nat)} (K : KF h s l P (ON p O) PR R ks) (J : JNX X hG sG p lx l PR Z0 ZM h s t o P O dl y) (E : Ev W u h h1) (hW : ∀ q, W q → ¬ O q ∨ Wp p q) (N : NPo v w g s s1) (G : Gw h P O P1 O1) (hw : ∀ b, ¬ R (w, b)) (hv : (∀ b, ¬ R (v, b)) ∨ v ∈ ks.map (·.1)) : KF h1 s1 l P1 (ON p O1) PR R ks := by
  have Kk := kp_of J E hW N
  refine ⟨fun k z => ?_, fun z => ?_⟩
  · obtain ⟨k1, k2, k3⟩ := K.1 k z
    have S := Kk.sm k1.2 k1.1
    exact ⟨by rw [S.1]; exact ⟨k1.1, ON.up G _ k1.2⟩, ⟨k2.1, by have := N.2.2.2; omega⟩, k3⟩
  · obtain ⟨n, T, b, c, d⟩ := K.2 z
    exact ⟨n, T, b.monoV c.1 (hv.imp (fun w e he y => w e.2 (by rw [← y]; exact d e he)) id) (fun T1 k x w y => y.st Kk N.1 J.m.2.2.2.2.1.1 G.2.2 (ON.up G) w (fun e z y => hw e.2 (by rw [← y]; exact d e (x e z)))), c, d⟩
/-- more is owned -/
theorem JD.own (J : JD h s p lx l t o PR P X O Z0 Z) (hOO : ∀ x, O x → O1 x) (hO1 : ∀ x, O1 x → x < hn h) : JD h s p lx l t o PR P X O1 Z0 Z := by
  obtain ⟨j1, j2, ⟨j3, j3'⟩, j4, j5, j6, j7, j8⟩ := J
  have C := j1.c
  have E : Ev W0 0 h h := Ev.rf j1.i
  have hO : ∀ q, OM p O q → q < hn h := fun q z => j3' q z.1
  have hOM : ∀ x, OM p O x → OM p O1 x := fun x z => ⟨hOO x z.1, z.2⟩
  have Rf : Fr (fun _ => 1000000) (-1) s s := Fr.rf
  have mm := j4.2.2.2.2
  have tl := j4.1.a
  have tl2 := j4.1.1.2.1
  exact ⟨j1, j2, ⟨fun x z => hOO x (j3 x z), hO1⟩, j4, j5.st j4 C E (fun _ z => z.elim) (fun z => z) hO Rf (by show _ ≤ (1000000 : Int); omega) (by show _ ≤ (1000000 : Int); omega) (Int.le_refl _) (Int.le_refl _) (fun _ z => z) hOM (fun q' i' z => Or.inl z), j6, j7.st C E (fun _ z => z.elim) (fun z => z) (fun z => z) hO Rf (by show _ ≤ (1000000 : Int); omega) (Nat.le_refl _) tl (Nat.le_refl _) (fun _ z => z) hOM, j8⟩
theorem JNX.own (J : JNX X hG sG p lx l PR Z0 ZM h s t o P O dl y) (hOO : ∀ x, O x → O1 x) (hO1 : ∀ x, O1 x → x < hn h) : JNX X hG sG p lx l PR Z0 ZM h s t o P O1 dl y := by
  have C := J.x.c
  have I := J.i
  obtain ⟨⟨Z, z, z1⟩, z2, z3, z5, z6⟩ := J
  exact ⟨⟨Z, z.own hOO hO1, z1⟩, z2, z3, z5.st C (Ev.rf (W := W0) I) (fun _ w => w.elim) (fun _ _ _ w => w) (fun w => w) (Fr.rf (L := fun _ => 1000000) (v := -1)) (by have a := z5.2.2.2.2.1.1; have b := z5.2.2.2.1; have c := (dl.length_filter_le (isMdT l)); have d := z.m.1.1.2.1; have e := z.m.1.a; show _ ≤ (1000000 : Int); omega) rfl (fun k a b => by omega) (Nat.le_refl _) (fun _ w => w) hOO, z6⟩
/-- the made node, as a whole -/
theorem nat_of {n : Int} {q r : Nat} {k tk a b c md tg Pl : Int} {tg' : Nat} {fi fj : Nat → Int} {fr : Nat → Nat} {ks : List (Int × Nat)} {kt : Nat} (A : AtM s n k tk a b c md tg) (N : NF h q tg' r Pl fi fj fr) (h0 : 0 ≤ n ∧ n < fI s 1915442860) (k28 : 1 ≤ k ∧ k ≤ 28) (t34 : inT 11 34 tg') (oq : O q) (or : O r) (kx : kt < xc l) (ktk : tk = kt) (pk : Pl = pl l kt) (ap : APu h s l P n q kt) (ar : Ari k b c ks.length) (ro : k = 7 → ARo h s l P O PR n q) (wh : k = 26 → AWh h s P O n q (ks.map (·.1))) (zi : ∀ f, f ∉ afI → fi f = 0) (zr : ∀ f, f ∉ afR → fr f = 0) : NAt h s l P O PR n q ks := by
  obtain ⟨a1, a2, a3, a4, a5, a6, a7, a8⟩ := A
  obtain ⟨n1, n2, n3, n4, n5, n6⟩ := N
  unfold NAt
  rw [a1, a4, a5, a2, n1, n2, n3]
  refine ⟨⟨t34, oq, or⟩, h0, k28, ⟨kt, kx, ktk, pk, ap⟩, ar, ro, wh, fun f z => ?_, fun f z => ?_⟩
  · rw [n4 f (fun w => z (by rw [w]; decide))]; exact zi f z
  · rw [n6 f (fun w => z (by rw [w]; decide))]; exact zr f z
end NH
