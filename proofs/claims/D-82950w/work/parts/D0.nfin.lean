/-! READING NODES: a part more, the whole -/
set_option maxRecDepth 100000
set_option maxHeartbeats 1000000
section NFi
variable {hG h h1 : PH} {sG s S : MS} {p lx t o t1 o1 : Nat} {l : List TokE} {PR g : Int} {P P1 : List (Nat × Int)} {O W X : Nat → Prop} {Z0 ZM u y y1 : Nat} {v w n : Int} {dl : List Nat} {R R2 : Int × Nat → Prop} {ks : List (Int × Nat)} {i2 : Int} {q0 q2 r : Nat}
theorem FT.all {N : List (Int × Nat) → Int → Nat → Prop} {Q : Int × Nat → Prop} : ∀ {ks T : List (Int × Nat)}, FT N ks T → (∀ (T1 : List (Int × Nat)) (k : Int × Nat), N T1 k.1 k.2 → ∀ e ∈ T1, Q e) → ∀ e ∈ T, Q e
  | [], T, a, _, e, he => by
    have a : T = [] := a
    rw [a] at he
    cases he
  | k :: ks, T, a, H, e, he => by
    obtain ⟨T1, T2, e0, n1, f⟩ := a
    rw [e0] at he
    rcases List.mem_append.mp he with z | z
    · exact H T1 k n1 e z
    · exact f.all H e z
theorem NT.pos {O : Nat → Prop} : ∀ {m : Nat} {T : List (Int × Nat)} {i : Int} {q : Nat}, NT h s l P O PR m T i q → ∀ e ∈ T, 0 ≤ e.1 ∧ e.1 < fI s 1915442860
  | 0, _, _, _, N, _, _ => N.elim
  | m + 1, T, i, q, N, e, he => by
    obtain ⟨ks, T1, e0, A, _, _, ft⟩ := N
    rw [e0] at he
    rcases List.mem_cons.mp he with z | z
    · rw [z]; exact A.2.1
    · exact ft.all (fun T2 k y => NT.pos y) e z
theorem NPo.vv (N : NPo (-1) w g s S) : NPo v w g s S := ⟨⟨fun A i hA => N.1.1 A i (hA.imp id (fun z => ⟨z.1, fun _ => by have := z.1.1; omega, z.2.2⟩)), N.1.2⟩, N.2⟩
theorem nmp_rf : NMP l t t := fun k a b => by omega
theorem w_p (J : JNX X hG sG p lx l PR Z0 ZM h s t o P O dl y) (hW : ∀ q, W q → ¬ O q ∨ q = p) : ∀ q, W q → ¬ O q ∨ Wp p q := fun q z => (hW q z).imp id (fun y => by rw [y]; exact ⟨Nat.le_refl _, by omega⟩)
/-- both get a part more -/
theorem chl (J : JNX X hG sG p lx l PR Z0 ZM h s t o P O dl y) (kf : KF h s l P (ON p O) PR R ks) (K2 : KD h s l P (ON p O) PR R2 i2 q2) (dis : ∀ e e', R e → R2 e' → e.1 ≠ e'.1 ∧ e.2 ≠ e'.2) (U : UN s n (ks.map (·.1))) (nR : ∀ b, ¬ R (n, b)) (nR2 : ∀ b, ¬ R2 (n, b)) (pos : ∀ e, R2 e → 0 ≤ e.1) (G : SG (aI s 21 n) n g s S t1 o1) (c1 : aI S 20 n = aI (childS s n i2) 20 n) (c2 : aI S 21 n = aI (childS s n i2) 21 n) (c3 : ∀ j, aI S 22 j = aI (childS s n i2) 22 j) (c4 : fI S 1915442860 = fI s 1915442860) (E : XU W u h h1 p lx l t1 o1) (hW : ∀ q, W q → ¬ O q ∨ q = p) (ht : t ≤ t1) (nm : NMP l t t1) (hy : y1 + u ≤ y + 24 * (t1 - t)) (hm : fI s 1915442860 + fI s 2217432748 + fI s 2192266924 ≤ t1 + o1 + 1) : JNX X hG sG p lx l PR Z0 ZM h1 S t1 o1 P O dl y1 ∧ KF h1 S l P (ON p O) PR (fun e => R e ∨ R2 e) (ks ++ [(i2, q2)]) ∧ UN S n ((ks ++ [(i2, q2)]).map (·.1)) := by
  have wp := w_p J hW
  have i2R := K2.2.2.1
  have hd : i2 ∉ ks.map (·.1) := fun z => by
    obtain ⟨e', e1, e2⟩ := List.mem_map.mp z
    exact (dis e' (i2, q2) (kf.1 e' e1).2.2 i2R).1 e2
  have E1 := E.1
  have J1 := J.step E1 hW E.2.1 E.2.2 G ht nm hy (by rw [c4]; exact hm)
  have dj : ∀ e e', R e → R2 e' → e.1 ≠ e'.1 ∧ e.2 ≠ e'.2 := dis
  have lv : ((∀ b, ¬ R (aI s 21 n, b)) ∨ aI s 21 n ∈ ks.map (·.1) ∨ ks = []) ∧ ∀ b, ¬ R2 (aI s 21 n, b) := by
    cases e : (ks.map (·.1)).getLast? with
    | none =>
      rw [List.getLast?_eq_none_iff] at e
      refine ⟨Or.inr (Or.inr (List.map_eq_nil_iff.mp e)), fun b z => ?_⟩
      rw [U.2.2.2.2.2 e] at z
      exact absurd (show (0 : Int) ≤ -1 from pos _ z) (by decide)
    | some c =>
      have cm := List.mem_of_getLast? e
      rw [U.2.2.1 c e]
      refine ⟨Or.inr (Or.inl cm), fun b z => ?_⟩
      obtain ⟨e', e1, e2⟩ := List.mem_map.mp cm
      exact (dis e' (c, b) (kf.1 e' e1).2.2 z).1 e2
  have K3 : KF h1 S l P (ON p O) PR R2 [(i2, q2)] := (K2.go J E1 wp G.po Gw.rf lv.2 nR2).kf
  have K4 : KF h1 S l P (ON p O) PR R ks := by
    rcases lv.1 with z | z | z
    · exact kf.gov J E1 wp G.po Gw.rf nR (Or.inl z)
    · exact kf.gov J E1 wp G.po Gw.rf nR (Or.inr z)
    · subst z; exact KF.nil
  have U1 := U.add hd K2.2.2.2.1 K2.2.1
  refine ⟨J1, K4.app K3 dis, ?_⟩
  rw [List.map_append]
  exact U1.cong c1 c2 c3 (by rw [c4, fI_childS])
/-- the whole node -/
theorem fin {k tk a b c md tg Pl : Int} {tg' kt : Nat} {fi fj : Nat → Int} {fr : Nat → Nat} (J : JNX X hG sG p lx l PR Z0 ZM h s t o P O dl y) (kf : KF h s l P (ON p O) PR R ks) (U : UN s n (ks.map (·.1))) (A : AtM s n k tk a b c md tg) (N : NF h q0 tg' r Pl fi fj fr) (al : AL h r (ks.map (·.2))) (nR : ∀ e, R e → e.1 ≠ n ∧ e.2 ≠ q0) (q0p : p + 6 < q0) (rp : p + 6 < r) (t34 : inT 11 34 tg') (k28 : 1 ≤ k ∧ k ≤ 28) (kx : kt < xc l) (ktk : tk = kt) (pk : Pl = pl l kt) (ap : APu h s l P n q0 kt) (ar : Ari k b c ks.length) (k7 : k ≠ 7) (k26 : k ≠ 26) (zi : ∀ f, f ∉ afI → fi f = 0) (zr : ∀ f, f ∉ afR → fr f = 0) : JNX X hG sG p lx l PR Z0 ZM h s t o P (fun x => O x ∨ x = q0 ∨ x = r) dl y ∧ KD h s l P (ON p (fun x => O x ∨ x = q0 ∨ x = r)) PR (fun e => R e ∨ e = (n, q0)) n q0 := by
  have C := J.x.c
  have ql : q0 < hn h := J.i.z (by rw [N.1]; intro z; rw [z] at t34; exact absurd t34 (by decide))
  have rl : r < hn h := al.lt C
  have J1 := J.own (O1 := fun x => O x ∨ x = q0 ∨ x = r) (fun x z => Or.inl z) (fun x z => by
    rcases z with z | z | z
    · exact J.hi z
    · omega
    · omega)
  refine ⟨J1, ?_⟩
  have onu : ∀ x, ON p O x → ON p (fun x => O x ∨ x = q0 ∨ x = r) x := fun x z => ⟨Or.inl z.1, z.2⟩
  have Rf : FrN (fun _ => 1000000) (-2) (-2) s s := FrN.rf
  have cn := J.c
  have mj := J.m.1.a
  have ml := J.m.1.1.2.1
  have ho := J.x.2.2.2.2.2.1
  have kp : Kp W0 (ON p O) 0 (fun _ => 1000000) h h s s := ⟨C, Ev.rf J.i, fun _ _ z => z, fun z => z, fun q z => J.hi z.1, ⟨by have := cn.2.2.1; have := cn.1; show _ ≤ (1000000 : Int); omega, by have := cn.2.2.1; have := cn.1; show _ ≤ (1000000 : Int); omega, by have := cn.2.2.2; have := J.m.2.2.2.2.1; show _ ≤ (1000000 : Int); omega⟩, ⟨Int.le_refl _, Int.le_refl _⟩⟩
  have kf1 : KF h s l P (ON p (fun x => O x ∨ x = q0 ∨ x = r)) PR R ks := by
    refine ⟨fun k z => ?_, fun z => ?_⟩
    · have := kf.1 k z
      exact ⟨⟨this.1.1, onu _ this.1.2⟩, this.2⟩
    · obtain ⟨m, T, b, c, d⟩ := kf.2 z
      refine ⟨m, T, b.mono (fun T1 k w y => y.st kp Rf J.m.2.2.2.2.1.1 (fun _ z => z) onu (fun e x z => by have := y.pos e (List.mem_of_mem_tail x); omega) (fun e x z => by have := y.pos e x; omega)), c, d⟩
  refine KD.mk kf1 ?_ (by rw [N.2.1]; exact al) U A.2.2.2.2.2.2.2 nR
  exact nat_of A N U.1 k28 t34 ⟨Or.inr (Or.inl rfl), fun z => by have := z.2; omega⟩ ⟨Or.inr (Or.inr rfl), fun z => by have := z.2; omega⟩ kx ktk pk ap ar (fun z => absurd z k7) (fun z => absurd z k26) zi zr
end NFi
