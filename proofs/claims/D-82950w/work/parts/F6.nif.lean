/-! READING NODES: IF, the rest -/
set_option maxRecDepth 100000
set_option maxHeartbeats 1000000
section BSJ
variable {hG h h0 h1 : PH} {sG s s1 : MS} {p lx t o t1 o1 : Nat} {l : List TokE} {PR g : Int} {P P1 : List (Nat × Int)} {O O1 W W1 X : Nat → Prop} {Z0 ZM Z u u' y y1 : Nat} {v w : Int} {dl dl1 : List Nat} {R R1 : Int × Nat → Prop}
theorem if_end {hP : PH} {sP sR : MS} {tP d : Nat} {i2 z b : Int} {q2 : Nat} {ks : List (Int × Nat)} {a0 : Int} {b0 : Nat} {PP : List (Nat × Int)} {OP : Nat → Prop} (J : JN hG sG p lx l PR Z0 ZM h s t (o + 1) P O dl y) (e4 : GP s (g + 1) 10 z) (hz : z = 2 ∧ b = 0 ∧ ks.length = 1 ∧ ¬ (kd l t = 1 ∧ sI l t = 19) ∨ z = 3 ∧ b = 1 ∧ ks.length = 2) (e5 : aI s 36 (g + 1) = fI sP 1915442860) (e7 : ∀ e ∈ ks, fI sP 1915442860 ≤ e.1) (e8 : Pnd h s l P (ON p O) PR (RB R0 (fI sP 1915442860) (hn hP) a0 b0) (Rg a0 (fI s 1915442860) b0 (hn h)) ks i2 q2 (fI sP 1915442860) (hn hP) (hn hP + 1) 24 tP 0 b 0 (-1) 0 20 (pl l tP) z0 z0 zr) (e9 : fI sP 1915442860 + 1 ≤ a0 ∧ a0 ≤ fI s 1915442860) (e10 : hn hP + 2 ≤ b0 ∧ b0 ≤ hn h) (e12 : LI 1 (-1) p (g + 1 + 1) hP sP tP PP OP h s t P O) (e13 : GFr sR s (g + 1)) (st : aI sR 35 g = 2 ∧ aI sR 34 g = 3 ∧ aI sR 36 g = aI sP 36 g ∧ aI sR 37 g = aI sP 37 g ∧ aI sR 39 g = aI sP 39 g) (hpP : p + 6 < hn hP) (htP : tP < xc l) (n0 : 0 ≤ fI sP 1915442860) (g0 : 0 ≤ g) (hg : g ≤ 20 * o + 8) (hgP : fI sP 2066437804 = g + 1) (kP : fI sP 1915442860 + fI sP 2217432748 + fI sP 2192266924 ≤ tP + o + 1) : BN hG sG p l Z0 ZM (F (d + 9) 113320514 [vR p, vR (gR h 3892314114 0)] h) sP ∨ (F (d + 9) 113320514 [vR p, vR (gR h 3892314114 0)] h = some (.inl none, pI h 1285834896 p ((t + 1 : Nat) : Int)) ∧ F (d + 9) 106504769 [vR p] (pI h 1285834896 p ((t + 1 : Nat) : Int)) = some (.inl none, (pI (pI h 1285834896 p ((t + 1 : Nat) : Int)) 1294223504 p ((o : Nat) : Int))) ∧ ∃ s7 O', Reach sP s7 ∧ JN hG sG p lx l PR Z0 ZM (pI (pI h 1285834896 p ((t + 1 : Nat) : Int)) 1294223504 p ((o : Nat) : Int)) s7 (t + 1) o P O' dl y ∧ (GP s7 g 3 6 ∧ fI s7 1772836524 = -1) ∧ (KD (pI (pI h 1285834896 p ((t + 1 : Nat) : Int)) 1294223504 p ((o : Nat) : Int)) s7 l P (ON p O') PR (fun e => R0 e ∨ Rg (fI sP 1915442860) (fI s7 1915442860) (hn hP) (hn (pI (pI h 1285834896 p ((t + 1 : Nat) : Int)) 1294223504 p ((o : Nat) : Int))) e) (fI sP 1915442860) (hn hP) ∧ fI s7 2125158060 = fI sP 1915442860) ∧ NPo (-1) (-1) (g + 1) sP s7 ∧ (∃ u, Ev (Wp p) u hP (pI (pI h 1285834896 p ((t + 1 : Nat) : Int)) 1294223504 p ((o : Nat) : Int))) ∧ Gw hP PP OP P O' ∧ (tP ≤ t + 1 ∧ fI s7 1915442860 + tP ≤ fI sP 1915442860 + (t + 1 : Nat)) ∧ (aI s7 34 g = 3 ∧ aI s7 35 g = 6 ∧ aI s7 36 g = aI sP 36 g ∧ aI s7 37 g = aI sP 37 g ∧ aI s7 39 g = aI sP 39 g)) := by
  have M5 := JNX.m J
  have cn5 := JNX.c J
  have Y5 := JNX.x J
  have F5 := JNX.f J
  have hx5 : t < xc l := M5.1.2.2
  have xl : xc l ≤ l.length := M5.1.1.x
  have hl2 := M5.1.1.2.1
  have ho24 := Y5.2.2.2.2.2.1
  have ok := e8.2.2.1.ok (by have := cn5.2.2.1; have := cn5.1; omega)
  have hg3 := e4.1
  have stS : aI s 35 g = 2 ∧ aI s 34 g = 3 ∧ aI s 36 g = aI sP 36 g ∧ aI s 37 g = aI sP 37 g ∧ aI s 39 g = aI sP 39 g := ⟨(e13 35 g (by decide) g0 (by omega)).1.trans st.1, (e13 34 g (by decide) g0 (by omega)).1.trans st.2.1, (e13 36 g (by decide) g0 (by omega)).1.trans st.2.2.1, (e13 37 g (by decide) g0 (by omega)).1.trans st.2.2.2.1, (e13 39 g (by decide) g0 (by omega)).1.trans st.2.2.2.2⟩
  by_cases c5 : kd l t = 1 ∧ sI l t = 20
  · right
    have cc5 := c5
    obtain ⟨c5, c6⟩ := c5
    have hl5 : t + 1 < xc l := Y5.next hx5 (by rw [c5]; decide) (by rw [c5]; decide)
    have ST : ∃ s1, Reach s s1 ∧ SG (aI s 21 (fI sP 1915442860)) (fI sP 1915442860) (g + 1) s s1 (t + 1) (o + 1 - 1) ∧ aI s1 20 (fI sP 1915442860) = aI (childS s (fI sP 1915442860) (fI s 2125158060)) 20 (fI sP 1915442860) ∧ aI s1 21 (fI sP 1915442860) = aI (childS s (fI sP 1915442860) (fI s 2125158060)) 21 (fI sP 1915442860) ∧ (∀ j, aI s1 22 j = aI (childS s (fI sP 1915442860) (fI s 2125158060)) 22 j) ∧ fI s1 1915442860 = fI s 1915442860 ∧ (∀ k tk a b c md tg : Int, fI sP 1915442860 ≠ aI s 21 (fI sP 1915442860) → AtM s (fI sP 1915442860) k tk a b c md tg → AtM s1 (fI sP 1915442860) k tk a b c md tg) ∧ fI s1 2125158060 = fI sP 1915442860 ∧ fI s1 2141935279 = 0 := by
      rw [← e5] at ok ⊢
      rcases hz with ⟨z1, z2⟩ | ⟨z1, z2⟩
      · rw [z1] at e4
        exact msif2f M5 cn5 ho24 e4 (by omega) ok.1.1 ok.1.2 ok.2 c5 c6 (by omega)
      · rw [z1] at e4
        exact msif3f M5 cn5 ho24 e4 (by omega) ok.1.1 ok.1.2 ok.2 c5 c6 (by omega)
    obtain ⟨s6, RC6, G6, d1, d2, d3, d4, at6, v6, ir6⟩ := ST
    refine ⟨f_wordY d Y5 (by decide) cc5, f_close (d + 8) ((XU.rf (W := (· = p)) Y5 F5).st rfl (t1 := t + 1) hl5).2.1 (o' := o) rfl, en_end J e7 e8 e9 e10 e12 stS hg3 RC6 G6 d1 d2 d3 d4 (at6 _ _ _ _ _ _ _) v6 ir6 hl5 (nmp_w c6 (by decide) (by decide)) hpP htP n0 g0 hg hgP kP (by decide) (by decide) (fun h' s' a' n' => by obtain ⟨a1, a2, a3, a4, a5, a6, a7, a8⟩ := a'; obtain ⟨n1, n2, n3, n4, n5, n6⟩ := n'; unfold APu; simp (config := {implicitDefEqProofs := false}) only [bnd_v, bnd_x, pu_s, pu_n, b01_T, b01_F, Int.reduceEq, Int.reduceLT, Int.reduceLE, Int.reduceNe, Nat.reduceEqDiff, Nat.reduceLeDiff, and_false, false_and, and_true, true_and, or_false, false_or, or_true, true_or, if_true, if_false, not_true_eq_false, not_false_eq_true, eq_self, ne_eq, reduceCtorEq, false_implies, true_implies, implies_true, a1, n1]) ?_ (by decide) (by decide) (fun f _ => rfl) (by rcases hz with w | w <;> (have := w.2.2; omega))⟩
    unfold Ari
    rcases hz with ⟨w1, w2, w3, w4⟩ | ⟨w1, w2, w3⟩
    · rw [w2, w3]
      simp (config := {implicitDefEqProofs := false}) only [bnd_v, bnd_x, pu_s, pu_n, b01_T, b01_F, Int.reduceEq, Int.reduceLT, Int.reduceLE, Int.reduceNe, Nat.reduceEqDiff, Nat.reduceLeDiff, and_false, false_and, and_true, true_and, or_false, false_or, or_true, true_or, if_true, if_false, not_true_eq_false, not_false_eq_true, eq_self, ne_eq, reduceCtorEq, false_implies, true_implies, implies_true]
      decide
    · rw [w2, w3]
      simp (config := {implicitDefEqProofs := false}) only [bnd_v, bnd_x, pu_s, pu_n, b01_T, b01_F, Int.reduceEq, Int.reduceLT, Int.reduceLE, Int.reduceNe, Nat.reduceEqDiff, Nat.reduceLeDiff, and_false, false_and, and_true, true_and, or_false, false_or, or_true, true_or, if_true, if_false, not_true_eq_false, not_false_eq_true, eq_self, ne_eq, reduceCtorEq, false_implies, true_implies, implies_true]
      decide
  · left
    have hbad : ∃ S, Reach s S ∧ fI S 1772836524 = pl l t ∧ FrW s S := by
      obtain ⟨hg5, g05, hgo5, hz5⟩ := e4
      rcases hz with ⟨z1, z2⟩ | ⟨z1, z2⟩
      · rw [z1] at hz5
        exact ⟨(uI (childS s (aI s 36 (g + 1)) (fI s 2125158060)) 1772836524 (pl l t)), Reach.one (by rw [hg5]; omega) (by have := M5.2.2.1; omega) (step_of hg5 ⟨g05, by omega⟩ hgo5 (by decide) (mif2F M5 cn5 ho24 hg5 g05 (by omega) hz5 (by rw [e5]; exact ok.1.1) (by rw [e5]; exact ok.1.2) (by rw [e5]; exact ok.2) z2.2.2 c5)), by simp (config := {implicitDefEqProofs := false}) only [bnd_v, bnd_x, pu_s, pu_n, b01_T, b01_F, Int.reduceEq, Int.reduceLT, Int.reduceLE, Int.reduceNe, Nat.reduceEqDiff, Nat.reduceLeDiff, and_false, false_and, and_true, true_and, or_false, false_or, or_true, true_or, if_true, if_false, not_true_eq_false, not_false_eq_true, eq_self, ne_eq, reduceCtorEq, false_implies, true_implies, implies_true, fI_uI, fI_uJ, fI_vI, fI_vJ, fJ_uI, fJ_uJ, fJ_vI, fJ_vJ, aI_uI, aI_uJ, aI_vI, aI_vJ, aJ_uI, aJ_uJ, aJ_vI, aJ_vJ, fI_nodeS, aI_nodeS, aJ_nodeS, fI_modeS, aI_modeS, aJ_modeS, fI_pushS, aI_pushS, aJ_pushS, fI_giveS, aI_giveS, aJ_giveS, fI_gmodeS, aI_gmodeS, aJ_gmodeS, fI_childS, aI_childS, aJ_childS], (Fr.uI (Fr.child (Fr.rf (L := fun c => if c = 2 ∨ c = 12 then -1 else Lm s c) (v := -1)) (by show (-1 : Int) ≤ aI s 36 (g + 1); rw [e5]; have := ok.1.1; omega) (fun z => Or.inl (by show (-1 : Int) ≤ aI s 21 (aI s 36 (g + 1)); rw [e5] at z ⊢; rcases ok.2 with y | y <;> omega))) (by decide)).w (by have := M5.2.2.2; show _ ≤ fI s 1789613740; omega) (by have := M5.2.2.2; show _ ≤ fI s 1848333996; omega) (by have := M5.2.2.2; show _ ≤ fI s 2024494764; omega)⟩
      · rw [z1] at hz5
        exact ⟨(uI (childS s (aI s 36 (g + 1)) (fI s 2125158060)) 1772836524 (pl l t)), Reach.one (by rw [hg5]; omega) (by have := M5.2.2.1; omega) (step_of hg5 ⟨g05, by omega⟩ hgo5 (by decide) (mif3F M5 cn5 ho24 hg5 g05 (by omega) hz5 (by rw [e5]; exact ok.1.1) (by rw [e5]; exact ok.1.2) (by rw [e5]; exact ok.2) c5)), by simp (config := {implicitDefEqProofs := false}) only [bnd_v, bnd_x, pu_s, pu_n, b01_T, b01_F, Int.reduceEq, Int.reduceLT, Int.reduceLE, Int.reduceNe, Nat.reduceEqDiff, Nat.reduceLeDiff, and_false, false_and, and_true, true_and, or_false, false_or, or_true, true_or, if_true, if_false, not_true_eq_false, not_false_eq_true, eq_self, ne_eq, reduceCtorEq, false_implies, true_implies, implies_true, fI_uI, fI_uJ, fI_vI, fI_vJ, fJ_uI, fJ_uJ, fJ_vI, fJ_vJ, aI_uI, aI_uJ, aI_vI, aI_vJ, aJ_uI, aJ_uJ, aJ_vI, aJ_vJ, fI_nodeS, aI_nodeS, aJ_nodeS, fI_modeS, aI_modeS, aJ_modeS, fI_pushS, aI_pushS, aJ_pushS, fI_giveS, aI_giveS, aJ_giveS, fI_gmodeS, aI_gmodeS, aJ_gmodeS, fI_childS, aI_childS, aJ_childS], (Fr.uI (Fr.child (Fr.rf (L := fun c => if c = 2 ∨ c = 12 then -1 else Lm s c) (v := -1)) (by show (-1 : Int) ≤ aI s 36 (g + 1); rw [e5]; have := ok.1.1; omega) (fun z => Or.inl (by show (-1 : Int) ≤ aI s 21 (aI s 36 (g + 1)); rw [e5] at z ⊢; rcases ok.2 with y | y <;> omega))) (by decide)).w (by have := M5.2.2.2; show _ ≤ fI s 1789613740; omega) (by have := M5.2.2.2; show _ ≤ fI s 1848333996; omega) (by have := M5.2.2.2; show _ ≤ fI s 2024494764; omega)⟩
    obtain ⟨S, RC5, bd5, fw⟩ := hbad
    exact (JNX.now J (Ev.rf (W := (· = p)) Y5.i) (fun _ z => Or.inr z) (by omega) (f_wordN d Y5 ((JNX.room J).le (by omega)) (by decide) c5) hx5 RC5 bd5 fw).up e12.1 (fun e h' z => z)
end BSJ
