/-! READING NODES: what is enclosed ends -/
set_option maxRecDepth 100000
set_option maxHeartbeats 1000000
section ENE
variable {hG h h0 h1 : PH} {sG s s1 : MS} {p lx t o t1 o1 : Nat} {l : List TokE} {PR g : Int} {P P1 : List (Nat × Int)} {O O1 W W1 X : Nat → Prop} {Z0 ZM Z u u' y y1 : Nat} {v w : Int} {dl dl1 : List Nat} {R R1 : Int × Nat → Prop}
theorem en_end {hP : PH} {sP s6 : MS} {tP : Nat} {PP : List (Nat × Int)} {OP : Nat → Prop} {i2 k a b c md tg : Int} {q2 tg' : Nat} {ks : List (Int × Nat)} {a0 : Int} {b0 : Nat} {fi fj : Nat → Int} (J : JN hG sG p lx l PR Z0 ZM h s t (o + 1) P O dl y) (e7 : ∀ e ∈ ks, fI sP 1915442860 ≤ e.1) (e8 : Pnd h s l P (ON p O) PR (RB R0 (fI sP 1915442860) (hn hP) a0 b0) (Rg a0 (fI s 1915442860) b0 (hn h)) ks i2 q2 (fI sP 1915442860) (hn hP) (hn hP + 1) k tP a b c md tg tg' (pl l tP) fi fj zr) (e9 : fI sP 1915442860 + 1 ≤ a0 ∧ a0 ≤ fI s 1915442860) (e10 : hn hP + 2 ≤ b0 ∧ b0 ≤ hn h) (e12 : LI 1 (-1) p (g + 1 + 1) hP sP tP PP OP h s t P O) (st : aI s 35 g = 2 ∧ aI s 34 g = 3 ∧ aI s 36 g = aI sP 36 g ∧ aI s 37 g = aI sP 37 g ∧ aI s 39 g = aI sP 39 g) (hg3 : fI s 2066437804 = g + 1 + 1) (RC6 : Reach s s6) (G6 : SG (aI s 21 (fI sP 1915442860)) (fI sP 1915442860) (g + 1) s s6 (t + 1) o) (d1 : aI s6 20 (fI sP 1915442860) = aI (childS s (fI sP 1915442860) (fI s 2125158060)) 20 (fI sP 1915442860)) (d2 : aI s6 21 (fI sP 1915442860) = aI (childS s (fI sP 1915442860) (fI s 2125158060)) 21 (fI sP 1915442860)) (d3 : ∀ j, aI s6 22 j = aI (childS s (fI sP 1915442860) (fI s 2125158060)) 22 j) (d4 : fI s6 1915442860 = fI s 1915442860) (at6 : fI sP 1915442860 ≠ aI s 21 (fI sP 1915442860) → AtM s (fI sP 1915442860) k tP a b c md tg → AtM s6 (fI sP 1915442860) k tP a b c md tg) (v6 : fI s6 2125158060 = fI sP 1915442860) (ir6 : fI s6 2141935279 = 0) (hl5 : t + 1 < xc l) (nm : NMP l t (t + 1)) (hpP : p + 6 < hn hP) (htP : tP < xc l) (n0 : 0 ≤ fI sP 1915442860) (g0 : 0 ≤ g) (hg : g ≤ 20 * o + 8) (hgP : fI sP 2066437804 = g + 1) (kP : fI sP 1915442860 + fI sP 2217432748 + fI sP 2192266924 ≤ tP + o + 1) (t34 : inT 11 34 tg') (k28 : 1 ≤ k ∧ k ≤ 28) (ap : ∀ (h' : PH) (s' : MS), AtM s' (fI sP 1915442860) k tP a b c md tg → NF h' (hn hP) tg' (hn hP + 1) (pl l tP) fi fj zr → APu h' s' l P (fI sP 1915442860) (hn hP) tP) (ar : Ari k b c (ks.length + 1)) (k7 : k ≠ 7) (k26 : k ≠ 26) (zi : ∀ f, f ∉ afI → fi f = 0) (len : ks.length < 50) : ∃ s7 O', Reach sP s7 ∧ JN hG sG p lx l PR Z0 ZM (pI (pI h 1285834896 p ((t + 1 : Nat) : Int)) 1294223504 p ((o : Nat) : Int)) s7 (t + 1) o P O' dl y ∧ (GP s7 g 3 6 ∧ fI s7 1772836524 = -1) ∧ (KD (pI (pI h 1285834896 p ((t + 1 : Nat) : Int)) 1294223504 p ((o : Nat) : Int)) s7 l P (ON p O') PR (fun e => R0 e ∨ Rg (fI sP 1915442860) (fI s7 1915442860) (hn hP) (hn (pI (pI h 1285834896 p ((t + 1 : Nat) : Int)) 1294223504 p ((o : Nat) : Int))) e) (fI sP 1915442860) (hn hP) ∧ fI s7 2125158060 = fI sP 1915442860) ∧ NPo (-1) (-1) (g + 1) sP s7 ∧ (∃ u, Ev (Wp p) u hP (pI (pI h 1285834896 p ((t + 1 : Nat) : Int)) 1294223504 p ((o : Nat) : Int))) ∧ Gw hP PP OP P O' ∧ (tP ≤ t + 1 ∧ fI s7 1915442860 + tP ≤ fI sP 1915442860 + (t + 1 : Nat)) ∧ (aI s7 34 g = 3 ∧ aI s7 35 g = 6 ∧ aI s7 36 g = aI sP 36 g ∧ aI s7 37 g = aI sP 37 g ∧ aI s7 39 g = aI sP 39 g) := by
  have M5 := JNX.m J
  have cn5 := JNX.c J
  have Y5 := JNX.x J
  have F5 := JNX.f J
  have xl : xc l ≤ l.length := M5.1.1.x
  have hl2 := M5.1.1.2.1
  have ho24 := Y5.2.2.2.2.2.1
  have E12 := e12.2.2.2.2.2
  have E11 := e12.2.1.2.2.1
  have E10 := e12.2.2.2.2.1
  have hR : ∀ e, R0 e → 0 ≤ e.1 ∧ e.1 < fI sP 1915442860 ∧ e.2 < hn hP := fun e z => z.elim
  have X6 := ((XU.rf (W := (· = p)) Y5 F5).st rfl (t1 := t + 1) hl5).so rfl (o1 := o) (by omega)
  obtain ⟨J6, B6, lm⟩ := pn_chl (o1 := o) J e8 hR e9 e10 G6 d1 d2 d3 d4 at6 X6 (by omega) (by omega) t34 (by omega) nm (y1 := y) (by omega) (by omega)
  obtain ⟨F1, F2, F3, F4, F5'⟩ := B6
  obtain ⟨u5, E5⟩ := e12.2.2.1
  have hn5 : hn hP ≤ hn h := E5.1.1
  obtain ⟨J7, K7⟩ := fin J6 F1 F2 F3 F4 F5' (fun e z => by
    rcases z with z | ⟨z1, z2, z3, z4⟩
    · exact z.elim
    · constructor <;> omega) (by omega) (by omega) t34 k28 htP rfl rfl (ap _ _ F3 F4) (by rw [List.length_append]; exact ar) k7 k26 zi (fun f _ => rfl)
  have M6 := JNX.m J7
  have cn6 := JNX.c J7
  have g6 : fI s6 2066437804 = g + 1 := G6.2.1
  have vOK : aI s 21 (fI sP 1915442860) = -1 ∨ fI sP 1915442860 ≤ aI s 21 (fI sP 1915442860) ∨ aI s 21 (fI sP 1915442860) < 0 := by
    by_cases w : ks = []
    · exact Or.inl (e8.2.2.1.2.2.2.2.2 (by rw [w]; rfl))
    · obtain ⟨e', z1, z2⟩ := List.mem_map.mp (lm w)
      rw [← z2]
      exact Or.inr (Or.inl (e7 e' z1))
  have N6 := e12.2.1.seq (by omega) G6.po vOK (Or.inr (Or.inl (Int.le_refl _)))
  have gl := fun A hA => (G6.po.gl (A := A) (i := g) hA g0 (by omega)).1
  obtain ⟨s7, RC7, G7, GP7, v7, f1', f2', f3', md7⟩ := msf2 M6 cn6 (by omega) ⟨g6, g0, (gl _ (by decide)).trans st.2.1, (gl _ (by decide)).trans st.1⟩ (by omega) ir6
  have J8 := JNX.step J7 (Ev.rf (W := W0) X6.2.1.i) (fun _ z => z.elim) X6.2.1 X6.2.2 G7 (Nat.le_refl _) nmp_rf (y1 := y) (by omega) (by have := cn6.2.2.1; rw [md7]; exact this)
  have ngK : ∀ b, ¬ (RB R0 (fI sP 1915442860) (hn hP) (fI s6 1915442860) (hn (pI (pI h 1285834896 p ((t + 1 : Nat) : Int)) 1294223504 p ((o : Nat) : Int))) (-1, b) ∨ ((-1 : Int), b) = (fI sP 1915442860, hn hP)) := fun b z => by
    rcases z with (z | z) | z
    · exact z
    · have : fI sP 1915442860 + 1 ≤ -1 := z.1; omega
    · have : (-1 : Int) = fI sP 1915442860 := congrArg Prod.fst z; omega
  have K8 := K7.go J7 (Ev.rf (W := W0) X6.2.1.i) (fun _ z => z.elim) G7.po Gw.rf ngK ngK
  refine ⟨s7, _, (e12.1.tr RC6).tr RC7, J8, ⟨GP7, G7.2.2.1.2.2⟩, ⟨K8.up (fun e z => ?_), v7.trans v6⟩, N6.seq (by omega) G7.po (Or.inr (Or.inr (by decide))) (Or.inl rfl), ⟨_, E5.tr X6.1 (fun x _ z => by rw [z]; exact ⟨Nat.le_refl _, by omega⟩)⟩, e12.2.2.2.1.own (Nat.le_refl _) (Nat.le_refl _) (by omega), ⟨by omega, by omega⟩, ⟨GP7.2.2.1, GP7.2.2.2, (f1'.trans (gl _ (by decide))).trans st.2.2.1, (f2'.trans (gl _ (by decide))).trans st.2.2.2.1, (f3'.trans (gl _ (by decide))).trans st.2.2.2.2⟩⟩
  rcases z with (z | ⟨z1, z2, z3, z4⟩) | z
  · exact z.elim
  · right
    exact ⟨by omega, by omega, by omega, z4⟩
  · right
    rw [z]
    exact ⟨Int.le_refl _, by show fI sP 1915442860 < fI s7 1915442860; omega, Nat.le_refl _, by show hn hP < hn h; omega⟩
end ENE
