/-! READING NODES: a word, and the next part -/
set_option maxRecDepth 100000
set_option maxHeartbeats 1000000
section ENN
variable {hG h h0 h1 : PH} {sG s s1 : MS} {p lx t o t1 o1 : Nat} {l : List TokE} {PR g : Int} {P P1 : List (Nat × Int)} {O O1 W W1 X : Nat → Prop} {Z0 ZM Z u u' y y1 : Nat} {v w : Int} {dl dl1 : List Nat} {R R1 : Int × Nat → Prop}
theorem en_next {hP : PH} {sP s4 sR : MS} {tP d : Nat} {PP : List (Nat × Int)} {OP : Nat → Prop} {i2 k k2 a b bb c c2' md tg cc cL : Int} {q2 tg' : Nat} {ks : List (Int × Nat)} {a0 : Int} {b0 : Nat} {fi fj : Nat → Int} {rr : Rs} (J : JN hG sG p lx l PR Z0 ZM h s t o P O dl y) (e7 : ∀ e ∈ ks, fI sP 1915442860 ≤ e.1) (e8 : Pnd h s l P (ON p O) PR (RB R0 (fI sP 1915442860) (hn hP) a0 b0) (Rg a0 (fI s 1915442860) b0 (hn h)) ks i2 q2 (fI sP 1915442860) (hn hP) (hn hP + 1) k tP a b c md tg tg' (pl l tP) fi fj zr) (e9 : fI sP 1915442860 + 1 ≤ a0 ∧ a0 ≤ fI s 1915442860) (e10 : hn hP + 2 ≤ b0 ∧ b0 ≤ hn h) (eO : ¬ O (hn hP + 1) ∧ ¬ O (hn hP)) (e12 : LI cL (-1) p (g + 1) hP sP tP PP OP h s t P O) (e13 : GFr sR s g) (hg3 : fI s 2066437804 = g + 1) (RC4 : Reach s s4) (G4 : SG (aI s 21 (fI sP 1915442860)) (fI sP 1915442860) (g + 2) s s4 (t + 1) o) (d1 : aI s4 20 (fI sP 1915442860) = aI (childS s (fI sP 1915442860) (fI s 2125158060)) 20 (fI sP 1915442860)) (d2 : aI s4 21 (fI sP 1915442860) = aI (childS s (fI sP 1915442860) (fI s 2125158060)) 21 (fI sP 1915442860)) (d3 : ∀ j, aI s4 22 j = aI (childS s (fI sP 1915442860) (fI s 2125158060)) 22 j) (d4 : fI s4 1915442860 = fI s 1915442860) (at4 : fI sP 1915442860 ≠ aI s 21 (fI sP 1915442860) → AtM s (fI sP 1915442860) k tP a b c md tg → AtM s4 (fI sP 1915442860) k2 tP a bb c2' md tg) (hl5 : t + 1 < xc l) (nm : NMP l t (t + 1)) (hpP : p + 6 < hn hP) (n0 : 0 ≤ fI sP 1915442860) (g0 : 0 ≤ g) (hgP : fI sP 2066437804 ≤ g) (t34 : inT 11 34 tg') (len : ks.length < 40) (hcc : cc ≤ 1) (call : JN hG sG p lx l PR Z0 ZM (pI h 1285834896 p ((t + 1 : Nat) : Int)) s4 (t + 1) o P O dl (y + 18) → BN hG sG p l Z0 ZM rr s4 ∨ NOK cc (-1) R0 hG sG p lx l PR Z0 ZM rr (pI h 1285834896 p ((t + 1 : Nat) : Int)) s4 (t + 1) o P O (y + 3) (g + 1)) : BN hG sG p l Z0 ZM rr sP ∨ ∃ q6 i6 h6 h7 s6 t6 P6 O6 dl6, rr = some (.inl (some (vR q6)), h6) ∧ F (d + 7) 118296754 [vR (hn hP), vR q6] h6 = some (.inl (some (vR (hn hP))), h7) ∧ JN hG sG p lx l PR Z0 ZM h7 s6 t6 o P6 O6 dl6 y ∧ Pnd h7 s6 l P6 (ON p O6) PR (RB R0 (fI sP 1915442860) (hn hP) (fI s4 1915442860) (hn (pI h 1285834896 p ((t + 1 : Nat) : Int)))) (Rg (fI s4 1915442860) (fI s6 1915442860) (hn (pI h 1285834896 p ((t + 1 : Nat) : Int))) (hn h7)) (ks ++ [(i2, q2)]) i6 q6 (fI sP 1915442860) (hn hP) (hn hP + 1) k2 tP a bb c2' md tg tg' (pl l tP) fi fj zr ∧ (∀ e ∈ ks ++ [(i2, q2)], fI sP 1915442860 ≤ e.1) ∧ (fI sP 1915442860 + 1 ≤ fI s4 1915442860 ∧ fI s4 1915442860 ≤ fI s6 1915442860) ∧ (hn hP + 2 ≤ hn (pI h 1285834896 p ((t + 1 : Nat) : Int)) ∧ hn (pI h 1285834896 p ((t + 1 : Nat) : Int)) ≤ hn h7) ∧ (¬ O6 (hn hP + 1) ∧ ¬ O6 (hn hP)) ∧ LI cL (-1) p (g + 1) hP sP tP PP OP h7 s6 t6 P6 O6 ∧ GFr sR s6 g ∧ GFr s4 s6 (g + 1) ∧ fI s6 2066437804 = g + 1 ∧ (hc h6 (hn hP) = tg' ∧ hc h6 p = 36 ∧ PXs h7 p lx l t6 o) := by
  have M5 := JNX.m J
  have cn5 := JNX.c J
  have Y5 := JNX.x J
  have F5 := JNX.f J
  have c6 := cn5.2.2.1
  have E12 := e12.2.2.2.2.2
  have E10 := e12.2.2.2.2.1
  have hR : ∀ e, R0 e → 0 ≤ e.1 ∧ e.1 < fI sP 1915442860 ∧ e.2 < hn hP := fun e z => z.elim
  have X6 := (XU.rf (W := (· = p)) Y5 F5).st rfl (t1 := t + 1) hl5
  obtain ⟨J6, B6, lm⟩ := pn_chl J e8 hR e9 e10 G4 d1 d2 d3 d4 at4 X6 (by omega) (by omega) t34 (by omega) nm (y1 := y + 18) (by omega) (by omega)
  have gg4 : fI s4 2066437804 = g + 2 := G4.2.1
  have vOK : aI s 21 (fI sP 1915442860) = -1 ∨ fI sP 1915442860 ≤ aI s 21 (fI sP 1915442860) ∨ aI s 21 (fI sP 1915442860) < 0 := by
    by_cases w : ks = []
    · exact Or.inl (e8.2.2.1.2.2.2.2.2 (by rw [w]; rfl))
    · obtain ⟨e', z1, z2⟩ := List.mem_map.mp (lm w)
      rw [← z2]
      exact Or.inr (Or.inl (e7 e' z1))
  have N6 := e12.2.1.seq (by omega) G4.po vOK (Or.inr (Or.inl (Int.le_refl _)))
  rcases call J6 with B | B
  · exact Or.inl (BN.up B (e12.1.tr RC4) (fun _ _ z => z))
  · right
    obtain ⟨q6, i6, h6, h7, s6, t6, P6, O6, dl6, b1, b2, b3, b4, b5, b6, ⟨u7, b7⟩, b8, ⟨b9, b10⟩, ⟨b11, b12, b13⟩, ⟨b14, b15, b16⟩⟩ := pn_with d J6 B B6 hR t34 (by omega) (by omega) eO.1 eO.2 (by rw [List.length_append]; show ks.length + 1 < 50; omega) (by omega)
    obtain ⟨uL, EL⟩ := e12.2.2.1
    have hnP : hn hP ≤ hn h := EL.1.1
    have md6 := b6.2.2.2.1
    refine ⟨q6, i6, h6, h7, s6, t6, P6, O6, dl6, b1, b2, b4, b5, fun e z => ?_, ⟨by omega, md6⟩, ⟨by show hn hP + 2 ≤ hn h; omega, b11⟩, ⟨b12, b13⟩, ⟨(e12.1.tr RC4).tr b3, N6.seq (by omega) b6 (Or.inr (Or.inr (by decide))) (Or.inl rfl), ⟨_, (EL.tr (X6.1.mono (W' := Wp p) (fun x _ z => by rw [z]; exact ⟨Nat.le_refl _, by omega⟩) (Nat.le_refl _)) (fun _ _ z => z)).tr b7 (fun x hx z => z.elim id (fun w => by omega))⟩, e12.2.2.2.1.tr b8 hnP, by omega, by omega⟩, (e13.po G4.po (by omega)).po b6 (by omega), (GFr.rf (s := s4)).po b6 (by omega), b6.2.1, b14, b15, b16⟩
    rcases List.mem_append.mp z with z | z
    · exact e7 e z
    · rw [List.mem_singleton.mp z]
      have : a0 ≤ i2 := e8.2.1.1.2.2.1.1
      show fI sP 1915442860 ≤ i2
      omega
end ENN
