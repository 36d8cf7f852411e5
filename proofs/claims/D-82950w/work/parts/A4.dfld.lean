/-! READING DECLARERS: one field -/
set_option maxRecDepth 100000
set_option maxHeartbeats 1000000
section DF2
variable {p lx o : Nat} {X : Nat → Prop} {l : List TokE} {PR : Int} {Z0 : Nat}
theorem vI_com {s : MS} {A B : Nat} {i j v w : Int} (hAB : A ≠ B) : vI' (vI' s A i v) B j w = vI' (vI' s B j w) A i v := by
  unfold vI'
  have : (fun a k => if a = B ∧ k = j then w else aI (fI s, fJ s, fun a k => if a = A ∧ k = i then v else aI s a k, aJ s) a k) = (fun a k => if a = A ∧ k = i then v else aI (fI s, fJ s, fun a k => if a = B ∧ k = j then w else aI s a k, aJ s) a k) := by
    funext a k
    show (if a = B ∧ k = j then w else if a = A ∧ k = i then v else aI s a k) = (if a = A ∧ k = i then v else if a = B ∧ k = j then w else aI s a k)
    by_cases z1 : a = B ∧ k = j
    · rw [if_pos z1, if_neg (fun y => hAB (y.1.symm.trans z1.1)), if_pos z1]
    · rw [if_neg z1]
      by_cases z2 : a = A ∧ k = i
      · rw [if_pos z2, if_pos z2]
      · rw [if_neg z2, if_neg z2, if_neg z1]
  rw [this]
  rfl
theorem uI_vI {s : MS} {A f : Nat} {i v w : Int} : uI (vI' s A i v) f w = vI' (uI s f w) A i v := rfl
theorem vJ_vI {s : MS} {A B : Nat} {i j v w : Int} : vJ' (vI' s A i v) B j w = vI' (vJ' s B j w) A i v := rfl
/-- the model's tags so far -/
def MT (s : MS) (G : Int) (tg : List Int) : Prop := ∀ j : Nat, j < tg.length → aJ s 45 (G + j) = tg.getD j 0
def FO (s2 sD : MS) (l : List TokE) (t2 j o : Nat) (g : Int) : Prop := (∀ (_ : kd l (t2 + 1) = 5) (_ : sI l (t2 + 1) = 44) (_ : j + 1 ≠ 8), Reach s2 (pushS (uI sD 1764447916 ((t2 : Int) + 1 + 1)) 4 0 0 0 0)) ∧ (∀ (_ : kd l (t2 + 1) = 5) (_ : sI l (t2 + 1) = 44) (_ : t2 + 2 < l.length) (_ : j + 1 = 8), Reach s2 (uI (uI sD 1764447916 ((t2 : Int) + 1 + 1)) 1772836524 (pl l (t2 + 2)))) ∧ (∀ (_ : ¬ (kd l (t2 + 1) = 5 ∧ sI l (t2 + 1) = 44)) (_ : ¬ (kd l (t2 + 1) = 5 ∧ sI l (t2 + 1) = 41)), Reach s2 (uI sD 1772836524 (pl l (t2 + 1)))) ∧ (∀ (_ : kd l (t2 + 1) = 5) (_ : sI l (t2 + 1) = 41), Reach s2 (gmodeS (vI' (memS (uI (uI sD 1764447916 ((t2 : Int) + 1 + 1)) 1781225132 ((o : Int) - 1)) g 7 (-1)) 33 (aI s2 38 g) (fI s2 1789613740)) (fI s2 1789613740)))
theorem fo_y {s2 : MS} {t2 j : Nat} {g : Int} (Me : MJ s2 l t2 o PR) (ho24 : o ≤ 24) (g0 : 0 ≤ g) (g61 : g < 580) (ge : fI s2 2066437804 = g + 1) (hgo : aI s2 34 g = 4) (hst : aI s2 35 g = 6) (q : kd l t2 = 3) (gb0 : 0 ≤ aI s2 37 g) (gbm : aI s2 37 g ≤ fI s2 2234209964) (hq3 : fI s2 2234209964 < 482) (hl1' : t2 + 1 < l.length) (hj : fI s2 2234209964 + 1 - aI s2 37 g = (j : Int) + 1) (hls : 0 ≤ fI s2 1848333996) (hls2 : fI s2 1848333996 + fI s2 2234209964 + 1 ≤ 7800) (hgc : inA (aI s2 38 g) 490) (hD : dupS (fI s2 2234209964 - aI s2 37 g).toNat s2 (aI s2 37 g) t2 (wd l t2) = vI' s2 32 t2 2) : FO s2 (vI' (uI (uI (vJ' (vI' s2 44 (fI s2 2234209964) (fI s2 2133546668)) 45 (fI s2 2234209964) (wd l t2)) 2234209964 (fI s2 2234209964 + 1)) 1764447916 ((t2 : Int) + 1)) 32 t2 2) l t2 j o g := by
  have eY : (uI (uI (vJ' (vI' (vI' s2 32 t2 2) 44 (fI s2 2234209964) (fI s2 2133546668)) 45 (fI s2 2234209964) (wd l t2)) 2234209964 (fI s2 2234209964 + 1)) 1764447916 ((t2 : Int) + 1)) = (vI' (uI (uI (vJ' (vI' s2 44 (fI s2 2234209964) (fI s2 2133546668)) 45 (fI s2 2234209964) (wd l t2)) 2234209964 (fI s2 2234209964 + 1)) 1764447916 ((t2 : Int) + 1)) 32 t2 2) := by rw [vI_com (by decide), vJ_vI, uI_vI, uI_vI]
  rw [← eY]
  clear eY
  exact ⟨fun a b c => Reach.one (by rw [ge]; omega) (by have := Me.2.2.1; omega) (step_of ge ⟨g0, by omega⟩ hgo (by decide) (me_morey Me ho24 ge g0 (by omega) hst q hD gb0 gbm hq3 hl1' a b (by omega))), fun a b c e => Reach.one (by rw [ge]; omega) (by have := Me.2.2.1; omega) (step_of ge ⟨g0, by omega⟩ hgo (by decide) (me_fully Me ho24 ge g0 (by omega) hst q hD gb0 gbm hq3 hl1' a b c (by omega))), fun a b => Reach.one (by rw [ge]; omega) (by have := Me.2.2.1; omega) (step_of ge ⟨g0, by omega⟩ hgo (by decide) (me_bady Me ho24 ge g0 (by omega) hst q hD gb0 gbm hq3 hl1' a b)), fun a b => Reach.one (by rw [ge]; omega) (by have := Me.2.2.1; omega) (step_of ge ⟨g0, by omega⟩ hgo (by decide) (me_endy Me ho24 ge g0 (by omega) hst q hD gb0 gbm hq3 hl1' a b (by omega) (by omega) hgc))⟩
theorem fo_n {s2 : MS} {t2 j : Nat} {g : Int} (Me : MJ s2 l t2 o PR) (ho24 : o ≤ 24) (g0 : 0 ≤ g) (g61 : g < 580) (ge : fI s2 2066437804 = g + 1) (hgo : aI s2 34 g = 4) (hst : aI s2 35 g = 6) (q : kd l t2 = 3) (gb0 : 0 ≤ aI s2 37 g) (gbm : aI s2 37 g ≤ fI s2 2234209964) (hq3 : fI s2 2234209964 < 482) (hl1' : t2 + 1 < l.length) (hj : fI s2 2234209964 + 1 - aI s2 37 g = (j : Int) + 1) (hls : 0 ≤ fI s2 1848333996) (hls2 : fI s2 1848333996 + fI s2 2234209964 + 1 ≤ 7800) (hgc : inA (aI s2 38 g) 490) (hD : dupS (fI s2 2234209964 - aI s2 37 g).toNat s2 (aI s2 37 g) t2 (wd l t2) = s2) : FO s2 (uI (uI (vJ' (vI' s2 44 (fI s2 2234209964) (fI s2 2133546668)) 45 (fI s2 2234209964) (wd l t2)) 2234209964 (fI s2 2234209964 + 1)) 1764447916 ((t2 : Int) + 1)) l t2 j o g := ⟨fun a b c => Reach.one (by rw [ge]; omega) (by have := Me.2.2.1; omega) (step_of ge ⟨g0, by omega⟩ hgo (by decide) (me_moren Me ho24 ge g0 (by omega) hst q hD gb0 gbm hq3 hl1' a b (by omega))), fun a b c e => Reach.one (by rw [ge]; omega) (by have := Me.2.2.1; omega) (step_of ge ⟨g0, by omega⟩ hgo (by decide) (me_fulln Me ho24 ge g0 (by omega) hst q hD gb0 gbm hq3 hl1' a b c (by omega))), fun a b => Reach.one (by rw [ge]; omega) (by have := Me.2.2.1; omega) (step_of ge ⟨g0, by omega⟩ hgo (by decide) (me_badn Me ho24 ge g0 (by omega) hst q hD gb0 gbm hq3 hl1' a b)), fun a b => Reach.one (by rw [ge]; omega) (by have := Me.2.2.1; omega) (step_of ge ⟨g0, by omega⟩ hgo (by decide) (me_endn Me ho24 ge g0 (by omega) hst q hD gb0 gbm hq3 hl1' a b (by omega) (by omega) hgc))⟩
theorem fld {s0 s2 : MS} {h3 : PH} {t0 t2 Z j : Nat} {g G T c cl : Int} {q0 r0 ta d : Nat} {P : List (Nat × Int)} {O : Nat → Prop} {ids tg : List Int} (g0 : 0 ≤ g) (g61 : g < 580) (J3 : JD h3 s2 p lx l t2 o PR P X O Z0 Z) (hX : ∀ i, X i → i < t2) (z1 : Z ≤ 85000) (z2 : Z - Z0 ≤ 11850) (q : kd l t2 = 3) (ht3 : t2 + 1 < xc l) (j8 : j < 8) (MQ2 : MeQ s2 g 6 G T ids) (il : ids.length = j) (A3 : TA h3 p ta O tg) (tl : tg.length = j) (mt : MT s2 G tg) (ge : fI s2 2066437804 = g + 1) (hs0 : fI s0 2066437804 = g + 1) (D2 : DQ c cl s0 s2 t0 t2 (g + 1)) (hT : 0 ≤ T ∧ T < 490) : ∃ h5 sD O5 Z5 u, (∀ a4 a5, FA (F (d + 10)) 116204097 85 [vR p, vR q0, vR ta, vI (j : Int), a4, a5] [vI 1] h3 = FA (F (d + 10)) 116204097 144 [vR p, vR q0, vR ta, vI (j : Int), vI (pl l t2), vI (j : Int)] [] h5) ∧ JD h5 sD p lx l (t2 + 1) o PR P X O5 Z0 Z5 ∧ Z5 ≤ Z + 14 ∧ Ev (fun x => W7 p x ∨ x = ta) u h3 h5 ∧ (∀ x, O x → O5 x) ∧ (∀ x, O5 x → O x ∨ hn h3 ≤ x) ∧ TA h5 p ta O5 (tg ++ [wd l t2]) ∧ MeQ sD g 6 G T (ids ++ [fI s2 2133546668]) ∧ MT sD G (tg ++ [wd l t2]) ∧ DQ c cl s0 sD t0 (t2 + 1) (g + 1) ∧ (fI sD 1789613740 = fI s2 1789613740 ∧ aI sD 38 g = aI s2 38 g) ∧ FrW s2 sD ∧ FO s2 sD l t2 j o g ∧ (∀ i : Nat, i < t2 → aI sD 32 i = aI s2 32 i) := by
  have Y := J3.x
  have Me := J3.m
  have hp := J3.hp
  have mme := Me.2.2.2.2
  have tx : t2 < xc l := Y.2.2.2.2.1
  have xll : xc l ≤ l.length := Me.1.1.x
  have hl2 := Me.1.1.2.1
  have ho24 : o ≤ 24 := Y.2.2.2.2.2.1
  have hl1' : t2 + 1 < l.length := by omega
  have e6 : aI s2 37 g = G := MQ2.1.2.2.1
  have e5 : fI s2 2234209964 = G + ids.length := MQ2.2.2.1
  have gb0 : 0 ≤ aI s2 37 g := by rw [e6]; exact MQ2.2.1
  have gbm : aI s2 37 g ≤ fI s2 2234209964 := by omega
  have hq3 : fI s2 2234209964 < 482 := by omega
  have hgc : inA (aI s2 38 g) 490 := by rw [MQ2.1.2.2.2]; exact hT
  have lt6 : t2 < 1000000 := by omega
  have tw : aI s2 32 t2 = 0 := by
    obtain ⟨cs, -, -, -, c4, -⟩ := J3.2.2.2.2.2.2.1
    exact c4 t2 (Nat.le_refl _) (by omega)
  have mlen : (l.length : Int) ≤ 1000000 := by omega
  -- x: the tag is taken, and laid
  have A1 := (XM.rf Y J3.2.1).st (t1 := t2 + 1) ht3
  have ha1 : hc (pI h3 1285834896 p ((t2 + 1 : Nat) : Int)) ta = 66 := A3.1
  have E4 : Ev (fun x => x = p ∨ x = ta) 0 h3 (qJ (pI h3 1285834896 p ((t2 + 1 : Nat) : Int)) ta (j : Int) (wd l t2)) := (A1.1.mono (W' := fun x => x = p ∨ x = ta) (fun _ _ z => Or.inl z) (Nat.le_refl _)).dJ (Or.inl (Or.inr rfl)) (by rw [ha1]; rfl)
  have Ea : Ev (· = ta) 0 (pI h3 1285834896 p ((t2 + 1 : Nat) : Int)) (qJ (pI h3 1285834896 p ((t2 + 1 : Nat) : Int)) ta (j : Int) (wd l t2)) := (Ev.rf A1.2.1.i).dJ (Or.inl rfl) (by rw [ha1]; rfl)
  have X4 := A1.2.1.ev Ea (fun x z => by have := A3.2.2.2.1.1; omega)
  have F4 := A1.2.2.ev A1.2.1 Ea (fun z => by have := A3.2.2.2.1.1; omega)
  have A4 : TA (qJ (pI h3 1285834896 p ((t2 + 1 : Nat) : Int)) ta (j : Int) (wd l t2)) p ta O (tg ++ [wd l t2]) := by
    refine ⟨A3.1, A3.2.1, fun i hi => ?_, A3.2.2.2.1, A3.2.2.2.2⟩
    have hi : i < tg.length + 1 := by simpa using hi
    rw [sJ_qJ]
    by_cases w : i = tg.length
    · rw [if_pos ⟨rfl, by omega⟩, w, gdI_app2]
    · rw [if_neg (fun y => w (by have := y.2; omega)), gdI_app1 (by omega)]
      exact A3.2.2.1 i (by omega)
  have xt : ∀ a4 a5, FA (F (d + 10)) 116204097 85 [vR p, vR q0, vR ta, vI (j : Int), a4, a5] [vI 1] h3 = FA (F (d + 10)) 116204097 102 [vR p, vR q0, vR ta, vI (j : Int), vI (pl l t2), vI ((0 : Nat) : Int)] [] (qJ (pI h3 1285834896 p ((t2 + 1 : Nat) : Int)) ta (j : Int) (wd l t2)) := fun a4 a5 => by
    rw [c_X11_structure_85 _ _ _ _ _ _ _ _ _ Y.g, fpl _ Y, bnd_v, pu_s, c_X11_structure_90 _ _ _ _ _ _ _ _ _ Y.g, f_tagY (d + 4) Y q, bnd_v, pu_s, c_X11_structure_98 _ _ _ _ _ _ _ _ _ _ _ ⟨ha1, by show inA _ (hl h3 ta); rw [A3.2.1]; constructor <;> omega⟩]
    rfl
  generalize hh4 : (qJ (pI h3 1285834896 p ((t2 + 1 : Nat) : Int)) ta (j : Int) (wd l t2)) = h4 at E4 Ea X4 F4 A4 xt
  have n4 : hn h4 = hn h3 := by rw [← hh4]; rfl
  have hW4 : ∀ x, (x = p ∨ x = ta) → ¬ O x ∨ x = p := fun x z => z.elim Or.inr (fun y => Or.inl (by rw [y]; exact A3.2.2.2.2))
  have E4' : Ev (fun x => W7 p x ∨ x = ta) 0 h3 h4 := E4.mono (fun x _ z => z.elim (fun y => Or.inl ⟨by omega, by omega⟩) Or.inr) (Nat.le_refl _)
  have tl1 : (tg ++ [wd l t2]).length = j + 1 := by simp [tl]
  have dj : ∀ i : Nat, i < j → (tg ++ [wd l t2]).getD i 0 = tg.getD i 0 := fun i hi => gdI_app1 (by omega)
  have djj : (tg ++ [wd l t2]).getD j 0 = wd l t2 := by rw [← tl]; exact gdI_app2
  have nj : (fI s2 2234209964 - aI s2 37 g).toNat = j := by omega
  have hj1 : fI s2 2234209964 + 1 - aI s2 37 g = (j : Int) + 1 := by omega
  have hls : 0 ≤ fI s2 1848333996 := by omega
  have hls2 : fI s2 1848333996 + fI s2 2234209964 + 1 ≤ 7800 := by omega
  have a1 : Fr (Lq s2 (g)) (-1) s2 ((uI (uI (vJ' (vI' s2 44 (fI s2 2234209964) (fI s2 2133546668)) 45 (fI s2 2234209964) (wd l t2)) 2234209964 (fI s2 2234209964 + 1)) 1764447916 ((t2 : Int) + 1))) := by
    refine (Fr.uI (Fr.uI (Fr.vJ (Fr.vI Fr.rf (by decide) (Or.inl ?_)) (by decide) ?_) (by decide)) (by decide))
    all_goals (first | exact Int.le_refl _ | (show g ≤ fI s2 2066437804; omega) | (show fI s2 2066437804 - 1 ≤ _; omega) | (show fI s2 2066437804 - 1 ≤ fI s2 2066437804; omega))
  have a2 : Fr (Lm s2) (-1) s2 ((uI (uI (vJ' (vI' s2 44 (fI s2 2234209964) (fI s2 2133546668)) 45 (fI s2 2234209964) (wd l t2)) 2234209964 (fI s2 2234209964 + 1)) 1764447916 ((t2 : Int) + 1))) := by
    refine (Fr.uI (Fr.uI (Fr.vJ (Fr.vI Fr.rf (by decide) (Or.inl ?_)) (by decide) ?_) (by decide)) (by decide))
    all_goals (first | exact Int.le_refl _ | (show g ≤ fI s2 2066437804; omega) | (show fI s2 2066437804 - 1 ≤ _; omega) | (show fI s2 2066437804 - 1 ≤ fI s2 2066437804; omega))
  have M1 : MJ ((uI (uI (vJ' (vI' s2 44 (fI s2 2234209964) (fI s2 2133546668)) 45 (fI s2 2234209964) (wd l t2)) 2234209964 (fI s2 2234209964 + 1)) 1764447916 ((t2 : Int) + 1))) l (t2 + 1) (o) PR := by
    refine Me.fr a1 ?_ (by omega) (by omega) ?_ ?_ ?_ ?_ ?_ ?_
    all_goals (simp (config := {implicitDefEqProofs := false}) only [fI_uI, fI_uJ, fI_vI, fI_vJ, fJ_uI, fJ_uJ, fJ_vI, fJ_vJ, aI_uI, aI_uJ, aI_vI, aI_vJ, aJ_uI, aJ_uJ, aJ_vI, aJ_vJ, bnd_v, bnd_x, pu_s, pu_n, b01_T, b01_F, Int.reduceEq, Int.reduceLT, Int.reduceLE, Int.reduceNe, Nat.reduceEqDiff, Nat.reduceLeDiff, and_false, false_and, and_true, true_and, or_false, false_or, or_true, true_or, if_true, if_false, not_true_eq_false, not_false_eq_true, eq_self, ne_eq, reduceCtorEq, false_implies, true_implies, implies_true, fI_pushS, aI_pushS, aJ_pushS, fI_gmodeS, aI_gmodeS, aJ_gmodeS, fI_modeS, aI_modeS, aJ_modeS, fI_giveS, aI_giveS, Me.1.2.1, Me.2.1, Me.2.2.1]; try omega)
  have D4 : DQ c cl s0 (uI (uI (vJ' (vI' s2 44 (fI s2 2234209964) (fI s2 2133546668)) 45 (fI s2 2234209964) (wd l t2)) 2234209964 (fI s2 2234209964 + 1)) 1764447916 ((t2 : Int) + 1)) t0 (t2 + 1) (g + 1) := by
    refine D2.ctl (t2 := t2 + 1) (by omega) a2 ?_ ?_ ?_ ?_ ?_ ?_
    · simp (config := {implicitDefEqProofs := false}) only [fI_uI, fI_uJ, fI_vI, fI_vJ, fJ_uI, fJ_uJ, fJ_vI, fJ_vJ, aI_uI, aI_uJ, aI_vI, aI_vJ, aJ_uI, aJ_uJ, aJ_vI, aJ_vJ, bnd_v, bnd_x, pu_s, pu_n, b01_T, b01_F, Int.reduceEq, Int.reduceLT, Int.reduceLE, Int.reduceNe, Nat.reduceEqDiff, Nat.reduceLeDiff, and_false, false_and, and_true, true_and, or_false, false_or, or_true, true_or, if_true, if_false, not_true_eq_false, not_false_eq_true, eq_self, ne_eq, reduceCtorEq, false_implies, true_implies, implies_true, fI_pushS, aI_pushS, aJ_pushS, fI_gmodeS, aI_gmodeS, aJ_gmodeS, fI_modeS, aI_modeS, aJ_modeS, fI_giveS, aI_giveS]; exact ge
    · simp (config := {implicitDefEqProofs := false}) only [fI_uI, fI_uJ, fI_vI, fI_vJ, fJ_uI, fJ_uJ, fJ_vI, fJ_vJ, aI_uI, aI_uJ, aI_vI, aI_vJ, aJ_uI, aJ_uJ, aJ_vI, aJ_vJ, bnd_v, bnd_x, pu_s, pu_n, b01_T, b01_F, Int.reduceEq, Int.reduceLT, Int.reduceLE, Int.reduceNe, Nat.reduceEqDiff, Nat.reduceLeDiff, and_false, false_and, and_true, true_and, or_false, false_or, or_true, true_or, if_true, if_false, not_true_eq_false, not_false_eq_true, eq_self, ne_eq, reduceCtorEq, false_implies, true_implies, implies_true, fI_pushS, aI_pushS, aJ_pushS, fI_gmodeS, aI_gmodeS, aJ_gmodeS, fI_modeS, aI_modeS, aJ_modeS, fI_giveS, aI_giveS]
    · simp (config := {implicitDefEqProofs := false}) only [fI_uI, fI_uJ, fI_vI, fI_vJ, fJ_uI, fJ_uJ, fJ_vI, fJ_vJ, aI_uI, aI_uJ, aI_vI, aI_vJ, aJ_uI, aJ_uJ, aJ_vI, aJ_vJ, bnd_v, bnd_x, pu_s, pu_n, b01_T, b01_F, Int.reduceEq, Int.reduceLT, Int.reduceLE, Int.reduceNe, Nat.reduceEqDiff, Nat.reduceLeDiff, and_false, false_and, and_true, true_and, or_false, false_or, or_true, true_or, if_true, if_false, not_true_eq_false, not_false_eq_true, eq_self, ne_eq, reduceCtorEq, false_implies, true_implies, implies_true, fI_pushS, aI_pushS, aJ_pushS, fI_gmodeS, aI_gmodeS, aJ_gmodeS, fI_modeS, aI_modeS, aJ_modeS, fI_giveS, aI_giveS, Me.1.2.1]; omega
    · simp (config := {implicitDefEqProofs := false}) only [fI_uI, fI_uJ, fI_vI, fI_vJ, fJ_uI, fJ_uJ, fJ_vI, fJ_vJ, aI_uI, aI_uJ, aI_vI, aI_vJ, aJ_uI, aJ_uJ, aJ_vI, aJ_vJ, bnd_v, bnd_x, pu_s, pu_n, b01_T, b01_F, Int.reduceEq, Int.reduceLT, Int.reduceLE, Int.reduceNe, Nat.reduceEqDiff, Nat.reduceLeDiff, and_false, false_and, and_true, true_and, or_false, false_or, or_true, true_or, if_true, if_false, not_true_eq_false, not_false_eq_true, eq_self, ne_eq, reduceCtorEq, false_implies, true_implies, implies_true, fI_pushS, aI_pushS, aJ_pushS, fI_gmodeS, aI_gmodeS, aJ_gmodeS, fI_modeS, aI_modeS, aJ_modeS, fI_giveS, aI_giveS]; have := D2.2.2.2.2.1; omega
    · simp (config := {implicitDefEqProofs := false}) only [fI_uI, fI_uJ, fI_vI, fI_vJ, fJ_uI, fJ_uJ, fJ_vI, fJ_vJ, aI_uI, aI_uJ, aI_vI, aI_vJ, aJ_uI, aJ_uJ, aJ_vI, aJ_vJ, bnd_v, bnd_x, pu_s, pu_n, b01_T, b01_F, Int.reduceEq, Int.reduceLT, Int.reduceLE, Int.reduceNe, Nat.reduceEqDiff, Nat.reduceLeDiff, and_false, false_and, and_true, true_and, or_false, false_or, or_true, true_or, if_true, if_false, not_true_eq_false, not_false_eq_true, eq_self, ne_eq, reduceCtorEq, false_implies, true_implies, implies_true, fI_pushS, aI_pushS, aJ_pushS, fI_gmodeS, aI_gmodeS, aJ_gmodeS, fI_modeS, aI_modeS, aJ_modeS, fI_giveS, aI_giveS]; omega
    · simp (config := {implicitDefEqProofs := false}) only [fI_uI, fI_uJ, fI_vI, fI_vJ, fJ_uI, fJ_uJ, fJ_vI, fJ_vJ, aI_uI, aI_uJ, aI_vI, aI_vJ, aJ_uI, aJ_uJ, aJ_vI, aJ_vJ, bnd_v, bnd_x, pu_s, pu_n, b01_T, b01_F, Int.reduceEq, Int.reduceLT, Int.reduceLE, Int.reduceNe, Nat.reduceEqDiff, Nat.reduceLeDiff, and_false, false_and, and_true, true_and, or_false, false_or, or_true, true_or, if_true, if_false, not_true_eq_false, not_false_eq_true, eq_self, ne_eq, reduceCtorEq, false_implies, true_implies, implies_true, fI_pushS, aI_pushS, aJ_pushS, fI_gmodeS, aI_gmodeS, aJ_gmodeS, fI_modeS, aI_modeS, aJ_modeS, fI_giveS, aI_giveS]; omega
  have MQ4 : MeQ (uI (uI (vJ' (vI' s2 44 (fI s2 2234209964) (fI s2 2133546668)) 45 (fI s2 2234209964) (wd l t2)) 2234209964 (fI s2 2234209964 + 1)) 1764447916 ((t2 : Int) + 1)) g 6 G T (ids ++ [fI s2 2133546668]) := by
    refine ⟨⟨?_, ?_, ?_, ?_⟩, MQ2.2.1, ?_, fun i hi => ?_⟩
    · simp (config := {implicitDefEqProofs := false}) only [fI_uI, fI_uJ, fI_vI, fI_vJ, fJ_uI, fJ_uJ, fJ_vI, fJ_vJ, aI_uI, aI_uJ, aI_vI, aI_vJ, aJ_uI, aJ_uJ, aJ_vI, aJ_vJ, bnd_v, bnd_x, pu_s, pu_n, b01_T, b01_F, Int.reduceEq, Int.reduceLT, Int.reduceLE, Int.reduceNe, Nat.reduceEqDiff, Nat.reduceLeDiff, and_false, false_and, and_true, true_and, or_false, false_or, or_true, true_or, if_true, if_false, not_true_eq_false, not_false_eq_true, eq_self, ne_eq, reduceCtorEq, false_implies, true_implies, implies_true, fI_pushS, aI_pushS, aJ_pushS, fI_gmodeS, aI_gmodeS, aJ_gmodeS, fI_modeS, aI_modeS, aJ_modeS, fI_giveS, aI_giveS]; exact MQ2.1.1
    · simp (config := {implicitDefEqProofs := false}) only [fI_uI, fI_uJ, fI_vI, fI_vJ, fJ_uI, fJ_uJ, fJ_vI, fJ_vJ, aI_uI, aI_uJ, aI_vI, aI_vJ, aJ_uI, aJ_uJ, aJ_vI, aJ_vJ, bnd_v, bnd_x, pu_s, pu_n, b01_T, b01_F, Int.reduceEq, Int.reduceLT, Int.reduceLE, Int.reduceNe, Nat.reduceEqDiff, Nat.reduceLeDiff, and_false, false_and, and_true, true_and, or_false, false_or, or_true, true_or, if_true, if_false, not_true_eq_false, not_false_eq_true, eq_self, ne_eq, reduceCtorEq, false_implies, true_implies, implies_true, fI_pushS, aI_pushS, aJ_pushS, fI_gmodeS, aI_gmodeS, aJ_gmodeS, fI_modeS, aI_modeS, aJ_modeS, fI_giveS, aI_giveS]; exact MQ2.1.2.1
    · simp (config := {implicitDefEqProofs := false}) only [fI_uI, fI_uJ, fI_vI, fI_vJ, fJ_uI, fJ_uJ, fJ_vI, fJ_vJ, aI_uI, aI_uJ, aI_vI, aI_vJ, aJ_uI, aJ_uJ, aJ_vI, aJ_vJ, bnd_v, bnd_x, pu_s, pu_n, b01_T, b01_F, Int.reduceEq, Int.reduceLT, Int.reduceLE, Int.reduceNe, Nat.reduceEqDiff, Nat.reduceLeDiff, and_false, false_and, and_true, true_and, or_false, false_or, or_true, true_or, if_true, if_false, not_true_eq_false, not_false_eq_true, eq_self, ne_eq, reduceCtorEq, false_implies, true_implies, implies_true, fI_pushS, aI_pushS, aJ_pushS, fI_gmodeS, aI_gmodeS, aJ_gmodeS, fI_modeS, aI_modeS, aJ_modeS, fI_giveS, aI_giveS]; exact MQ2.1.2.2.1
    · simp (config := {implicitDefEqProofs := false}) only [fI_uI, fI_uJ, fI_vI, fI_vJ, fJ_uI, fJ_uJ, fJ_vI, fJ_vJ, aI_uI, aI_uJ, aI_vI, aI_vJ, aJ_uI, aJ_uJ, aJ_vI, aJ_vJ, bnd_v, bnd_x, pu_s, pu_n, b01_T, b01_F, Int.reduceEq, Int.reduceLT, Int.reduceLE, Int.reduceNe, Nat.reduceEqDiff, Nat.reduceLeDiff, and_false, false_and, and_true, true_and, or_false, false_or, or_true, true_or, if_true, if_false, not_true_eq_false, not_false_eq_true, eq_self, ne_eq, reduceCtorEq, false_implies, true_implies, implies_true, fI_pushS, aI_pushS, aJ_pushS, fI_gmodeS, aI_gmodeS, aJ_gmodeS, fI_modeS, aI_modeS, aJ_modeS, fI_giveS, aI_giveS]; exact MQ2.1.2.2.2
    · simp (config := {implicitDefEqProofs := false}) only [fI_uI, fI_uJ, fI_vI, fI_vJ, fJ_uI, fJ_uJ, fJ_vI, fJ_vJ, aI_uI, aI_uJ, aI_vI, aI_vJ, aJ_uI, aJ_uJ, aJ_vI, aJ_vJ, bnd_v, bnd_x, pu_s, pu_n, b01_T, b01_F, Int.reduceEq, Int.reduceLT, Int.reduceLE, Int.reduceNe, Nat.reduceEqDiff, Nat.reduceLeDiff, and_false, false_and, and_true, true_and, or_false, false_or, or_true, true_or, if_true, if_false, not_true_eq_false, not_false_eq_true, eq_self, ne_eq, reduceCtorEq, false_implies, true_implies, implies_true, fI_pushS, aI_pushS, aJ_pushS, fI_gmodeS, aI_gmodeS, aJ_gmodeS, fI_modeS, aI_modeS, aJ_modeS, fI_giveS, aI_giveS, e5, List.length_append, List.length_singleton]; omega
    · have hi : i < ids.length + 1 := by simpa using hi
      by_cases w : i = ids.length
      · rw [w, gdI_app2]
        simp (config := {implicitDefEqProofs := false}) only [fI_uI, fI_uJ, fI_vI, fI_vJ, fJ_uI, fJ_uJ, fJ_vI, fJ_vJ, aI_uI, aI_uJ, aI_vI, aI_vJ, aJ_uI, aJ_uJ, aJ_vI, aJ_vJ, bnd_v, bnd_x, pu_s, pu_n, b01_T, b01_F, Int.reduceEq, Int.reduceLT, Int.reduceLE, Int.reduceNe, Nat.reduceEqDiff, Nat.reduceLeDiff, and_false, false_and, and_true, true_and, or_false, false_or, or_true, true_or, if_true, if_false, not_true_eq_false, not_false_eq_true, eq_self, ne_eq, reduceCtorEq, false_implies, true_implies, implies_true, fI_pushS, aI_pushS, aJ_pushS, fI_gmodeS, aI_gmodeS, aJ_gmodeS, fI_modeS, aI_modeS, aJ_modeS, fI_giveS, aI_giveS, e5]
      · have e7 : ¬ (G + (i : Int) = G + (ids.length : Int)) := by omega
        rw [gdI_app1 (by omega), ← MQ2.2.2.2 i (by omega)]
        simp (config := {implicitDefEqProofs := false}) only [fI_uI, fI_uJ, fI_vI, fI_vJ, fJ_uI, fJ_uJ, fJ_vI, fJ_vJ, aI_uI, aI_uJ, aI_vI, aI_vJ, aJ_uI, aJ_uJ, aJ_vI, aJ_vJ, bnd_v, bnd_x, pu_s, pu_n, b01_T, b01_F, Int.reduceEq, Int.reduceLT, Int.reduceLE, Int.reduceNe, Nat.reduceEqDiff, Nat.reduceLeDiff, and_false, false_and, and_true, true_and, or_false, false_or, or_true, true_or, if_true, if_false, not_true_eq_false, not_false_eq_true, eq_self, ne_eq, reduceCtorEq, false_implies, true_implies, implies_true, fI_pushS, aI_pushS, aJ_pushS, fI_gmodeS, aI_gmodeS, aJ_gmodeS, fI_modeS, aI_modeS, aJ_modeS, fI_giveS, aI_giveS, e5, e7]
  have mt4 : MT (uI (uI (vJ' (vI' s2 44 (fI s2 2234209964) (fI s2 2133546668)) 45 (fI s2 2234209964) (wd l t2)) 2234209964 (fI s2 2234209964 + 1)) 1764447916 ((t2 : Int) + 1)) G (tg ++ [wd l t2]) := fun i hi => by
    have hi : i < tg.length + 1 := by simpa using hi
    by_cases w : i = tg.length
    · have e8 : G + (i : Int) = G + (ids.length : Int) := by omega
      rw [w, gdI_app2, ← w, e8]
      simp (config := {implicitDefEqProofs := false}) only [fI_uI, fI_uJ, fI_vI, fI_vJ, fJ_uI, fJ_uJ, fJ_vI, fJ_vJ, aI_uI, aI_uJ, aI_vI, aI_vJ, aJ_uI, aJ_uJ, aJ_vI, aJ_vJ, bnd_v, bnd_x, pu_s, pu_n, b01_T, b01_F, Int.reduceEq, Int.reduceLT, Int.reduceLE, Int.reduceNe, Nat.reduceEqDiff, Nat.reduceLeDiff, and_false, false_and, and_true, true_and, or_false, false_or, or_true, true_or, if_true, if_false, not_true_eq_false, not_false_eq_true, eq_self, ne_eq, reduceCtorEq, false_implies, true_implies, implies_true, fI_pushS, aI_pushS, aJ_pushS, fI_gmodeS, aI_gmodeS, aJ_gmodeS, fI_modeS, aI_modeS, aJ_modeS, fI_giveS, aI_giveS, e5]
    · have e7 : ¬ (G + (i : Int) = G + (ids.length : Int)) := by omega
      rw [gdI_app1 (by omega), ← mt i (by omega)]
      simp (config := {implicitDefEqProofs := false}) only [fI_uI, fI_uJ, fI_vI, fI_vJ, fJ_uI, fJ_uJ, fJ_vI, fJ_vJ, aI_uI, aI_uJ, aI_vI, aI_vJ, aJ_uI, aJ_uJ, aJ_vI, aJ_vJ, bnd_v, bnd_x, pu_s, pu_n, b01_T, b01_F, Int.reduceEq, Int.reduceLT, Int.reduceLE, Int.reduceNe, Nat.reduceEqDiff, Nat.reduceLeDiff, and_false, false_and, and_true, true_and, or_false, false_or, or_true, true_or, if_true, if_false, not_true_eq_false, not_false_eq_true, eq_self, ne_eq, reduceCtorEq, false_implies, true_implies, implies_true, fI_pushS, aI_pushS, aJ_pushS, fI_gmodeS, aI_gmodeS, aJ_gmodeS, fI_modeS, aI_modeS, aJ_modeS, fI_giveS, aI_giveS, e5, e7]
  have g4 : fI (uI (uI (vJ' (vI' s2 44 (fI s2 2234209964) (fI s2 2133546668)) 45 (fI s2 2234209964) (wd l t2)) 2234209964 (fI s2 2234209964 + 1)) 1764447916 ((t2 : Int) + 1)) 1789613740 = fI s2 1789613740 ∧ aI (uI (uI (vJ' (vI' s2 44 (fI s2 2234209964) (fI s2 2133546668)) 45 (fI s2 2234209964) (wd l t2)) 2234209964 (fI s2 2234209964 + 1)) 1764447916 ((t2 : Int) + 1)) 38 g = aI s2 38 g := by simp (config := {implicitDefEqProofs := false}) only [fI_uI, fI_uJ, fI_vI, fI_vJ, fJ_uI, fJ_uJ, fJ_vI, fJ_vJ, aI_uI, aI_uJ, aI_vI, aI_vJ, aJ_uI, aJ_uJ, aJ_vI, aJ_vJ, bnd_v, bnd_x, pu_s, pu_n, b01_T, b01_F, Int.reduceEq, Int.reduceLT, Int.reduceLE, Int.reduceNe, Nat.reduceEqDiff, Nat.reduceLeDiff, and_false, false_and, and_true, true_and, or_false, false_or, or_true, true_or, if_true, if_false, not_true_eq_false, not_false_eq_true, eq_self, ne_eq, reduceCtorEq, false_implies, true_implies, implies_true, fI_pushS, aI_pushS, aJ_pushS, fI_gmodeS, aI_gmodeS, aJ_gmodeS, fI_modeS, aI_modeS, aJ_modeS, fI_giveS, aI_giveS]
  have nx1 : fI s2 1789613740 ≤ fI (uI (uI (vJ' (vI' s2 44 (fI s2 2234209964) (fI s2 2133546668)) 45 (fI s2 2234209964) (wd l t2)) 2234209964 (fI s2 2234209964 + 1)) 1764447916 ((t2 : Int) + 1)) 1789613740 := by simp (config := {implicitDefEqProofs := false}) only [fI_uI, fI_uJ, fI_vI, fI_vJ, fJ_uI, fJ_uJ, fJ_vI, fJ_vJ, aI_uI, aI_uJ, aI_vI, aI_vJ, aJ_uI, aJ_uJ, aJ_vI, aJ_vJ, bnd_v, bnd_x, pu_s, pu_n, b01_T, b01_F, Int.reduceEq, Int.reduceLT, Int.reduceLE, Int.reduceNe, Nat.reduceEqDiff, Nat.reduceLeDiff, and_false, false_and, and_true, true_and, or_false, false_or, or_true, true_or, if_true, if_false, not_true_eq_false, not_false_eq_true, eq_self, ne_eq, reduceCtorEq, false_implies, true_implies, implies_true, fI_pushS, aI_pushS, aJ_pushS, fI_gmodeS, aI_gmodeS, aJ_gmodeS, fI_modeS, aI_modeS, aJ_modeS, fI_giveS, aI_giveS]; exact Int.le_refl _
  have nx2 : fI s2 1848333996 ≤ fI (uI (uI (vJ' (vI' s2 44 (fI s2 2234209964) (fI s2 2133546668)) 45 (fI s2 2234209964) (wd l t2)) 2234209964 (fI s2 2234209964 + 1)) 1764447916 ((t2 : Int) + 1)) 1848333996 := by simp (config := {implicitDefEqProofs := false}) only [fI_uI, fI_uJ, fI_vI, fI_vJ, fJ_uI, fJ_uJ, fJ_vI, fJ_vJ, aI_uI, aI_uJ, aI_vI, aI_vJ, aJ_uI, aJ_uJ, aJ_vI, aJ_vJ, bnd_v, bnd_x, pu_s, pu_n, b01_T, b01_F, Int.reduceEq, Int.reduceLT, Int.reduceLE, Int.reduceNe, Nat.reduceEqDiff, Nat.reduceLeDiff, and_false, false_and, and_true, true_and, or_false, false_or, or_true, true_or, if_true, if_false, not_true_eq_false, not_false_eq_true, eq_self, ne_eq, reduceCtorEq, false_implies, true_implies, implies_true, fI_pushS, aI_pushS, aJ_pushS, fI_gmodeS, aI_gmodeS, aJ_gmodeS, fI_modeS, aI_modeS, aJ_modeS, fI_giveS, aI_giveS]; exact Int.le_refl _
  have tw4 : aI (uI (uI (vJ' (vI' s2 44 (fI s2 2234209964) (fI s2 2133546668)) 45 (fI s2 2234209964) (wd l t2)) 2234209964 (fI s2 2234209964 + 1)) 1764447916 ((t2 : Int) + 1)) 32 t2 = 0 := by simp (config := {implicitDefEqProofs := false}) only [fI_uI, fI_uJ, fI_vI, fI_vJ, fJ_uI, fJ_uJ, fJ_vI, fJ_vJ, aI_uI, aI_uJ, aI_vI, aI_vJ, aJ_uI, aJ_uJ, aJ_vI, aJ_vJ, bnd_v, bnd_x, pu_s, pu_n, b01_T, b01_F, Int.reduceEq, Int.reduceLT, Int.reduceLE, Int.reduceNe, Nat.reduceEqDiff, Nat.reduceLeDiff, and_false, false_and, and_true, true_and, or_false, false_or, or_true, true_or, if_true, if_false, not_true_eq_false, not_false_eq_true, eq_self, ne_eq, reduceCtorEq, false_implies, true_implies, implies_true, fI_pushS, aI_pushS, aJ_pushS, fI_gmodeS, aI_gmodeS, aJ_gmodeS, fI_modeS, aI_modeS, aJ_modeS, fI_giveS, aI_giveS]; exact tw
  have tk4 : ∀ i : Nat, i < t2 → aI (uI (uI (vJ' (vI' s2 44 (fI s2 2234209964) (fI s2 2133546668)) 45 (fI s2 2234209964) (wd l t2)) 2234209964 (fI s2 2234209964 + 1)) 1764447916 ((t2 : Int) + 1)) 32 i = aI s2 32 i := fun i hi => by simp (config := {implicitDefEqProofs := false}) only [fI_uI, fI_uJ, fI_vI, fI_vJ, fJ_uI, fJ_uJ, fJ_vI, fJ_vJ, aI_uI, aI_uJ, aI_vI, aI_vJ, aJ_uI, aJ_uJ, aJ_vI, aJ_vJ, bnd_v, bnd_x, pu_s, pu_n, b01_T, b01_F, Int.reduceEq, Int.reduceLT, Int.reduceLE, Int.reduceNe, Nat.reduceEqDiff, Nat.reduceLeDiff, and_false, false_and, and_true, true_and, or_false, false_or, or_true, true_or, if_true, if_false, not_true_eq_false, not_false_eq_true, eq_self, ne_eq, reduceCtorEq, false_implies, true_implies, implies_true, fI_pushS, aI_pushS, aJ_pushS, fI_gmodeS, aI_gmodeS, aJ_gmodeS, fI_modeS, aI_modeS, aJ_modeS, fI_giveS, aI_giveS]
  have fw := frm Me a2
  have J4 := J3.step E4 hW4 X4 F4 a1 M1 (by omega) (Int.le_refl _) (Int.le_refl _) mlen nx1 nx2
  by_cases dup : ∃ i : Nat, i < j ∧ tg.getD i 0 = wd l t2
  · have RE := fo_y Me ho24 g0 g61 ge MQ2.1.1 MQ2.1.2.1 q gb0 gbm hq3 hl1' hj1 hls hls2 hgc (by
      obtain ⟨i, i1, i2⟩ := dup
      rw [nj]
      exact dupS_y j s2 _ _ _ i i1 (by rw [e6, mt i (by omega)]; exact i2))
    have J5 := J4.mark (A := 32) (k := t2) (w := 2) (by decide) (by omega) (Or.inr tw4)
    have av : Fr (fun c => if c = 11 then (t2 : Int) else 1000000) (-1) (uI (uI (vJ' (vI' s2 44 (fI s2 2234209964) (fI s2 2133546668)) 45 (fI s2 2234209964) (wd l t2)) 2234209964 (fI s2 2234209964 + 1)) 1764447916 ((t2 : Int) + 1)) (vI' (uI (uI (vJ' (vI' s2 44 (fI s2 2234209964) (fI s2 2133546668)) 45 (fI s2 2234209964) (wd l t2)) 2234209964 (fI s2 2234209964 + 1)) 1764447916 ((t2 : Int) + 1)) 32 t2 2) := Fr.rf.vI (by decide) (Or.inl (Int.le_refl _))
    have D5 : DQ c cl s0 (vI' (uI (uI (vJ' (vI' s2 44 (fI s2 2234209964) (fI s2 2133546668)) 45 (fI s2 2234209964) (wd l t2)) 2234209964 (fI s2 2234209964 + 1)) 1764447916 ((t2 : Int) + 1)) 32 t2 2) t0 (t2 + 1) (g + 1) := by
      refine ⟨D4.1.vI (by decide) (Or.inl ?_), D4.2⟩
      show fI s0 1764447916 ≤ _
      have := D2.2.2.2.1
      rw [Me.1.2.1] at this
      exact this
    have MQ5 : MeQ (vI' (uI (uI (vJ' (vI' s2 44 (fI s2 2234209964) (fI s2 2133546668)) 45 (fI s2 2234209964) (wd l t2)) 2234209964 (fI s2 2234209964 + 1)) 1764447916 ((t2 : Int) + 1)) 32 t2 2) g 6 G T (ids ++ [fI s2 2133546668]) := MQ4
    have tw5 : aI (vI' (uI (uI (vJ' (vI' s2 44 (fI s2 2234209964) (fI s2 2133546668)) 45 (fI s2 2234209964) (wd l t2)) 2234209964 (fI s2 2234209964 + 1)) 1764447916 ((t2 : Int) + 1)) 32 t2 2) 32 t2 = 2 := if_pos ⟨rfl, rfl⟩
    have fw5 : FrW s2 (vI' (uI (uI (vJ' (vI' s2 44 (fI s2 2234209964) (fI s2 2133546668)) 45 (fI s2 2234209964) (wd l t2)) 2234209964 (fI s2 2234209964 + 1)) 1764447916 ((t2 : Int) + 1)) 32 t2 2) := fw.tr ⟨fun A i hA => by
      refine ⟨?_, rfl⟩
      rw [aI_vI, if_neg]
      rintro ⟨w, -⟩
      rw [w] at hA
      rcases hA with z | ⟨z, -⟩ | ⟨z, -⟩ | ⟨z, -⟩ <;> exact absurd z (by decide), fun _ _ => rfl, fun _ => rfl⟩
    have tk5 : ∀ i : Nat, i < t2 → aI (vI' (uI (uI (vJ' (vI' s2 44 (fI s2 2234209964) (fI s2 2133546668)) 45 (fI s2 2234209964) (wd l t2)) 2234209964 (fI s2 2234209964 + 1)) 1764447916 ((t2 : Int) + 1)) 32 t2 2) 32 i = aI s2 32 i := fun i hi => by rw [aI_vI, if_neg (fun w => by have := w.2; omega)]; exact tk4 i hi
    have mt5 : MT (vI' (uI (uI (vJ' (vI' s2 44 (fI s2 2234209964) (fI s2 2133546668)) 45 (fI s2 2234209964) (wd l t2)) 2234209964 (fI s2 2234209964 + 1)) 1764447916 ((t2 : Int) + 1)) 32 t2 2) G (tg ++ [wd l t2]) := mt4
    have g5 : fI (vI' (uI (uI (vJ' (vI' s2 44 (fI s2 2234209964) (fI s2 2133546668)) 45 (fI s2 2234209964) (wd l t2)) 2234209964 (fI s2 2234209964 + 1)) 1764447916 ((t2 : Int) + 1)) 32 t2 2) 1789613740 = fI s2 1789613740 ∧ aI (vI' (uI (uI (vJ' (vI' s2 44 (fI s2 2234209964) (fI s2 2133546668)) 45 (fI s2 2234209964) (wd l t2)) 2234209964 (fI s2 2234209964 + 1)) 1764447916 ((t2 : Int) + 1)) 32 t2 2) 38 g = aI s2 38 g := g4
    clear a1 a2 M1 D4 MQ4 mt4 g4 nx1 nx2 tw4 fw J4 av tk4
    generalize hsd : (vI' (uI (uI (vJ' (vI' s2 44 (fI s2 2234209964) (fI s2 2133546668)) 45 (fI s2 2234209964) (wd l t2)) 2234209964 (fI s2 2234209964 + 1)) 1764447916 ((t2 : Int) + 1)) 32 t2 2) = sD at RE J5 D5 MQ5 tw5 fw5 mt5 g5 tk5
    clear hsd
    obtain ⟨h5, O5, Z5, u5, Xr, r1, r2, r3, r4, r5, r6, r7, r8, r9⟩ := dup_y (q0 := q0) (d := d) (X := X) (t2 := t2) (j := j) tl1 j8 (by omega) (fun w => Nat.lt_irrefl _ (hX _ w)) tw5 j 0 h4 O _ (Z + 0) (by omega) J5 (by omega) (by omega) A4 (fun i w => Or.inl w) (fun i w => w)
    have eXr : Xr = X := r9 (Or.inl (by
      obtain ⟨i, i1, i2⟩ := dup
      exact ⟨i, Nat.zero_le _, i1, by rw [dj i i1, djj]; exact i2⟩))
    subst eXr
    refine ⟨h5, sD, O5, Z5, _, fun a4 a5 => (xt a4 a5).trans r1, r2, by omega, E4'.tr (r4.mono (W' := fun x => W7 p x ∨ x = ta) (fun _ _ w => Or.inl w) (Nat.le_refl _)) (fun _ _ w => w), r5, fun x w => by rw [← n4]; exact r6 x w, A4.ev r4 (fun w => by have := w.2; have := A3.2.2.2.1.1; omega) r6, MQ5, mt5, D5, g5, fw5, RE, tk5⟩
  · have nd : ∀ i : Nat, i < j → tg.getD i 0 ≠ wd l t2 := fun i hi w => dup ⟨i, hi, w⟩
    have RE := fo_n Me ho24 g0 g61 ge MQ2.1.1 MQ2.1.2.1 q gb0 gbm hq3 hl1' hj1 hls hls2 hgc (by
      rw [nj]
      exact dupS_n j s2 _ _ _ (fun i hi => by rw [e6, mt i (by omega)]; exact nd i hi))
    have xd := dup_n (F (d + 10)) (q0 := q0) (pp := pl l t2) A4 tl1 j8 j 0 (by omega) (fun i _ hi => by rw [dj i hi, djj]; exact nd i hi)
    refine ⟨h4, (uI (uI (vJ' (vI' s2 44 (fI s2 2234209964) (fI s2 2133546668)) 45 (fI s2 2234209964) (wd l t2)) 2234209964 (fI s2 2234209964 + 1)) 1764447916 ((t2 : Int) + 1)), O, Z + 0, 0, fun a4 a5 => (xt a4 a5).trans xd, J4, by omega, E4', fun _ w => w, fun _ w => Or.inl w, A4, MQ4, mt4, D4, g4, fw, RE, tk4⟩
end DF2
