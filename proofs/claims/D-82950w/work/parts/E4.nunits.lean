/-! READING NODES: units behind commas, in calls -/
set_option maxRecDepth 100000
set_option maxHeartbeats 1000000
section ULC
variable {hG hP h h1 : PH} {sG sP s S s1 : MS} {p lx t tP o t1 o1 : Nat} {l : List TokE} {PR g n i0 i2 k tk a b c md tg Pl cc a0 : Int} {P PP P1 : List (Nat × Int)} {O OP O1 W X : Nat → Prop} {Z0 ZM u y y1 q0 r q2 tg' b0 : Nat} {v w : Int} {dl : List Nat} {R00 : Int × Nat → Prop} {ks : List (Int × Nat)} {fi fj : Nat → Int} {fr : Nat → Nat} {rr : Rs}
/-- from the start of a node on -/
def LI (cc i0 : Int) (p : Nat) (G : Int) (hP : PH) (sP : MS) (tP : Nat) (PP : List (Nat × Int)) (OP : Nat → Prop) (h : PH) (s : MS) (t : Nat) (P : List (Nat × Int)) (O : Nat → Prop) : Prop := Reach sP s ∧ NPo i0 (-1) G sP s ∧ (∃ u, Ev (Wp p) u hP h) ∧ Gw hP PP OP P O ∧ tP ≤ t ∧ fI s 1915442860 + tP ≤ fI sP 1915442860 + t + cc
/-- goals below are as they were -/
def GFr (sR s : MS) (g : Int) : Prop := ∀ A j, clA A = 1 → 0 ≤ j → j < g → aI s A j = aI sR A j ∧ aJ s A j = aJ sR A j
theorem GFr.rf : GFr s s g := fun _ _ _ _ _ => ⟨rfl, rfl⟩
theorem GFr.po {s2 : MS} {g1 : Int} (a : GFr s s1 g) (N : NPo v w g1 s1 s2) (hg : g ≤ fI s1 2066437804 - 1) : GFr s s2 g := fun A j hA h0 h2 => by
  have x := a A j hA h0 h2
  have y := N.gl hA h0 (show j < fI s1 2066437804 - 1 by omega)
  exact ⟨y.1.trans x.1, y.2.trans x.2⟩
theorem pn_chl {k2 bb c2' : Int} (J : JNX Xe hG sG p lx l PR Z0 ZM h s t o P O dl y) (Pd : Pnd h s l P (ON p O) PR (RB R00 n q0 a0 b0) (Rg a0 (fI s 1915442860) b0 (hn h)) ks i2 q2 n q0 r k tk a b c md tg tg' Pl fi fj fr) (hR : ∀ e, R00 e → 0 ≤ e.1 ∧ e.1 < n ∧ e.2 < q0) (ha : n + 1 ≤ a0 ∧ a0 ≤ fI s 1915442860) (hb : q0 + 2 ≤ b0 ∧ b0 ≤ hn h) (G : SG (aI s 21 n) n g s S t1 o1) (c1 : aI S 20 n = aI (childS s n (fI s 2125158060)) 20 n) (c2 : aI S 21 n = aI (childS s n (fI s 2125158060)) 21 n) (c3 : ∀ j, aI S 22 j = aI (childS s n (fI s 2125158060)) 22 j) (c4 : fI S 1915442860 = fI s 1915442860) (at' : n ≠ aI s 21 n → AtM s n k tk a b c md tg → AtM S n k2 tk a bb c2' md tg) (E : XU (· = p) u h h1 p lx l t1 o1) (q0p : p + 6 < q0) (rp : p + 6 < r) (t34 : inT 11 34 tg') (ht : t ≤ t1) (nm : NMP l t t1) (hy : y1 + u ≤ y + 24 * (t1 - t)) (hm : fI s 1915442860 + fI s 2217432748 + fI s 2192266924 ≤ t1 + o1 + 1) : JN hG sG p lx l PR Z0 ZM h1 S t1 o1 P O dl y1 ∧ Bld h1 S l P (ON p O) PR (RB R00 n q0 (fI S 1915442860) (hn h1)) (ks ++ [(i2, q2)]) n q0 r k2 tk a bb c2' md tg tg' Pl fi fj fr ∧ (ks ≠ [] → aI s 21 n ∈ ks.map (·.1)) := by
  obtain ⟨B1, ⟨D2, vl⟩, B2, B3, B4, B5⟩ := Pd
  have n0 := B2.1.1
  have dis : ∀ e e', RB R00 n q0 a0 b0 e → Rg a0 (fI s 1915442860) b0 (hn h) e' → e.1 ≠ e'.1 ∧ e.2 ≠ e'.2 := fun e e' z z' => by
    obtain ⟨z1, z2, z3, z4⟩ := z'
    rcases z with z | ⟨y1, y2, y3, y4⟩
    · have := hR e z; constructor <;> omega
    · constructor <;> omega
  have nR : ∀ e, RB R00 n q0 a0 b0 e → e.1 ≠ n := fun e z => by
    rcases z with z | ⟨y1, y2, y3, y4⟩
    · have := hR e z; omega
    · omega
  have nR2 : ∀ e, Rg a0 (fI s 1915442860) b0 (hn h) e → e.1 ≠ n ∧ 0 ≤ e.1 := fun e z => by
    obtain ⟨z1, z2, z3, z4⟩ := z
    constructor <;> omega
  rw [vl] at c1 c2 c3
  obtain ⟨J4, K4, U4⟩ := chl J B1 D2 dis B2 (fun b z => nR _ z rfl) (fun b z => (nR2 _ z).1 rfl) (fun e z => (nR2 e z).2) G c1 c2 c3 c4 E (fun x z => Or.inr z) ht nm hy hm
  have lm : ks ≠ [] → aI s 21 n ∈ ks.map (·.1) := fun z => by
    cases e : (ks.map (·.1)).getLast? with
    | none => rw [List.getLast?_eq_none_iff] at e; exact absurd (List.map_eq_nil_iff.mp e) z
    | some c => rw [B2.2.2.1 c e]; exact List.mem_of_getLast? e
  have nl : n ≠ aI s 21 n := by
    by_cases z : ks = []
    · have := B2.2.2.2.2.2 (by rw [z]; rfl); omega
    · obtain ⟨e', e1, e2⟩ := List.mem_map.mp (lm z)
      exact fun y => nR e' (B1.1 e' e1).2.2 (e2.trans y.symm)
  have n5 := XU.nf B4 E.1 J.i (by omega) t34
  have al5 := E.1.al J.x.c (show ¬ (r = p) by omega) (fun z => J.p0 z.symm) B5
  have hn1 := E.1.1.1
  refine ⟨J4, ⟨K4.up (fun e z => ?_), U4, at' nl B3, n5, by rw [List.map_append]; exact al5⟩, lm⟩
  rcases z with (z | ⟨y1, y2, y3, y4⟩) | ⟨z1, z2, z3, z4⟩
  · exact Or.inl z
  · exact Or.inr ⟨y1, by rw [c4]; omega, y3, by omega⟩
  · exact Or.inr ⟨by omega, by rw [c4]; exact z2, by omega, by omega⟩
theorem w32_sz {m : Nat} (h : m < 100) : w32 (((m + 1 : Nat) : Int) - 1) = m := by rw [w32_id (by omega) (by omega)]; omega
/-- the units of a call -/
theorem ul_call {kk d : Nat} {sR : MS} (U : UnitC kk) (hK : 24 ≤ o + kk) (hD : 60 * (24 - o) ≤ d) (hR : ∀ e, R00 e → 0 ≤ e.1 ∧ e.1 < n ∧ e.2 < q0) (q0p : p + 6 < q0) (rp : p + 6 < r) (t34 : inT 11 34 tg') (hq0 : hn hP ≤ q0) (hr0 : hn hP ≤ r) (hnP : fI sP 1915442860 ≤ n) (g0 : 0 ≤ g) (hgo : g + 1 ≤ 20 * o + 6) (hgP : fI sP 2066437804 ≤ g + 1) : ∀ (N : Nat) (h : PH) (s : MS) (t : Nat) (P : List (Nat × Int)) (O : Nat → Prop) (dl : List Nat) (ks : List (Int × Nat)) (i2 : Int) (q2 : Nat) (a0 : Int) (b0 : Nat), xc l - t ≤ N → JN hG sG p lx l PR Z0 ZM h s t o P O dl y → GP s g 8 1 → aI s 36 g = n → aI s 37 g = ks.length → (1 ≤ ks.length ∧ ks.length ≤ 8) → (∀ e ∈ ks, e.1 = i0 ∨ fI sP 1915442860 ≤ e.1) → Pnd h s l P (ON p O) PR (RB R00 n q0 a0 b0) (Rg a0 (fI s 1915442860) b0 (hn h)) ks i2 q2 n q0 r k tk a b c md tg tg' Pl fi fj fr → (n + 1 ≤ a0 ∧ a0 ≤ fI s 1915442860) → (q0 + 2 ≤ b0 ∧ b0 ≤ hn h) → (¬ O r ∧ ¬ O q0) → LI 0 i0 p (g + 1) hP sP tP PP OP h s t P O → GFr sR s g → BN hG sG p l Z0 ZM (FA (F (d + 301)) 109912643 0 [vR p, vR q0, vI 1] [] h) sP ∨ ∃ h' s' t' P' O' dl' ks' i' q' a' b', FA (F (d + 301)) 109912643 0 [vR p, vR q0, vI 1] [] h = some (.inl none, h') ∧ ¬ (kd l t' = 5 ∧ sI l t' = 44) ∧ JN hG sG p lx l PR Z0 ZM h' s' t' o P' O' dl' y ∧ GP s' g 8 1 ∧ aI s' 36 g = n ∧ (1 ≤ ks'.length ∧ ks'.length ≤ 8) ∧ (∀ e ∈ ks', e.1 = i0 ∨ fI sP 1915442860 ≤ e.1) ∧ Pnd h' s' l P' (ON p O') PR (RB R00 n q0 a' b') (Rg a' (fI s' 1915442860) b' (hn h')) ks' i' q' n q0 r k tk a b c md tg tg' Pl fi fj fr ∧ (n + 1 ≤ a' ∧ a' ≤ fI s' 1915442860) ∧ (q0 + 2 ≤ b' ∧ b' ≤ hn h') ∧ (¬ O' r ∧ ¬ O' q0) ∧ LI 0 i0 p (g + 1) hP sP tP PP OP h' s' t' P' O' ∧ GFr sR s' g
  | 0, h, s, t, P, O, dl, ks, i2, q2, a0, b0, hN, J, _, _, _, _, _, _, _, _, _, _, _ => by
    have := (JNX.m J).1.2.2
    omega
  | N + 1, h, s, t, P, O, dl, ks, i2, q2, a0, b0, hN, J, G, hga, hgb, len, hk, Pd, ha, hb, hO, L, Q => by
    have M := JNX.m J
    have Y := JNX.x J
    have F0 := JNX.f J
    have cn := JNX.c J
    have hxt : t < xc l := M.1.2.2
    have xl : xc l ≤ l.length := M.1.1.x
    have hl2 := M.1.1.2.1
    have ho24 : o ≤ 24 := Y.2.2.2.2.2.1
    have rm := JNX.room J
    have hp := JNX.hp J
    have c0 := cn.1
    have cm := cn.2.2.1
    by_cases q : kd l t = 5 ∧ sI l t = 44
    · obtain ⟨c1, c2⟩ := q
      have hl1 : t + 1 < xc l := Y.next hxt (by rw [c1]; decide) (by rw [c1]; decide)
      have X1 := (XU.rf (W := (· = p)) Y F0).st rfl (t1 := t + 1) hl1
      have ok := Pd.2.2.1.ok (by omega)
      have pt : gR h 748831790 q0 = r := Pd.2.2.2.2.1.2.1
      have tq : hc h q0 = tg' := Pd.2.2.2.2.1.1
      have al1 := X1.1.al Y.c (show ¬ (r = p) by omega) (fun z => JNX.p0 J z.symm) Pd.2.2.2.2.2
      have sz := fun d => f_size d al1
      rw [List.length_append, List.length_map, List.length_singleton] at sz
      have t34' : inT 11 34 (hc h q0) := by rw [tq]; exact t34
      have r48 : hc h r = 48 := Pd.2.2.2.2.2.1
      have hne : ¬ (q0 = p) := by omega
      have hpne : ¬ (r = p) := by omega
      by_cases q8 : ks.length = 8
      · left
        obtain ⟨hg1, g0', hgo', hz⟩ := G
        have RC : Reach s (uI (uI (childS s (aI s 36 g) (fI s 2125158060)) 1764447916 ((t : Int) + 1)) 1772836524 (pl l (t + 1))) := Reach.one (by rw [hg1]; omega) (by have := M.2.2.1; omega) (step_of hg1 ⟨g0', by omega⟩ hgo' (by decide) (mc1_coF M cn ho24 hg1 g0' (by omega) hz (by rw [hga]; exact ok.1.1) (by rw [hga]; exact ok.1.2) (by rw [hga]; exact ok.2) c1 c2 (by omega) (by rw [hgb, q8]; rfl)))
        obtain ⟨e, h1, w1, w2, w3⟩ := f_wrong (d + 296) X1.2.1 (X1.rm rm (by omega))
        have w2' : hc h1 e = 44 := w2.1
        have fw : FrW s (uI (uI (childS s (aI s 36 g) (fI s 2125158060)) 1764447916 ((t : Int) + 1)) 1772836524 (pl l (t + 1))) := (Fr.uI (Fr.uI (Fr.child (Fr.rf (L := fun c => if c = 2 ∨ c = 12 then -1 else Lm s c) (v := -1)) (by show (-1 : Int) ≤ aI s 36 g; rw [hga]; have := ok.1.1; omega) (fun z => Or.inl (by show (-1 : Int) ≤ aI s 21 (aI s 36 g); rw [hga] at z ⊢; rcases ok.2 with y | y <;> omega))) (by decide)) (by decide)).w (by have := M.2.2.2; show _ ≤ fI s 1789613740; omega) (by have := M.2.2.2; show _ ≤ fI s 1848333996; omega) (by have := M.2.2.2; show _ ≤ fI s 2024494764; omega)
        refine (JNX.now J X1.1 (fun _ z => Or.inr z) (by omega) ⟨e, h1, ?_, w2, w3⟩ hl1 RC (by simp (config := {implicitDefEqProofs := false}) only [bnd_v, bnd_x, pu_s, pu_n, b01_T, b01_F, Int.reduceEq, Int.reduceLT, Int.reduceLE, Int.reduceNe, Nat.reduceEqDiff, Nat.reduceLeDiff, and_false, false_and, and_true, true_and, or_false, false_or, or_true, true_or, if_true, if_false, not_true_eq_false, not_false_eq_true, eq_self, ne_eq, reduceCtorEq, false_implies, true_implies, implies_true, fI_uI, fI_uJ, fI_vI, fI_vJ, fJ_uI, fJ_uJ, fJ_vI, fJ_vJ, aI_uI, aI_uJ, aI_vI, aI_vJ, aJ_uI, aJ_uJ, aJ_vI, aJ_vJ, fI_nodeS, aI_nodeS, aJ_nodeS, fI_modeS, aI_modeS, aJ_modeS, fI_pushS, aI_pushS, aJ_pushS, fI_giveS, aI_giveS, aJ_giveS, fI_gmodeS, aI_gmodeS, aJ_gmodeS, fI_childS, aI_childS, aJ_childS]) fw).up L.1 (fun e h' z => z)
        simp (config := {implicitDefEqProofs := false}) only [e_X11_units, c_X11_units_0, c_X11_units_7, c_X11_units_10, c_X11_units_17, c_X11_units_24, c_X11_units_28, c_X11_units_29, c_X11_units_34, c_X11_units_37, c_X11_units_41, bnd_v, bnd_x, pu_s, pu_n, b01_T, b01_F, Int.reduceEq, Int.reduceLT, Int.reduceLE, Int.reduceNe, Nat.reduceEqDiff, Nat.reduceLeDiff, and_false, false_and, and_true, true_and, or_false, false_or, or_true, true_or, if_true, if_false, not_true_eq_false, not_false_eq_true, eq_self, ne_eq, reduceCtorEq, false_implies, true_implies, implies_true, inT, inA, rmO, rmA, rI_pI, rI_pJ, rI_pR, rI_qI, rI_qJ, rI_qR, rJ_pI, rJ_pJ, rJ_pR, rJ_qI, rJ_qJ, rJ_qR, rR_pI, rR_pJ, rR_pR, rR_qI, rR_qJ, rR_qR, sI_pI, sI_pJ, sI_pR, sI_qI, sI_qJ, sI_qR, sJ_pI, sJ_pJ, sJ_pR, sJ_qI, sJ_qJ, sJ_qR, sR_pI, sR_pJ, sR_pR, sR_qI, sR_qJ, sR_qR, hc_pI, hc_pJ, hc_pR, hc_qI, hc_qJ, hc_qR, hl_pI, hl_pJ, hl_pR, hl_qI, hl_qJ, hl_qR, hk_pI, hk_pJ, hk_pR, hk_qI, hk_qJ, hk_qR, hs_pI, hs_pJ, hs_pR, hs_qI, hs_qJ, hs_qR, hn_pI, hn_pJ, hn_pR, hn_qI, hn_qJ, hn_qR, hc_nO', hc_nA', hl_nO, hl_nA', hn_nO, hn_nA, hk_nO, hk_nA, hs_nO, hs_nA, rI_nO, rI_nA, rJ_nO, rJ_nA, rR_nO, rR_nA, Nat.le_refl, Y.1, fpl _ Y, fgt Y, fk0 _ Y, xk2 Y, xk3 Y, xk4 Y, im_op _ Y, tm_op _ Y, im_cp _ Y, tm_cp _ Y, im_ob _ Y, tm_ob _ Y, im_cb _ Y, tm_cb _ Y, im_co _ Y, tm_co _ Y, im_se _ Y, tm_se _ Y, im_cl _ Y, tm_cl _ Y, im_be _ Y, tm_be _ Y, iw_LONG _ Y, tw_LONG _ Y, c1, c2, pt, t34', t34'.1, t34'.2, r48, sz, w1, w2', q8, X1.2.1.1, hne, hpne, show w32 (((8 + 1 : Nat) : Int) - 1) = 8 from by decide]
      · have n8' : ¬ ((ks.length : Int) = 8) := by omega
        obtain ⟨s1, RC, G1, e1, e2, e3, e4, at1, GP1, r1, r2, r3, r4⟩ := msc1_co M cn ho24 G (by omega) (by rw [hga]; exact ok.1.1) (by rw [hga]; exact ok.1.2) (by rw [hga]; exact ok.2) c1 c2 (by rw [hgb]; omega) (by rw [hgb]; omega) (by rw [hgb]; omega)
        rw [hga] at G1 e1 e2 e3 at1
        obtain ⟨J1, B1, lm⟩ := pn_chl J Pd hR ha hb G1 e1 e2 e3 e4 (at1 _ _ _ _ _ _ _) X1 q0p rp t34 (by omega) (nmp_k c1 (by decide)) (y1 := y + 3) (by omega) (by omega)
        have G2 := G1.2.1
        have lm' := lm (by intro z; rw [z] at len; exact absurd len.1 (by decide))
        have vOK : aI s 21 n = i0 ∨ fI sP 1915442860 ≤ aI s 21 n ∨ aI s 21 n < 0 := by
          obtain ⟨e', z1, z2⟩ := List.mem_map.mp lm'
          rw [← z2]
          exact (hk e' z1).imp id Or.inl
        have NN := L.2.1.seq (by omega) G1.po vOK (Or.inr (Or.inl hnP))
        rcases U hG sG p lx l PR Z0 ZM _ s1 (t + 1) o P O dl (y + 3) (g + 1) (d + 301) hK J1 GP1 hgo (by omega) with B | B
        · left
          refine BN.up B (L.1.tr RC) (fun e h' hb => ?_)
          simp (config := {implicitDefEqProofs := false}) only [e_X11_units, c_X11_units_0, c_X11_units_7, c_X11_units_10, c_X11_units_17, c_X11_units_24, c_X11_units_28, c_X11_units_29, c_X11_units_34, c_X11_units_37, c_X11_units_41, bnd_v, bnd_x, pu_s, pu_n, b01_T, b01_F, Int.reduceEq, Int.reduceLT, Int.reduceLE, Int.reduceNe, Nat.reduceEqDiff, Nat.reduceLeDiff, and_false, false_and, and_true, true_and, or_false, false_or, or_true, true_or, if_true, if_false, not_true_eq_false, not_false_eq_true, eq_self, ne_eq, reduceCtorEq, false_implies, true_implies, implies_true, inT, inA, rmO, rmA, rI_pI, rI_pJ, rI_pR, rI_qI, rI_qJ, rI_qR, rJ_pI, rJ_pJ, rJ_pR, rJ_qI, rJ_qJ, rJ_qR, rR_pI, rR_pJ, rR_pR, rR_qI, rR_qJ, rR_qR, sI_pI, sI_pJ, sI_pR, sI_qI, sI_qJ, sI_qR, sJ_pI, sJ_pJ, sJ_pR, sJ_qI, sJ_qJ, sJ_qR, sR_pI, sR_pJ, sR_pR, sR_qI, sR_qJ, sR_qR, hc_pI, hc_pJ, hc_pR, hc_qI, hc_qJ, hc_qR, hl_pI, hl_pJ, hl_pR, hl_qI, hl_qJ, hl_qR, hk_pI, hk_pJ, hk_pR, hk_qI, hk_qJ, hk_qR, hs_pI, hs_pJ, hs_pR, hs_qI, hs_qJ, hs_qR, hn_pI, hn_pJ, hn_pR, hn_qI, hn_qJ, hn_qR, hc_nO', hc_nA', hl_nO, hl_nA', hn_nO, hn_nA, hk_nO, hk_nA, hs_nO, hs_nA, rI_nO, rI_nA, rJ_nO, rJ_nA, rR_nO, rR_nA, Nat.le_refl, Y.1, fpl _ Y, fgt Y, fk0 _ Y, xk2 Y, xk3 Y, xk4 Y, im_op _ Y, tm_op _ Y, im_cp _ Y, tm_cp _ Y, im_ob _ Y, tm_ob _ Y, im_cb _ Y, tm_cb _ Y, im_co _ Y, tm_co _ Y, im_se _ Y, tm_se _ Y, im_cl _ Y, tm_cl _ Y, im_be _ Y, tm_be _ Y, iw_LONG _ Y, tw_LONG _ Y, c1, c2, pt, t34', t34'.1, t34'.2, r48, sz, w32_sz (by omega : ks.length < 100), n8', X1.2.1.1, hne, hpne, hb]
        · have vlt : n < fI s1 1915442860 := by rw [e4]; omega
          obtain ⟨q3, i3, h3, h4, s3, t3, P3, O3, dl3, b1, b2, b3, b4, b5, b6, ⟨u6, b7⟩, b8, ⟨b9, b10⟩, ⟨b11, b12, b13⟩, ⟨b14, b15, b16⟩⟩ := pn_with (d + 294) J1 B B1 hR t34 q0p rp hO.1 hO.2 (by rw [List.length_append]; show ks.length + 1 < 50; omega) vlt
          have LL : LI 0 i0 p (g + 1) hP sP tP PP OP h4 s3 t3 P3 O3 := by
            obtain ⟨u0, eu⟩ := L.2.2.1
            refine ⟨(L.1.tr RC).tr b3, NN.seq (by omega) b6 (Or.inr (Or.inr (by decide))) (Or.inl rfl), ⟨_, (eu.tr (X1.1.mono (W' := Wp p) (fun x _ z => by rw [z]; exact ⟨Nat.le_refl _, by omega⟩) (Nat.le_refl _)) (fun _ _ z => z)).tr b7 (fun x hx z => z.elim id (fun w => by omega))⟩, L.2.2.2.1.tr b8 eu.1.1, ?_, ?_⟩
            · have := L.2.2.2.2.1; omega
            · have := L.2.2.2.2.2; omega
          have gg : g < fI s1 2066437804 - 1 := by omega
          have GP3 : GP s3 g 8 1 := ⟨b6.2.1, g0, (b6.gl (by decide) g0 gg).1.trans r1, (b6.gl (by decide) g0 gg).1.trans r2⟩
          have hga3 : aI s3 36 g = n := ((b6.gl (by decide) g0 gg).1.trans r3).trans hga
          have hgb3 : aI s3 37 g = ((ks ++ [(i2, q2)]).length : Nat) := by
            rw [(b6.gl (by decide) g0 gg).1, r4, hgb, List.length_append]
            rfl
          have hk3 : ∀ e ∈ ks ++ [(i2, q2)], e.1 = i0 ∨ fI sP 1915442860 ≤ e.1 := fun e z => by
            rcases List.mem_append.mp z with z | z
            · exact hk e z
            · right
              rw [List.mem_singleton.mp z]
              have := Pd.2.1.1.2.2.1.1
              have : a0 ≤ i2 := this
              show fI sP 1915442860 ≤ i2
              omega
          have len3 : 1 ≤ (ks ++ [(i2, q2)]).length ∧ (ks ++ [(i2, q2)]).length ≤ 8 := by rw [List.length_append]; show 1 ≤ ks.length + 1 ∧ ks.length + 1 ≤ 8; omega
          have ih := ul_call U hK hD hR q0p rp t34 hq0 hr0 hnP g0 hgo hgP N h4 s3 t3 P3 O3 dl3 _ i3 q3 _ _ (by omega) b4 GP3 hga3 hgb3 len3 hk3 b5 ⟨by omega, b6.2.2.2.1⟩ ⟨by show q0 + 2 ≤ hn h; omega, b11⟩ ⟨b12, b13⟩ LL ((Q.po G1.po (by have := G.1; omega)).po b6 (by omega))
          have t34'' : inT 11 34 (hc h3 q0) := by rw [b14]; exact t34
          have xeq : FA (F (d + 301)) 109912643 0 [vR p, vR q0, vI 1] [] h = FA (F (d + 301)) 109912643 0 [vR p, vR q0, vI 1] [] h4 := by
            rw [c_X11_units_0 _ _ _ _ _ (i11 Y.1)]
            simp (config := {implicitDefEqProofs := false}) only [c_X11_units_7, c_X11_units_10, c_X11_units_17, c_X11_units_29, c_X11_units_34, c_X11_units_37, bnd_v, bnd_x, pu_s, pu_n, b01_T, b01_F, Int.reduceEq, Int.reduceLT, Int.reduceLE, Int.reduceNe, Nat.reduceEqDiff, Nat.reduceLeDiff, and_false, false_and, and_true, true_and, or_false, false_or, or_true, true_or, if_true, if_false, not_true_eq_false, not_false_eq_true, eq_self, ne_eq, reduceCtorEq, false_implies, true_implies, implies_true, inT, inA, rmO, rmA, rI_pI, rI_pJ, rI_pR, rI_qI, rI_qJ, rI_qR, rJ_pI, rJ_pJ, rJ_pR, rJ_qI, rJ_qJ, rJ_qR, rR_pI, rR_pJ, rR_pR, rR_qI, rR_qJ, rR_qR, sI_pI, sI_pJ, sI_pR, sI_qI, sI_qJ, sI_qR, sJ_pI, sJ_pJ, sJ_pR, sJ_qI, sJ_qJ, sJ_qR, sR_pI, sR_pJ, sR_pR, sR_qI, sR_qJ, sR_qR, hc_pI, hc_pJ, hc_pR, hc_qI, hc_qJ, hc_qR, hl_pI, hl_pJ, hl_pR, hl_qI, hl_qJ, hl_qR, hk_pI, hk_pJ, hk_pR, hk_qI, hk_qJ, hk_qR, hs_pI, hs_pJ, hs_pR, hs_qI, hs_qJ, hs_qR, hn_pI, hn_pJ, hn_pR, hn_qI, hn_qJ, hn_qR, hc_nO', hc_nA', hl_nO, hl_nA', hn_nO, hn_nA, hk_nO, hk_nA, hs_nO, hs_nA, rI_nO, rI_nA, rJ_nO, rJ_nA, rR_nO, rR_nA, Nat.le_refl, Y.1, fpl _ Y, fgt Y, fk0 _ Y, xk2 Y, xk3 Y, xk4 Y, im_op _ Y, tm_op _ Y, im_cp _ Y, tm_cp _ Y, im_ob _ Y, tm_ob _ Y, im_cb _ Y, tm_cb _ Y, im_co _ Y, tm_co _ Y, im_se _ Y, tm_se _ Y, im_cl _ Y, tm_cl _ Y, im_be _ Y, tm_be _ Y, iw_LONG _ Y, tw_LONG _ Y, c1, c2, pt, t34', t34'.1, t34'.2, r48, sz, w32_sz (by omega : ks.length < 100), n8', X1.2.1.1, hne, hpne, b1, b14, t34, t34.1, t34.2, b2]
          rw [xeq]
          exact ih
    · right
      refine ⟨h, s, t, P, O, dl, ks, i2, q2, a0, b0, ?_, q, J, G, hga, len, hk, Pd, ha, hb, hO, L, Q⟩
      simp (config := {implicitDefEqProofs := false}) only [e_X11_units, c_X11_units_0, c_X11_units_7, c_X11_units_10, c_X11_units_17, c_X11_units_24, c_X11_units_28, c_X11_units_29, c_X11_units_34, c_X11_units_37, c_X11_units_41, bnd_v, bnd_x, pu_s, pu_n, b01_T, b01_F, Int.reduceEq, Int.reduceLT, Int.reduceLE, Int.reduceNe, Nat.reduceEqDiff, Nat.reduceLeDiff, and_false, false_and, and_true, true_and, or_false, false_or, or_true, true_or, if_true, if_false, not_true_eq_false, not_false_eq_true, eq_self, ne_eq, reduceCtorEq, false_implies, true_implies, implies_true, inT, inA, rmO, rmA, rI_pI, rI_pJ, rI_pR, rI_qI, rI_qJ, rI_qR, rJ_pI, rJ_pJ, rJ_pR, rJ_qI, rJ_qJ, rJ_qR, rR_pI, rR_pJ, rR_pR, rR_qI, rR_qJ, rR_qR, sI_pI, sI_pJ, sI_pR, sI_qI, sI_qJ, sI_qR, sJ_pI, sJ_pJ, sJ_pR, sJ_qI, sJ_qJ, sJ_qR, sR_pI, sR_pJ, sR_pR, sR_qI, sR_qJ, sR_qR, hc_pI, hc_pJ, hc_pR, hc_qI, hc_qJ, hc_qR, hl_pI, hl_pJ, hl_pR, hl_qI, hl_qJ, hl_qR, hk_pI, hk_pJ, hk_pR, hk_qI, hk_qJ, hk_qR, hs_pI, hs_pJ, hs_pR, hs_qI, hs_qJ, hs_qR, hn_pI, hn_pJ, hn_pR, hn_qI, hn_qJ, hn_qR, hc_nO', hc_nA', hl_nO, hl_nA', hn_nO, hn_nA, hk_nO, hk_nA, hs_nO, hs_nA, rI_nO, rI_nA, rJ_nO, rJ_nA, rR_nO, rR_nA, Nat.le_refl, Y.1, fpl _ Y, fgt Y, fk0 _ Y, xk2 Y, xk3 Y, xk4 Y, im_op _ Y, tm_op _ Y, im_cp _ Y, tm_cp _ Y, im_ob _ Y, tm_ob _ Y, im_cb _ Y, tm_cb _ Y, im_co _ Y, tm_co _ Y, im_se _ Y, tm_se _ Y, im_cl _ Y, tm_cl _ Y, im_be _ Y, tm_be _ Y, iw_LONG _ Y, tw_LONG _ Y, q]
end ULC
