/-! x's CONSTRUCTOR: the house -/
set_option maxRecDepth 100000
set_option maxHeartbeats 1000000
theorem e_X1_init (d : Nat) (a0 : Nat) (h : PH) : F (d + 1) 4196369 [vR a0] h = FA (F d) 4196369 0 [vR a0] [] h := rfl
theorem c_X1_init_0 (cf : Nat → List PV → PH → Rs) (a0 : Nat) (h : PH) (g0 : 0 < (hc h a0)) (g1 : rmA h 480) (g2 : inT 1 1 (hc (nA h 67 480) a0)) (g3 : rmO (nA h 67 480) 8) (g4 : inT 5 5 (hc (nO (pR (nA h 67 480) 66054 a0 (hn h)) 5 8) (hn (nA h 67 480)))) : FA cf 4196369 0 [vR a0] [] h = bnd (cf 11806801 [vR (hn (nA h 67 480))] (nO (pR (nA h 67 480) 66054 a0 (hn h)) 5 8)) (fun v h' => FA cf 4196369 21 [vR a0] (pu v [vR (hn (nA h 67 480)), vR a0]) h') := ((FA_ex cf 4196369 10 _ _ _ _).trans rfl : FA cf 4196369 0 [vR a0] [] h = gd (0 < (hc h a0)) (gd (rmA h 480) (gd (inT 1 1 (hc (nA h 67 480) a0)) (gd (rmO (nA h 67 480) 8) (gd (inT 5 5 (hc (nO (pR (nA h 67 480) 66054 a0 (hn h)) 5 8) (hn (nA h 67 480)))) (bnd (cf 11806801 [vR (hn (nA h 67 480))] (nO (pR (nA h 67 480) 66054 a0 (hn h)) 5 8)) (fun v h' => FA cf 4196369 21 [vR a0] (pu v [vR (hn (nA h 67 480)), vR a0]) h'))))))).trans ((gd_t g0).trans ((gd_t g1).trans ((gd_t g2).trans ((gd_t g3).trans ((gd_t g4))))))
theorem c_X1_init_21 (cf : Nat → List PV → PH → Rs) (a0 : Nat) (s0 : Nat) (s1 : Nat) (h : PH) (g0 : inT 1 1 (hc h s1)) (g1 : rmO h 8) (g2 : inT 4 4 (hc (nO (pR h 16843270 s1 s0) 4 8) (hn h))) : FA cf 4196369 21 [vR a0] [vR s0, vR s1] h = bnd (cf 14426177 [vR (hn h)] (nO (pR h 16843270 s1 s0) 4 8)) (fun v h' => FA cf 4196369 32 [vR a0] (pu v [vR (hn h), vR a0]) h') := ((FA_ex cf 4196369 5 _ _ _ _).trans rfl : FA cf 4196369 21 [vR a0] [vR s0, vR s1] h = gd (inT 1 1 (hc h s1)) (gd (rmO h 8) (gd (inT 4 4 (hc (nO (pR h 16843270 s1 s0) 4 8) (hn h))) (bnd (cf 14426177 [vR (hn h)] (nO (pR h 16843270 s1 s0) 4 8)) (fun v h' => FA cf 4196369 32 [vR a0] (pu v [vR (hn h), vR a0]) h'))))).trans ((gd_t g0).trans ((gd_t g1).trans ((gd_t g2))))
theorem c_X1_init_32 (cf : Nat → List PV → PH → Rs) (a0 : Nat) (s0 : Nat) (s1 : Nat) (h : PH) (g0 : inT 1 1 (hc h s1)) (g1 : rmO h 3) (g2 : inT 48 48 (hc (nO (pR h 25231878 s1 s0) 48 3) (hn h))) : FA cf 4196369 32 [vR a0] [vR s0, vR s1] h = bnd (cf 164987650 [vR (hn h), vI 6] (nO (pR h 25231878 s1 s0) 48 3)) (fun v h' => FA cf 4196369 45 [vR a0] (pu v [vR (hn h), vR a0]) h') := ((FA_ex cf 4196369 6 _ _ _ _).trans rfl : FA cf 4196369 32 [vR a0] [vR s0, vR s1] h = gd (inT 1 1 (hc h s1)) (gd (rmO h 3) (gd (inT 48 48 (hc (nO (pR h 25231878 s1 s0) 48 3) (hn h))) (bnd (cf 164987650 [vR (hn h), vI 6] (nO (pR h 25231878 s1 s0) 48 3)) (fun v h' => FA cf 4196369 45 [vR a0] (pu v [vR (hn h), vR a0]) h'))))).trans ((gd_t g0).trans ((gd_t g1).trans ((gd_t g2))))
theorem c_X1_init_45 (cf : Nat → List PV → PH → Rs) (a0 : Nat) (s0 : Nat) (s1 : Nat) (h : PH) (g0 : inT 1 1 (hc h s1)) (g1 : inT 1 1 (hc h a0)) (g2 : rmO h 27) (g3 : inT 6 6 (hc (nO (pI (pR h 33620486 s1 s0) 50397700 a0 (-1)) 6 27) (hn h))) : FA cf 4196369 45 [vR a0] [vR s0, vR s1] h = bnd (cf 25702497 [vR (hn h)] (nO (pI (pR h 33620486 s1 s0) 50397700 a0 (-1)) 6 27)) (fun v h' => FA cf 4196369 61 [vR a0] (pu v [vR (hn h), vR a0]) h') := ((FA_ex cf 4196369 8 _ _ _ _).trans rfl : FA cf 4196369 45 [vR a0] [vR s0, vR s1] h = gd (inT 1 1 (hc h s1)) (gd (inT 1 1 (hc h a0)) (gd (rmO h 27) (gd (inT 6 6 (hc (nO (pI (pR h 33620486 s1 s0) 50397700 a0 (-1)) 6 27) (hn h))) (bnd (cf 25702497 [vR (hn h)] (nO (pI (pR h 33620486 s1 s0) 50397700 a0 (-1)) 6 27)) (fun v h' => FA cf 4196369 61 [vR a0] (pu v [vR (hn h), vR a0]) h')))))).trans ((gd_t g0).trans ((gd_t g1).trans ((gd_t g2).trans ((gd_t g3)))))
theorem c_X1_init_61 (cf : Nat → List PV → PH → Rs) (a0 : Nat) (s0 : Nat) (s1 : Nat) (h : PH) (g0 : inT 1 1 (hc h s1)) (g1 : rmO h 27) (g2 : inT 6 6 (hc (nO (pR h 58786310 s1 s0) 6 27) (hn h))) : FA cf 4196369 61 [vR a0] [vR s0, vR s1] h = bnd (cf 25702497 [vR (hn h)] (nO (pR h 58786310 s1 s0) 6 27)) (fun v h' => FA cf 4196369 72 [vR a0] (pu v [vR (hn h), vR a0]) h') := ((FA_ex cf 4196369 5 _ _ _ _).trans rfl : FA cf 4196369 61 [vR a0] [vR s0, vR s1] h = gd (inT 1 1 (hc h s1)) (gd (rmO h 27) (gd (inT 6 6 (hc (nO (pR h 58786310 s1 s0) 6 27) (hn h))) (bnd (cf 25702497 [vR (hn h)] (nO (pR h 58786310 s1 s0) 6 27)) (fun v h' => FA cf 4196369 72 [vR a0] (pu v [vR (hn h), vR a0]) h'))))).trans ((gd_t g0).trans ((gd_t g1).trans ((gd_t g2))))
theorem c_X1_init_72 (cf : Nat → List PV → PH → Rs) (a0 : Nat) (s0 : Nat) (s1 : Nat) (h : PH) (g0 : inT 1 1 (hc h s1)) (g1 : rmO h 3) (g2 : inT 48 48 (hc (nO (pR h 67174918 s1 s0) 48 3) (hn h))) : FA cf 4196369 72 [vR a0] [vR s0, vR s1] h = bnd (cf 164725505 [vR (hn h)] (nO (pR h 67174918 s1 s0) 48 3)) (fun v h' => FA cf 4196369 83 [vR a0] (pu v [vR (hn h), vR a0]) h') := ((FA_ex cf 4196369 5 _ _ _ _).trans rfl : FA cf 4196369 72 [vR a0] [vR s0, vR s1] h = gd (inT 1 1 (hc h s1)) (gd (rmO h 3) (gd (inT 48 48 (hc (nO (pR h 67174918 s1 s0) 48 3) (hn h))) (bnd (cf 164725505 [vR (hn h)] (nO (pR h 67174918 s1 s0) 48 3)) (fun v h' => FA cf 4196369 83 [vR a0] (pu v [vR (hn h), vR a0]) h'))))).trans ((gd_t g0).trans ((gd_t g1).trans ((gd_t g2))))
theorem c_X1_init_83 (cf : Nat → List PV → PH → Rs) (a0 : Nat) (s0 : Nat) (s1 : Nat) (h : PH) (g0 : inT 1 1 (hc h s1)) : FA cf 4196369 83 [vR a0] [vR s0, vR s1] h = some (.inl none, (pR h 83952134 s1 s0)) := ((FA_ex cf 4196369 2 _ _ _ _).trans rfl : FA cf 4196369 83 [vR a0] [vR s0, vR s1] h = gd (inT 1 1 (hc h s1)) (some (.inl none, (pR h 83952134 s1 s0)))).trans ((gd_t g0))
section XHo
variable {h g g2 : PH} {u : Nat}
theorem stp {k f w v : Nat} (E : Ev W0 u h g) (hk0 : hn h ≤ k) (kg : k < hn g) (c1 : hc g k = 1) (hf : f ≠ eD) (a2 : Ev W0 v (pR g f k w) g2) : Ev W0 (u + v) h g2 ∧ Ev (· = k) v g g2 ∧ gR g2 f k = w ∧ KeepF g g2 k f := by
  have e1 : Ev W0 u h (pR g f k w) := E.cR (Or.inr hk0) (by rw [c1]; rfl) hf
  have e1' : Ev (· = k) 0 g (pR g f k w) := (Ev.rf E.2.2.1).cR (Or.inl rfl) (by rw [c1]; rfl) hf
  have S := a2.ob (q := k) kg (fun z => z) (by show hc g k ≠ 71; rw [c1]; decide)
  refine ⟨e1.tr a2 (fun _ _ z => z), ?_, ?_, ⟨fun f' => S.2.2.1 f', fun f' => S.2.2.2.1 f', fun f' hf' => ?_, S.1⟩⟩
  · have := e1'.tr (a2.mono (W' := (· = k)) (fun _ _ z => z.elim) (Nat.le_refl _)) (fun _ _ z => z)
    rw [Nat.zero_add] at this
    exact this
  · rw [S.2.2.2.2.1]; exact if_pos ⟨rfl, rfl⟩
  · rw [S.2.2.2.2.1, rR_pR, if_neg (fun z => hf' z.1)]
theorem pRI {k f w : Nat} (E : Ev W0 u h g) (hk0 : hn h ≤ k) (c1 : hc g k = 1) (hf : f ≠ eD) : HI (pR g f k w) := (E.cR (Or.inr hk0) (by rw [c1]; rfl) hf).2.2.1
theorem rm_st {k f w v n : Nat} (r : Room n h) (E : Ev W0 u h g) (hn0 : u + v ≤ n) : Room v (pR g f k w) := show Room v g from (r.le hn0).ev E
theorem LexC.ev {W : Nat → Prop} {k : Nat} {ks : List Int} (L : LexC g k ks) (E : Ev W u g g2) (kl : k + 4 < hn g) (w : ∀ q, k ≤ q → q < k + 5 → ¬ W q) : LexC g2 k ks := by
  obtain ⟨l1, l2, l3, l4, l5, l6, ⟨l7, l8, l9⟩, ⟨l10, l11, l12⟩, ⟨l13, l14, l15⟩⟩ := L
  have S := E.ob (q := k) (by omega) (w k (by omega) (by omega)) (by rw [l1]; decide)
  have S1 := E.ob (q := k + 1) (by omega) (w _ (by omega) (by omega)) (by rw [l3]; decide)
  have hc' : ∀ q, q < hn g → hc g2 q = hc g q := E.1.2.2.2.1
  have hl' : ∀ q, q < hn g → hl g2 q = hl g q := E.1.2.2.2.2
  exact ⟨S.1.trans l1, (S.2.2.2.2.1 _).trans l2, S1.1.trans l3, S1.2.1.trans l4, (S.2.2.1 _).trans l5, fun i hi => (S1.2.2.2.2.2.2.1 _).trans (l6 i hi), ⟨(S.2.2.2.2.1 _).trans l7, (hc' _ (by omega)).trans l8, (hl' _ (by omega)).trans l9⟩, ⟨(S.2.2.2.2.1 _).trans l10, (hc' _ (by omega)).trans l11, (hl' _ (by omega)).trans l12⟩, ⟨(S.2.2.2.2.1 _).trans l13, (hc' _ (by omega)).trans l14, (hl' _ (by omega)).trans l15⟩⟩
/-- what the constructor of the house leaves, up to its machines -/
theorem house1 (d : Nat) (I : HI h) (rm : Room 2000 h) : ∃ gP, F (d + 10) 4196369 [vR (hn h)] (nO h 1 11) = FA (F (d + 9)) 4196369 45 [vR (hn h)] [vR (hn h + 22), vR (hn h)] gP ∧ Ev W0 59 h gP ∧ (hc gP (hn h) = 1 ∧ hn gP = hn h + 24) ∧ ((∀ f, gI gP f (hn h) = 0) ∧ (∀ f, gJ gP f (hn h) = 0)) ∧ (gR gP 66054 (hn h) = hn h + 1 ∧ gR gP 16843270 (hn h) = hn h + 2 ∧ gR gP 25231878 (hn h) = hn h + 7) ∧ (hc gP (hn h + 1) = 67 ∧ hl gP (hn h + 1) = 480) ∧ LexC gP (hn h + 2) KXL ∧ JudgeAt gP (hn h + 7) ∧ AL gP (hn h + 22) [] := by
  have e0 : Ev W0 1 h (nO h 1 11) := (Ev.rf I).mO (by decide) (by decide)
  have c0 : hc (nO h 1 11) (hn h) = 1 := if_pos rfl
  have fI0 : (∀ f, gI (nO h 1 11) f (hn h) = 0) ∧ (∀ f, gJ (nO h 1 11) f (hn h) = 0) := ⟨fun f => if_pos rfl, fun f => if_pos rfl⟩
  have n0 : hn (nO h 1 11) = hn h + 1 := rfl
  have z0 : ¬ (0 = hn h) := by have := I.1.1.2.1; omega
  have l0 : hn h < hn (nO h 1 11) := Nat.lt_succ_self _
  generalize hg0 : nO h 1 11 = g0 at e0 c0 fI0 n0 l0
  obtain ⟨q1, q2, q3, q4, q5, q6, q7, q8⟩ := fa_ok (k := hn h) (f := 66054) (t := 67) (n := 480) (c := 8) (tg := 1) e0 (Nat.le_refl _) l0 c0 rfl (by decide) (by decide) (by decide) (by decide)
  have kA : KeepF g0 (fa g0 (hn h) 66054 67 480) (hn h) 66054 := ⟨fun _ => rfl, fun _ => rfl, fun f hf => if_neg (fun z => hf z.1), q4.trans c0.symm⟩
  have rmg := rm_A (g := g0) (n := 480) (c := 8) (Room.ev (u := 1) (u' := 1900) (rm.le (by decide)) e0) (by decide) (by decide) (by decide) (by decide)
  have hA' : pR (nA g0 67 480) 66054 (hn h) (hn g0) = fa g0 (hn h) 66054 67 480 := rfl
  have nA' : hn (nA g0 67 480) = hn h + 1 + 1 := by show hn g0 + 1 = _; rw [n0]
  have q3' : inT 1 1 (hc (nA g0 67 480) (hn h)) := by rw [q3]; decide
  have rmO' : rmO (nA g0 67 480) 8 := by
    have := rm_O (n := 8) (Room.ev (u := 1 + 8) (u' := 1900) (rm.le (by decide)) q1) (by decide) (by decide)
    exact this
  generalize hA : fa g0 (hn h) 66054 67 480 = gA at q1 q2 q4 q5 q6 q7 q8 kA hA'
  rw [n0] at q5 q6 q7 q8
  obtain ⟨gL, a1, a2, a3, a4⟩ := f_newLexer (d + 4) q1.2.2.1 (Room.ev (u := 1 + 8) (u' := 30) (rm.le (by decide)) q1)
  have E1 : Ev W0 (1 + 8 + 26) h gL := q1.tr a2 (fun _ _ z => z)
  have SL := a2.ob (q := hn h) (by rw [q8]; omega) (fun z => z) (by rw [q4]; decide)
  have cL : hc gL (hn h) = 1 := SL.1.trans q4
  rw [q8] at a1 a3 a4
  have lL : hn h < hn gL := by rw [a4]; omega
  obtain ⟨gJ', b1, b2, b3, b4⟩ := f_newJudge (d + 3) (pRI (f := 16843270) (w := hn h + 1 + 1) E1 (Nat.le_refl _) cL (by decide)) (rm_st (v := 22) (n := 2000) rm E1 (by decide))
  obtain ⟨J1, J2, J3, J4⟩ := stp E1 (Nat.le_refl _) lL cL (by decide) b2
  have cJ : hc gJ' (hn h) = 1 := J4.2.2.2.trans cL
  rw [show hn (pR gL 16843270 (hn h) (hn h + 1 + 1)) = hn gL from rfl, a4] at b1 b3 b4
  have lJ : hn h < hn gJ' := by rw [b4]; omega
  obtain ⟨gP, p1, p2, p3, p4, p5⟩ := mk_listN (d + 6) (pRI (f := 25231878) (w := hn h + 1 + 1 + 5) J1 (Nat.le_refl _) cJ (by decide)) (rm_st (v := 2) (n := 2000) rm J1 (by decide)) (n := 6) (by decide) (by decide)
  obtain ⟨P1, P2, P3, P4⟩ := stp J1 (Nat.le_refl _) lJ cJ (by decide) p2
  have cP : hc gP (hn h) = 1 := P4.2.2.2.trans cJ
  rw [show hn (pR gJ' 25231878 (hn h) (hn h + 1 + 1 + 5)) = hn gJ' from rfl, b4] at p1 p3 p4 p5
  have T1 := J2.tr P2 (fun _ _ z => z)
  have T0 := (a2.mono (W' := (· = hn h)) (fun _ _ z => z.elim) (Nat.le_refl _)).tr T1 (fun _ _ z => z)
  refine ⟨gP, ?_, P1, ⟨cP, p4⟩, ⟨fun f => ((P4.1 f).trans ((J4.1 f).trans ((SL.2.2.1 f).trans ((kA.1 f).trans (fI0.1 f))))), fun f => ((P4.2.1 f).trans ((J4.2.1 f).trans ((SL.2.2.2.1 f).trans ((kA.2.1 f).trans (fI0.2 f)))))⟩, ⟨(P4.2.2.1 _ (by decide)).trans ((J4.2.2.1 _ (by decide)).trans ((SL.2.2.2.2.1 _).trans q5)), (P4.2.2.1 _ (by decide)).trans J3, P3⟩, ?_, ?_, ?_, p3⟩
  · rw [e_X1_init, c_X1_init_0 _ _ _ (by rw [c0]; decide) rmg q3' rmO' (by rw [hA']; exact gt_nO (by rw [nA', q8])), hA', nA', a1, bnd_v, pu_n, c_X1_init_21 _ _ _ _ _ (i11 cL) (rm_O (n := 8) (Room.ev (u := 1 + 8 + 26) (u' := 1900) (rm.le (by decide)) E1) (by decide) (by decide)) (gt_nO rfl), a4, b1, bnd_v, pu_n, c_X1_init_32 _ _ _ _ _ (i11 cJ) (rm_O (n := 3) (Room.ev (u := 1 + 8 + 26 + 22) (u' := 1900) (rm.le (by decide)) J1) (by decide) (by decide)) (gt_nO rfl), b4, p1, bnd_v, pu_n]
  · exact ⟨(T0.1.2.2.2.1 _ (by rw [q8]; omega)).trans q6, (T0.1.2.2.2.2 _ (by rw [q8]; omega)).trans q7⟩
  · exact a3.ev T1 (by rw [a4]; omega) (fun q y1 y2 => ne_lo (c := 2) y1 (by decide))
  · exact b3.ev P2 J1.2.2.1.1 (fun q y1 y2 => ne_lo (c := 7) y1 (by decide)) z0
end XHo
