/-! x's CONSTRUCTOR: its parts -/
set_option maxRecDepth 100000
theorem e_X4_init (d : Nat) (a0 : Nat) (h : PH) : F (d + 1) 18632865 [vR a0] h = FA (F d) 18632865 0 [vR a0] [] h := rfl
theorem c_X4_init_0 (cf : Nat → List PV → PH → Rs) (a0 : Nat) (h : PH) (g0 : 0 < (hc h a0)) (g1 : rmO h 3) (g2 : inT 48 48 (hc (nO h 48 3) (hn h))) : FA cf 18632865 0 [vR a0] [] h = bnd (cf 164725505 [vR (hn h)] (nO h 48 3)) (fun v h' => FA cf 18632865 12 [vR a0] (pu v [vR (hn h), vR a0]) h') := ((FA_ex cf 18632865 6 _ _ _ _).trans rfl : FA cf 18632865 0 [vR a0] [] h = gd (0 < (hc h a0)) (gd (rmO h 3) (gd (inT 48 48 (hc (nO h 48 3) (hn h))) (bnd (cf 164725505 [vR (hn h)] (nO h 48 3)) (fun v h' => FA cf 18632865 12 [vR a0] (pu v [vR (hn h), vR a0]) h'))))).trans ((gd_t g0).trans ((gd_t g1).trans ((gd_t g2))))
theorem c_X4_init_12 (cf : Nat → List PV → PH → Rs) (a0 : Nat) (s0 : Nat) (s1 : Nat) (h : PH) (g0 : inT 10 10 (hc h s1)) (g1 : rmA h 64) (g2 : inT 10 10 (hc (nA (pR h 705303594 s1 s0) 65 64) a0)) (g3 : rmA (nA (pR h 705303594 s1 s0) 65 64) 64) (g4 : inT 10 10 (hc (nA (pR (nA (pR h 705303594 s1 s0) 65 64) 713692202 a0 (hn h)) 65 64) a0)) : FA cf 18632865 12 [vR a0] [vR s0, vR s1] h = some (.inl none, (pR (nA (pR (nA (pR h 705303594 s1 s0) 65 64) 713692202 a0 (hn h)) 65 64) 722080810 a0 (hn (nA (pR h 705303594 s1 s0) 65 64)))) := ((FA_ex cf 18632865 10 _ _ _ _).trans rfl : FA cf 18632865 12 [vR a0] [vR s0, vR s1] h = gd (inT 10 10 (hc h s1)) (gd (rmA h 64) (gd (inT 10 10 (hc (nA (pR h 705303594 s1 s0) 65 64) a0)) (gd (rmA (nA (pR h 705303594 s1 s0) 65 64) 64) (gd (inT 10 10 (hc (nA (pR (nA (pR h 705303594 s1 s0) 65 64) 713692202 a0 (hn h)) 65 64) a0)) (some (.inl none, (pR (nA (pR (nA (pR h 705303594 s1 s0) 65 64) 713692202 a0 (hn h)) 65 64) 722080810 a0 (hn (nA (pR h 705303594 s1 s0) 65 64)))))))))).trans ((gd_t g0).trans ((gd_t g1).trans ((gd_t g2).trans ((gd_t g3).trans ((gd_t g4))))))
theorem e_X5_init (d : Nat) (a0 : Nat) (h : PH) : F (d + 1) 22882897 [vR a0] h = FA (F d) 22882897 0 [vR a0] [] h := rfl
theorem c_X5_init_0 (cf : Nat → List PV → PH → Rs) (a0 : Nat) (h : PH) (g0 : 0 < (hc h a0)) (g1 : rmA h 488) (g2 : inT 37 37 (hc (nA h 67 488) a0)) : FA cf 22882897 0 [vR a0] [] h = some (.inl none, (pR (nA h 67 488) 1378175638 a0 (hn h))) := ((FA_ex cf 22882897 7 _ _ _ _).trans rfl : FA cf 22882897 0 [vR a0] [] h = gd (0 < (hc h a0)) (gd (rmA h 488) (gd (inT 37 37 (hc (nA h 67 488) a0)) (some (.inl none, (pR (nA h 67 488) 1378175638 a0 (hn h))))))).trans ((gd_t g0).trans ((gd_t g1).trans ((gd_t g2))))
theorem e_X9_init (d : Nat) (a0 : Nat) (h : PH) : F (d + 1) 36520577 [vR a0] h = FA (F d) 36520577 0 [vR a0] [] h := rfl
theorem c_X9_init_0 (cf : Nat → List PV → PH → Rs) (a0 : Nat) (h : PH) (g0 : 0 < (hc h a0)) (g1 : rmA h 42) (g2 : inT 40 40 (hc (nA h 75 42) a0)) : FA cf 36520577 0 [vR a0] [] h = some (.inl none, (pR (nA h 75 42) 1520980130 a0 (hn h))) := ((FA_ex cf 36520577 7 _ _ _ _).trans rfl : FA cf 36520577 0 [vR a0] [] h = gd (0 < (hc h a0)) (gd (rmA h 42) (gd (inT 40 40 (hc (nA h 75 42) a0)) (some (.inl none, (pR (nA h 75 42) 1520980130 a0 (hn h))))))).trans ((gd_t g0).trans ((gd_t g1).trans ((gd_t g2))))
theorem e_X3_init (d : Nat) (a0 : Nat) (h : PH) : F (d + 1) 14426177 [vR a0] h = FA (F d) 14426177 0 [vR a0] [] h := rfl
theorem c_X3_init_0 (cf : Nat → List PV → PH → Rs) (a0 : Nat) (h : PH) (g0 : 0 < (hc h a0)) (g1 : rmO h 4) (g2 : inT 10 10 (hc (nO h 10 4) (hn h))) : FA cf 14426177 0 [vR a0] [] h = bnd (cf 18632865 [vR (hn h)] (nO h 10 4)) (fun v h' => FA cf 14426177 12 [vR a0] (pu v [vR (hn h), vR a0]) h') := ((FA_ex cf 14426177 6 _ _ _ _).trans rfl : FA cf 14426177 0 [vR a0] [] h = gd (0 < (hc h a0)) (gd (rmO h 4) (gd (inT 10 10 (hc (nO h 10 4) (hn h))) (bnd (cf 18632865 [vR (hn h)] (nO h 10 4)) (fun v h' => FA cf 14426177 12 [vR a0] (pu v [vR (hn h), vR a0]) h'))))).trans ((gd_t g0).trans ((gd_t g1).trans ((gd_t g2))))
theorem c_X3_init_12 (cf : Nat → List PV → PH → Rs) (a0 : Nat) (s0 : Nat) (s1 : Nat) (h : PH) (g0 : inT 4 4 (hc h s1)) (g1 : rmO h 3) (g2 : inT 37 37 (hc (nO (pR h 235145234 s1 s0) 37 3) (hn h))) : FA cf 14426177 12 [vR a0] [vR s0, vR s1] h = bnd (cf 22882897 [vR (hn h)] (nO (pR h 235145234 s1 s0) 37 3)) (fun v h' => FA cf 14426177 23 [vR a0] (pu v [vR (hn h), vR a0]) h') := ((FA_ex cf 14426177 5 _ _ _ _).trans rfl : FA cf 14426177 12 [vR a0] [vR s0, vR s1] h = gd (inT 4 4 (hc h s1)) (gd (rmO h 3) (gd (inT 37 37 (hc (nO (pR h 235145234 s1 s0) 37 3) (hn h))) (bnd (cf 22882897 [vR (hn h)] (nO (pR h 235145234 s1 s0) 37 3)) (fun v h' => FA cf 14426177 23 [vR a0] (pu v [vR (hn h), vR a0]) h'))))).trans ((gd_t g0).trans ((gd_t g1).trans ((gd_t g2))))
theorem c_X3_init_23 (cf : Nat → List PV → PH → Rs) (a0 : Nat) (s0 : Nat) (s1 : Nat) (h : PH) (g0 : inT 4 4 (hc h s1)) (g1 : rmO h 8) (g2 : inT 9 9 (hc (nO (pR h 243533842 s1 s0) 9 8) (hn h))) : FA cf 14426177 23 [vR a0] [vR s0, vR s1] h = bnd (cf 24397970 [vR (hn h), vI 0] (nO (pR h 243533842 s1 s0) 9 8)) (fun v h' => FA cf 14426177 35 [vR a0] (pu v [vR (hn h), vR a0]) h') := ((FA_ex cf 14426177 6 _ _ _ _).trans rfl : FA cf 14426177 23 [vR a0] [vR s0, vR s1] h = gd (inT 4 4 (hc h s1)) (gd (rmO h 8) (gd (inT 9 9 (hc (nO (pR h 243533842 s1 s0) 9 8) (hn h))) (bnd (cf 24397970 [vR (hn h), vI 0] (nO (pR h 243533842 s1 s0) 9 8)) (fun v h' => FA cf 14426177 35 [vR a0] (pu v [vR (hn h), vR a0]) h'))))).trans ((gd_t g0).trans ((gd_t g1).trans ((gd_t g2))))
theorem c_X3_init_35 (cf : Nat → List PV → PH → Rs) (a0 : Nat) (s0 : Nat) (s1 : Nat) (h : PH) (g0 : inT 4 4 (hc h s1)) (g1 : rmO h 8) (g2 : inT 9 9 (hc (nO (pR h 268699666 s1 s0) 9 8) (hn h))) : FA cf 14426177 35 [vR a0] [vR s0, vR s1] h = bnd (cf 24397970 [vR (hn h), vI 1] (nO (pR h 268699666 s1 s0) 9 8)) (fun v h' => FA cf 14426177 47 [vR a0] (pu v [vR (hn h), vR a0]) h') := ((FA_ex cf 14426177 6 _ _ _ _).trans rfl : FA cf 14426177 35 [vR a0] [vR s0, vR s1] h = gd (inT 4 4 (hc h s1)) (gd (rmO h 8) (gd (inT 9 9 (hc (nO (pR h 268699666 s1 s0) 9 8) (hn h))) (bnd (cf 24397970 [vR (hn h), vI 1] (nO (pR h 268699666 s1 s0) 9 8)) (fun v h' => FA cf 14426177 47 [vR a0] (pu v [vR (hn h), vR a0]) h'))))).trans ((gd_t g0).trans ((gd_t g1).trans ((gd_t g2))))
theorem c_X3_init_47 (cf : Nat → List PV → PH → Rs) (a0 : Nat) (s0 : Nat) (s1 : Nat) (h : PH) (g0 : inT 4 4 (hc h s1)) (g1 : rmO h 8) (g2 : inT 9 9 (hc (nO (pR h 277088274 s1 s0) 9 8) (hn h))) : FA cf 14426177 47 [vR a0] [vR s0, vR s1] h = bnd (cf 24397970 [vR (hn h), vI 2] (nO (pR h 277088274 s1 s0) 9 8)) (fun v h' => FA cf 14426177 59 [vR a0] (pu v [vR (hn h), vR a0]) h') := ((FA_ex cf 14426177 6 _ _ _ _).trans rfl : FA cf 14426177 47 [vR a0] [vR s0, vR s1] h = gd (inT 4 4 (hc h s1)) (gd (rmO h 8) (gd (inT 9 9 (hc (nO (pR h 277088274 s1 s0) 9 8) (hn h))) (bnd (cf 24397970 [vR (hn h), vI 2] (nO (pR h 277088274 s1 s0) 9 8)) (fun v h' => FA cf 14426177 59 [vR a0] (pu v [vR (hn h), vR a0]) h'))))).trans ((gd_t g0).trans ((gd_t g1).trans ((gd_t g2))))
theorem c_X3_init_59 (cf : Nat → List PV → PH → Rs) (a0 : Nat) (s0 : Nat) (s1 : Nat) (h : PH) (g0 : inT 4 4 (hc h s1)) (g1 : rmO h 8) (g2 : inT 9 9 (hc (nO (pR h 285476882 s1 s0) 9 8) (hn h))) : FA cf 14426177 59 [vR a0] [vR s0, vR s1] h = bnd (cf 24397970 [vR (hn h), vI 3] (nO (pR h 285476882 s1 s0) 9 8)) (fun v h' => FA cf 14426177 71 [vR a0] (pu v [vR (hn h), vR a0]) h') := ((FA_ex cf 14426177 6 _ _ _ _).trans rfl : FA cf 14426177 59 [vR a0] [vR s0, vR s1] h = gd (inT 4 4 (hc h s1)) (gd (rmO h 8) (gd (inT 9 9 (hc (nO (pR h 285476882 s1 s0) 9 8) (hn h))) (bnd (cf 24397970 [vR (hn h), vI 3] (nO (pR h 285476882 s1 s0) 9 8)) (fun v h' => FA cf 14426177 71 [vR a0] (pu v [vR (hn h), vR a0]) h'))))).trans ((gd_t g0).trans ((gd_t g1).trans ((gd_t g2))))
theorem c_X3_init_71 (cf : Nat → List PV → PH → Rs) (a0 : Nat) (s0 : Nat) (s1 : Nat) (h : PH) (g0 : inT 4 4 (hc h s1)) : FA cf 14426177 71 [vR a0] [vR s0, vR s1] h = some (.inl none, (pR h 293865490 s1 s0)) := ((FA_ex cf 14426177 2 _ _ _ _).trans rfl : FA cf 14426177 71 [vR a0] [vR s0, vR s1] h = gd (inT 4 4 (hc h s1)) (some (.inl none, (pR h 293865490 s1 s0)))).trans ((gd_t g0))
section XC
variable {h h1 : PH} {W : Nat → Prop} {u : Nat}
/-- an object just made -/
def Fresh (h : PH) (q tg : Nat) : Prop := hc h q = tg ∧ (∀ f, gI h f q = 0) ∧ (∀ f, gJ h f q = 0) ∧ (∀ f, gR h f q = 0)
theorem fr_nO {t n : Nat} : Fresh (nO h t n) (hn h) t := ⟨if_pos rfl, fun _ => if_pos rfl, fun _ => if_pos rfl, fun _ => if_pos rfl⟩
def ModesAt (h : PH) (k : Nat) : Prop := hc h k = 10 ∧ gR h 705303594 k = k + 1 ∧ AL h (k + 1) [] ∧ (gR h 713692202 k = k + 2 ∧ hc h (k + 2) = 65 ∧ hl h (k + 2) = 64) ∧ (gR h 722080810 k = k + 3 ∧ hc h (k + 3) = 65 ∧ hl h (k + 3) = 64) ∧ gI h 730469416 k = 0
theorem f_newModes (d : Nat) (I : HI h) (rm : Room 4 h) : ∃ h1, F (d + 4) 18632865 [vR (hn h)] (nO h 10 4) = some (.inl none, h1) ∧ Ev W0 4 h h1 ∧ ModesAt h1 (hn h) ∧ hn h1 = hn h + 4 := by
  have e0 : Ev W0 1 h (nO h 10 4) := (Ev.rf I).mO (by decide) (by decide)
  have r0 : Room 3 (nO h 10 4) := rm.ev (u := 1) (u' := 3) e0
  obtain ⟨g, a1, a2, a3, a4⟩ := f_list0 d e0.2.2.1
  have hn0 : hn (nO h 10 4) = hn h + 1 := rfl
  rw [hn0] at a1 a3 a4
  have s := a2.ob (Nat.lt_succ_self (hn h)) (fun z => z) (by rw [fr_nO.1]; decide)
  have g10 : hc g (hn h) = 10 := s.1.trans fr_nO.1
  have e1 : Ev W0 2 h g := e0.tr (u' := 1) a2 (fun _ _ z => z)
  have md : ∀ {k : PH}, hc k (hn h) = 10 → mdT (hc k (hn h)) = true := fun z => by rw [z]; rfl
  have e2 : Ev W0 2 h (pR g 705303594 (hn h) (hn h + 1)) := e1.cR (Or.inr (Nat.le_refl _)) (md g10) (by decide)
  have e3 : Ev W0 3 h (nA (pR g 705303594 (hn h) (hn h + 1)) 65 64) := e2.mA (c := 1) (by decide) (by decide) (by decide)
  have n3 : hc (nA (pR g 705303594 (hn h) (hn h + 1)) 65 64) (hn h) = 10 := by rw [hc_nA', if_neg (by show hn h ≠ hn g; omega)]; exact g10
  have e4 : Ev W0 3 h (pR (nA (pR g 705303594 (hn h) (hn h + 1)) 65 64) 713692202 (hn h) (hn g)) := e3.cR (Or.inr (Nat.le_refl _)) (md n3) (by decide)
  have e5 : Ev W0 4 h (nA (pR (nA (pR g 705303594 (hn h) (hn h + 1)) 65 64) 713692202 (hn h) (hn g)) 65 64) := e4.mA (c := 1) (by decide) (by decide) (by decide)
  have n5 : hc (nA (pR (nA (pR g 705303594 (hn h) (hn h + 1)) 65 64) 713692202 (hn h) (hn g)) 65 64) (hn h) = 10 := by rw [hc_nA', if_neg (by show hn h ≠ hn g + 1; omega)]; exact n3
  have e6 : Ev W0 4 h (pR (nA (pR (nA (pR g 705303594 (hn h) (hn h + 1)) 65 64) 713692202 (hn h) (hn g)) 65 64) 722080810 (hn h) (hn g + 1)) := e5.cR (Or.inr (Nat.le_refl _)) (md n5) (by decide)
  have wl : Ev (· = hn h) 2 g (pR (nA (pR (nA (pR g 705303594 (hn h) (hn h + 1)) 65 64) 713692202 (hn h) (hn g)) 65 64) 722080810 (hn h) (hn g + 1)) := ((((((Ev.rf (W := (· = hn h)) a2.2.2.1).cR (f := 705303594) (w := hn h + 1) (Or.inl rfl) (md g10) (by decide)).mA (t := 65) (n := 64) (c := 1) (by decide) (by decide) (by decide)).cR (f := 713692202) (w := hn g) (Or.inl rfl) (md n3) (by decide)).mA (t := 65) (n := 64) (c := 1) (by decide) (by decide) (by decide)).cR (f := 722080810) (w := hn g + 1) (Or.inl rfl) (md n5) (by decide))
  have hp := I.1.1.2.1
  unfold Room at r0
  have hs0 : hs (nO h 10 4) = hs h + 4 := rfl
  have hk0 : hk (nO h 10 4) = hk h + 1 := rfl
  have sg := a2.2.2.2.1
  have kg := a2.2.2.2.2
  refine ⟨_, ?_, e6, ⟨n5, ?_, wl.al a2.2.2.1.1 (by omega) (by omega) a3, ⟨?_, ?_, ?_⟩, ⟨?_, ?_, ?_⟩, ?_⟩, ?_⟩
  · rw [e_X4_init, c_X4_init_0 _ _ _ (by rw [fr_nO.1]; decide) ⟨by omega, by omega⟩ (by rw [hc_nO', if_pos rfl]; decide), hn0, a1, bnd_v, pu_n, c_X4_init_12 _ _ _ _ _ (i11 g10) ⟨by decide, by omega, by omega⟩ (i11 n3) ⟨by decide, by show hk g + 1 < cLim; omega, by show hs g + 64 + 64 ≤ sLim; omega⟩ (i11 n5)]
    rfl
  · rw [rR_pR, if_neg (fun z => absurd z.1 (by decide)), rR_nA, rR_pR, if_neg (fun z => absurd z.1 (by decide)), rR_nA, rR_pR, if_pos ⟨rfl, rfl⟩]
  · rw [rR_pR, if_neg (fun z => absurd z.1 (by decide)), rR_nA, rR_pR, if_pos ⟨rfl, rfl⟩, a4]
  · rw [hc_pR, hc_nA', if_neg (by show hn h + 2 ≠ hn g + 1; omega), hc_pR, hc_nA', if_pos (by show hn h + 2 = hn g; omega)]
  · rw [hl_pR, hl_nA', if_neg (by show hn h + 2 ≠ hn g + 1; omega), hl_pR, hl_nA', if_pos (by show hn h + 2 = hn g; omega)]
  · rw [rR_pR, if_pos ⟨rfl, rfl⟩, a4]
  · rw [hc_pR, hc_nA', if_pos (by show hn h + 3 = hn g + 1; omega)]
  · rw [hl_pR, hl_nA', if_pos (by show hn h + 3 = hn g + 1; omega)]
  · rw [rI_pR, rI_nA, rI_pR, rI_nA, rI_pR, s.2.2.1]; exact fr_nO.2.1 _
  · show hn g + 1 + 1 = hn h + 4
    omega
theorem ModesAt.ev {k : Nat} (M : ModesAt h k) (a : Ev W u h h1) (C : ConH h) (w : ∀ q, k ≤ q → q < k + 4 → ¬ W q) (w0 : ¬ W 0) : ModesAt h1 k := by
  obtain ⟨m1, m2, m3, ⟨m4, m5, m6⟩, ⟨m7, m8, m9⟩, m10⟩ := M
  have l3 : k + 3 < hn h := by
    rcases Nat.lt_or_ge (k + 3) (hn h) with z | z
    · exact z
    · have := C.1.2.2.1 _ z; omega
  have s := a.ob (q := k) (by omega) (w k (by omega) (by omega)) (by rw [m1]; decide)
  have s2 := a.ob (q := k + 2) (by omega) (w _ (by omega) (by omega)) (by rw [m5]; decide)
  have s3 := a.ob (q := k + 3) (by omega) (w _ (by omega) (by omega)) (by rw [m8]; decide)
  exact ⟨s.1.trans m1, (s.2.2.2.2.1 _).trans m2, a.al C (w _ (by omega) (by omega)) w0 m3, ⟨(s.2.2.2.2.1 _).trans m4, s2.1.trans m5, s2.2.1.trans m6⟩, ⟨(s.2.2.2.2.1 _).trans m7, s3.1.trans m8, s3.2.1.trans m9⟩, (s.2.2.1 _).trans m10⟩
def PathAt (h : PH) (k : Nat) : Prop := hc h k = 37 ∧ gR h 1378175638 k = k + 1 ∧ hc h (k + 1) = 67 ∧ hl h (k + 1) = 488
theorem f_newPath (d : Nat) (I : HI h) (rm : Room 9 h) : ∃ h1, F (d + 1) 22882897 [vR (hn h)] (nO h 37 3) = some (.inl none, h1) ∧ Ev W0 9 h h1 ∧ PathAt h1 (hn h) ∧ hn h1 = hn h + 2 := by
  have e0 : Ev W0 1 h (nO h 37 3) := (Ev.rf I).mO (by decide) (by decide)
  have e1 : Ev W0 9 h (nA (nO h 37 3) 67 488) := e0.mA (c := 8) (by decide) (by decide) (by decide)
  have n1 : hc (nA (nO h 37 3) 67 488) (hn h) = 37 := by rw [hc_nA', if_neg (by show hn h ≠ hn h + 1; omega)]; exact fr_nO.1
  have e2 : Ev W0 9 h (pR (nA (nO h 37 3) 67 488) 1378175638 (hn h) (hn h + 1)) := e1.cR (Or.inr (Nat.le_refl _)) (by rw [n1]; rfl) (by decide)
  have r0 := rm
  unfold Room at r0
  refine ⟨_, ?_, e2, ⟨n1, if_pos ⟨rfl, rfl⟩, if_pos rfl, if_pos rfl⟩, rfl⟩
  rw [e_X5_init, c_X5_init_0 _ _ _ (by rw [fr_nO.1]; decide) ⟨by decide, by show hk h + 1 < cLim; omega, by show hs h + 3 + 488 ≤ sLim; omega⟩ (i11 n1)]
  rfl
theorem PathAt.ev {k : Nat} (M : PathAt h k) (a : Ev W u h h1) (C : ConH h) (w : ∀ q, k ≤ q → q < k + 2 → ¬ W q) : PathAt h1 k := by
  obtain ⟨m1, m2, m3, m4⟩ := M
  have l3 : k + 1 < hn h := by
    rcases Nat.lt_or_ge (k + 1) (hn h) with z | z
    · exact z
    · have := C.1.2.2.1 _ z; omega
  have s := a.ob (q := k) (by omega) (w k (by omega) (by omega)) (by rw [m1]; decide)
  have s2 := a.ob (q := k + 1) (by omega) (w _ (by omega) (by omega)) (by rw [m3]; decide)
  exact ⟨s.1.trans m1, (s.2.2.2.2.1 _).trans m2, s2.1.trans m3, s2.2.1.trans m4⟩
def RangeAt (h : PH) (k : Nat) : Prop := hc h k = 40 ∧ gR h 1520980130 k = k + 1 ∧ hc h (k + 1) = 75 ∧ hl h (k + 1) = 42
theorem f_newRange (d : Nat) (I : HI h) (rm : Room 2 h) : ∃ h1, F (d + 1) 36520577 [vR (hn h)] (nO h 40 4) = some (.inl none, h1) ∧ Ev W0 2 h h1 ∧ RangeAt h1 (hn h) ∧ hn h1 = hn h + 2 := by
  have e0 : Ev W0 1 h (nO h 40 4) := (Ev.rf I).mO (by decide) (by decide)
  have e1 : Ev W0 2 h (nA (nO h 40 4) 75 42) := e0.mA (c := 1) (by decide) (by decide) (by decide)
  have n1 : hc (nA (nO h 40 4) 75 42) (hn h) = 40 := by rw [hc_nA', if_neg (by show hn h ≠ hn h + 1; omega)]; exact fr_nO.1
  have e2 : Ev W0 2 h (pR (nA (nO h 40 4) 75 42) 1520980130 (hn h) (hn h + 1)) := e1.cR (Or.inr (Nat.le_refl _)) (by rw [n1]; rfl) (by decide)
  have r0 := rm
  unfold Room at r0
  refine ⟨_, ?_, e2, ⟨n1, if_pos ⟨rfl, rfl⟩, if_pos rfl, if_pos rfl⟩, rfl⟩
  rw [e_X9_init, c_X9_init_0 _ _ _ (by rw [fr_nO.1]; decide) ⟨by decide, by show hk h + 1 < cLim; omega, by show hs h + 4 + 42 ≤ sLim; omega⟩ (i11 n1)]
  rfl
theorem RangeAt.ev {k : Nat} (M : RangeAt h k) (a : Ev W u h h1) (C : ConH h) (w : ∀ q, k ≤ q → q < k + 2 → ¬ W q) : RangeAt h1 k := by
  obtain ⟨m1, m2, m3, m4⟩ := M
  have l3 : k + 1 < hn h := by
    rcases Nat.lt_or_ge (k + 1) (hn h) with z | z
    · exact z
    · have := C.1.2.2.1 _ z; omega
  have s := a.ob (q := k) (by omega) (w k (by omega) (by omega)) (by rw [m1]; decide)
  have s2 := a.ob (q := k + 1) (by omega) (w _ (by omega) (by omega)) (by rw [m3]; decide)
  exact ⟨s.1.trans m1, (s.2.2.2.2.1 _).trans m2, s2.1.trans m3, s2.2.1.trans m4⟩
/-- a plain mode -/
def PlainAt (h : PH) (k : Nat) (kind : Int) : Prop := hc h k = 9 ∧ gI h 638128676 k = kind ∧ gR h 646517286 k = k + 1 ∧ AL h (k + 1) [] ∧ gR h 671683110 k = 0 ∧ gR h 654905894 k = 0 ∧ gR h 696848934 k = 0 ∧ gI h 680071716 k = 0 ∧ gI h 688460324 k = 0
theorem f_newPlain (d : Nat) (I : HI h) (rm : Room 2 h) (kind : Int) : ∃ h1, F (d + 4) 24397970 [vR (hn h), vI kind] (nO h 9 8) = some (.inl none, h1) ∧ Ev W0 2 h h1 ∧ PlainAt h1 (hn h) kind ∧ hn h1 = hn h + 2 := by
  have e0 : Ev W0 1 h (nO h 9 8) := (Ev.rf I).mO (by decide) (by decide)
  obtain ⟨h1, a1, a2, a3, a4, a5, a6, a7, a8, a9⟩ := f_modeInit d e0.2.2.1 (rm.ev (u := 1) (u' := 1) e0) (q := hn h) fr_nO.1 kind
  have ev := e0.tr (u' := 1) a2 (W := W0) (fun q hq z => by omega)
  refine ⟨h1, a1, ev, ⟨?_, a5, a3, a4, ?_, ?_, ?_, ?_, ?_⟩, a6⟩
  · rw [a2.1.2.2.2.1 _ (Nat.lt_succ_self _)]; exact fr_nO.1
  · rw [a9 _ (by decide)]; exact fr_nO.2.2.2 _
  · rw [a9 _ (by decide)]; exact fr_nO.2.2.2 _
  · rw [a9 _ (by decide)]; exact fr_nO.2.2.2 _
  · rw [a7 _ (by decide)]; exact fr_nO.2.1 _
  · rw [a7 _ (by decide)]; exact fr_nO.2.1 _
theorem PlainAt.ev {k : Nat} {kind : Int} (M : PlainAt h k kind) (a : Ev W u h h1) (C : ConH h) (w : ∀ q, k ≤ q → q < k + 2 → ¬ W q) (w0 : ¬ W 0) : PlainAt h1 k kind := by
  obtain ⟨m1, m2, m3, m4, m5, m6, m7, m8, m9⟩ := M
  have l3 := m4.lt C
  have s := a.ob (q := k) (by omega) (w k (by omega) (by omega)) (by rw [m1]; decide)
  exact ⟨s.1.trans m1, (s.2.2.1 _).trans m2, (s.2.2.2.2.1 _).trans m3, a.al C (w _ (by omega) (by omega)) w0 m4, (s.2.2.2.2.1 _).trans m5, (s.2.2.2.2.1 _).trans m6, (s.2.2.2.2.1 _).trans m7, (s.2.2.1 _).trans m8, (s.2.2.1 _).trans m9⟩
end XC
