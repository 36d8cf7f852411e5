/-! x's CONSTRUCTOR: the lexer -/
set_option maxRecDepth 100000
set_option maxHeartbeats 1000000
theorem e_X2_init (d : Nat) (a0 : Nat) (h : PH) : F (d + 1) 11806801 [vR a0] h = FA (F d) 11806801 0 [vR a0, vX, vX, vX, vX] [] h := rfl
theorem c_X2_init_0 (cf : Nat → List PV → PH → Rs) (a0 : Nat) (a1 : PV) (a2 : PV) (a3 : PV) (a4 : PV) (h : PH) (g0 : 0 < (hc h a0)) (g1 : rmA h 48) (g2 : inT 5 5 (hc (nA h 66 48) a0)) (g3 : rmA (nA h 66 48) 482) (g4 : inT 5 5 (hc (nA (pR (nA h 66 48) 302320150 a0 (hn h)) 73 482) a0)) (g5 : rmA (nA (pR (nA h 66 48) 302320150 a0 (hn h)) 73 482) 482) (g6 : inT 5 5 (hc (nA (pR (nA (pR (nA h 66 48) 302320150 a0 (hn h)) 73 482) 319097366 a0 (hn (nA h 66 48))) 65 482) a0)) (g7 : rmA (nA (pR (nA (pR (nA h 66 48) 302320150 a0 (hn h)) 73 482) 319097366 a0 (hn (nA h 66 48))) 65 482) 482) (g8 : inT 5 5 (hc (nA (pR (nA (pR (nA (pR (nA h 66 48) 302320150 a0 (hn h)) 73 482) 319097366 a0 (hn (nA h 66 48))) 65 482) 327485974 a0 (hn (nA (pR (nA h 66 48) 302320150 a0 (hn h)) 73 482))) 66 482) a0)) : FA cf 11806801 0 [vR a0, a1, a2, a3, a4] [] h = FA cf 11806801 47 [vR a0, vJ 0, vX, vI 0, vI 0] [] (pR (nA (pR (nA (pR (nA (pR (nA h 66 48) 302320150 a0 (hn h)) 73 482) 319097366 a0 (hn (nA h 66 48))) 65 482) 327485974 a0 (hn (nA (pR (nA h 66 48) 302320150 a0 (hn h)) 73 482))) 66 482) 335874582 a0 (hn (nA (pR (nA (pR (nA h 66 48) 302320150 a0 (hn h)) 73 482) 319097366 a0 (hn (nA h 66 48))) 65 482))) := ((FA_ex cf 11806801 24 _ _ _ _).trans rfl : FA cf 11806801 0 [vR a0, a1, a2, a3, a4] [] h = gd (0 < (hc h a0)) (gd (rmA h 48) (gd (inT 5 5 (hc (nA h 66 48) a0)) (gd (rmA (nA h 66 48) 482) (gd (inT 5 5 (hc (nA (pR (nA h 66 48) 302320150 a0 (hn h)) 73 482) a0)) (gd (rmA (nA (pR (nA h 66 48) 302320150 a0 (hn h)) 73 482) 482) (gd (inT 5 5 (hc (nA (pR (nA (pR (nA h 66 48) 302320150 a0 (hn h)) 73 482) 319097366 a0 (hn (nA h 66 48))) 65 482) a0)) (gd (rmA (nA (pR (nA (pR (nA h 66 48) 302320150 a0 (hn h)) 73 482) 319097366 a0 (hn (nA h 66 48))) 65 482) 482) (gd (inT 5 5 (hc (nA (pR (nA (pR (nA (pR (nA h 66 48) 302320150 a0 (hn h)) 73 482) 319097366 a0 (hn (nA h 66 48))) 65 482) 327485974 a0 (hn (nA (pR (nA h 66 48) 302320150 a0 (hn h)) 73 482))) 66 482) a0)) (FA cf 11806801 47 [vR a0, vJ 0, vX, vI 0, vI 0] [] (pR (nA (pR (nA (pR (nA (pR (nA h 66 48) 302320150 a0 (hn h)) 73 482) 319097366 a0 (hn (nA h 66 48))) 65 482) 327485974 a0 (hn (nA (pR (nA h 66 48) 302320150 a0 (hn h)) 73 482))) 66 482) 335874582 a0 (hn (nA (pR (nA (pR (nA h 66 48) 302320150 a0 (hn h)) 73 482) 319097366 a0 (hn (nA h 66 48))) 65 482))))))))))))).trans ((gd_t g0).trans ((gd_t g1).trans ((gd_t g2).trans ((gd_t g3).trans ((gd_t g4).trans ((gd_t g5).trans ((gd_t g6).trans ((gd_t g7).trans ((gd_t g8))))))))))
theorem c_X2_init_47 (cf : Nat → List PV → PH → Rs) (a0 : Nat) (a1 : Int) (a3 : Int) (a4 : Int) (h : PH) (g0 : inT 53 53 (hc h (gR h 3590324226 0))) : FA cf 11806801 47 [vR a0, vJ a1, vX, vI a3, vI a4] [] h = bnd (cf 173124433 [vR (gR h 3590324226 0)] h) (fun v h' => FA cf 11806801 54 [vR a0, vJ a1, vX, vI a3, vI a4] (pu v [vI a4]) h') := ((FA_ex cf 11806801 3 _ _ _ _).trans rfl : FA cf 11806801 47 [vR a0, vJ a1, vX, vI a3, vI a4] [] h = gd (inT 53 53 (hc h (gR h 3590324226 0))) (bnd (cf 173124433 [vR (gR h 3590324226 0)] h) (fun v h' => FA cf 11806801 54 [vR a0, vJ a1, vX, vI a3, vI a4] (pu v [vI a4]) h'))).trans ((gd_t g0))
theorem c_X2_init_54 (cf : Nat → List PV → PH → Rs) (a0 : Nat) (a1 : Int) (a3 : Int) (a4 : Int) (s0 : Int) (s1 : Int) (h : PH) : FA cf 11806801 54 [vR a0, vJ a1, vX, vI a3, vI a4] [vI s0, vI s1] h = if s0 < s1 then FA cf 11806801 128 [vR a0, vJ a1, vX, vI a3, vI a4] [] h else FA cf 11806801 57 [vR a0, vJ a1, vX, vI a3, vI a4] [] h := (FA_ex cf 11806801 1 _ _ _ _).trans rfl
theorem c_X2_init_57 (cf : Nat → List PV → PH → Rs) (a0 : Nat) (a1 : Int) (a3 : Int) (a4 : Int) (h : PH) (g0 : inT 53 53 (hc h (gR h 3590324226 0))) : FA cf 11806801 57 [vR a0, vJ a1, vX, vI a3, vI a4] [] h = bnd (cf 173124433 [vR (gR h 3590324226 0)] h) (fun v h' => FA cf 11806801 64 [vR a0, vJ a1, vX, vI a3, vI a4] (pu v [vI a4]) h') := ((FA_ex cf 11806801 3 _ _ _ _).trans rfl : FA cf 11806801 57 [vR a0, vJ a1, vX, vI a3, vI a4] [] h = gd (inT 53 53 (hc h (gR h 3590324226 0))) (bnd (cf 173124433 [vR (gR h 3590324226 0)] h) (fun v h' => FA cf 11806801 64 [vR a0, vJ a1, vX, vI a3, vI a4] (pu v [vI a4]) h'))).trans ((gd_t g0))
theorem c_X2_init_64 (cf : Nat → List PV → PH → Rs) (a0 : Nat) (a1 : Int) (a3 : Int) (a4 : Int) (s0 : Int) (s1 : Int) (h : PH) : FA cf 11806801 64 [vR a0, vJ a1, vX, vI a3, vI a4] [vI s0, vI s1] h = if s1 < s0 then FA cf 11806801 67 [vR a0, vJ a1, vX, vI a3, vI a4] [] h else FA cf 11806801 101 [vR a0, vJ a1, vX, vI a3, vI a4] [] h := (FA_ex cf 11806801 1 _ _ _ _).trans rfl
theorem c_X2_init_67 (cf : Nat → List PV → PH → Rs) (a0 : Nat) (a1 : Int) (a3 : Int) (a4 : Int) (h : PH) (g0 : inT 53 53 (hc h (gR h 3590324226 0))) : FA cf 11806801 67 [vR a0, vJ a1, vX, vI a3, vI a4] [] h = bnd (cf 173648722 [vR (gR h 3590324226 0), vI a4] h) (fun v h' => FA cf 11806801 74 [vR a0, vJ a1, vX, vI a3, vI a4] (pu v []) h') := ((FA_ex cf 11806801 3 _ _ _ _).trans rfl : FA cf 11806801 67 [vR a0, vJ a1, vX, vI a3, vI a4] [] h = gd (inT 53 53 (hc h (gR h 3590324226 0))) (bnd (cf 173648722 [vR (gR h 3590324226 0), vI a4] h) (fun v h' => FA cf 11806801 74 [vR a0, vJ a1, vX, vI a3, vI a4] (pu v []) h'))).trans ((gd_t g0))
theorem c_X2_init_74 (cf : Nat → List PV → PH → Rs) (a0 : Nat) (a1 : Int) (a3 : Int) (a4 : Int) (s0 : Int) (h : PH) : FA cf 11806801 74 [vR a0, vJ a1, vX, vI a3, vI a4] [vI s0] h = if s0 = 32 then FA cf 11806801 101 [vR a0, vJ a1, vX, vI a3, vI a4] [] h else FA cf 11806801 79 [vR a0, vJ a1, vX, vI a3, vI a4] [] h := (FA_ex cf 11806801 2 _ _ _ _).trans rfl
theorem c_X2_init_79 (cf : Nat → List PV → PH → Rs) (a0 : Nat) (a1 : Int) (a3 : Int) (a4 : Int) (h : PH) (g0 : inT 53 53 (hc h (gR h 3590324226 0))) : FA cf 11806801 79 [vR a0, vJ a1, vX, vI a3, vI a4] [] h = bnd (cf 173648722 [vR (gR h 3590324226 0), vI a4] h) (fun v h' => FA cf 11806801 87 [vR a0, vJ a1, vX, vI a3, vI a4] (pu v [vJ a1]) h') := ((FA_ex cf 11806801 4 _ _ _ _).trans rfl : FA cf 11806801 79 [vR a0, vJ a1, vX, vI a3, vI a4] [] h = gd (inT 53 53 (hc h (gR h 3590324226 0))) (bnd (cf 173648722 [vR (gR h 3590324226 0), vI a4] h) (fun v h' => FA cf 11806801 87 [vR a0, vJ a1, vX, vI a3, vI a4] (pu v [vJ a1]) h'))).trans ((gd_t g0))
theorem c_X2_init_87 (cf : Nat → List PV → PH → Rs) (a0 : Nat) (a1 : Int) (a3 : Int) (a4 : Int) (s0 : Int) (s1 : Int) (h : PH) : FA cf 11806801 87 [vR a0, vJ a1, vX, vI a3, vI a4] [vI s0, vJ s1] h = FA cf 11806801 122 [vR a0, vJ (lor s1 (lshl s0 (w32 (8 * a3)))), vX, vI (w32 (a3 + 1)), vI a4] [] h := (FA_ex cf 11806801 9 _ _ _ _).trans rfl
theorem c_X2_init_101 (cf : Nat → List PV → PH → Rs) (a0 : Nat) (a1 : Int) (a3 : Int) (a4 : Int) (h : PH) (g0 : inT 5 5 (hc h a0)) (g1 : (hc h (gR h 302320150 a0)) = 66 ∧ inA (gI h 310708756 a0) (hl h (gR h 302320150 a0))) : FA cf 11806801 101 [vR a0, vJ a1, vX, vI a3, vI a4] [] h = FA cf 11806801 122 [vR a0, vJ 0, vX, vI 0, vI a4] [] (qJ (pI h 310708756 a0 (w32 ((gI h 310708756 a0) + 1))) (gR h 302320150 a0) (gI h 310708756 a0) a1) := ((FA_ex cf 11806801 15 _ _ _ _).trans rfl : FA cf 11806801 101 [vR a0, vJ a1, vX, vI a3, vI a4] [] h = gd (inT 5 5 (hc h a0)) (gd (inT 5 5 (hc h a0)) (gd (inT 5 5 (hc h a0)) (gd ((hc h (gR h 302320150 a0)) = 66 ∧ inA (gI h 310708756 a0) (hl h (gR h 302320150 a0))) (FA cf 11806801 122 [vR a0, vJ 0, vX, vI 0, vI a4] [] (qJ (pI h 310708756 a0 (w32 ((gI h 310708756 a0) + 1))) (gR h 302320150 a0) (gI h 310708756 a0) a1)))))).trans ((gd_t g0).trans ((gd_t g0).trans ((gd_t g0).trans ((gd_t g1)))))
theorem c_X2_init_122 (cf : Nat → List PV → PH → Rs) (a0 : Nat) (a1 : Int) (a3 : Int) (a4 : Int) (h : PH) : FA cf 11806801 122 [vR a0, vJ a1, vX, vI a3, vI a4] [] h = FA cf 11806801 47 [vR a0, vJ a1, vX, vI a3, vI (w32 (a4 + 1))] [] h := (FA_ex cf 11806801 2 _ _ _ _).trans rfl
theorem c_X2_init_128 (cf : Nat → List PV → PH → Rs) (a0 : Nat) (a1 : Int) (a3 : Int) (a4 : Int) (h : PH) : FA cf 11806801 128 [vR a0, vJ a1, vX, vI a3, vI a4] [] h = some (.inl none, h) := (FA_ex cf 11806801 1 _ _ _ _).trans rfl
section XF
variable {h g : PH} {W : Nat → Prop} {u : Nat}
/-- a new array in a field of a new object -/
def fa (g : PH) (k f t : Nat) (n : Int) : PH := pR (nA g t n) f k (hn g)
theorem fa_ok {k f t tg c : Nat} {n : Int} (E : Ev W0 u h g) (hk : hn h ≤ k) (kg : k < hn g) (hc0 : hc g k = tg) (md : mdT tg = true) (hf : f ≠ eD) (ht : 48 < t) (hn0 : n.toNat ≤ 64 * c) (c0 : 0 < c) : Ev W0 (u + c) h (fa g k f t n) ∧ Ev (· = k) c g (fa g k f t n) ∧ hc (nA g t n) k = tg ∧ hc (fa g k f t n) k = tg ∧ gR (fa g k f t n) f k = hn g ∧ hc (fa g k f t n) (hn g) = t ∧ hl (fa g k f t n) (hn g) = n ∧ hn (fa g k f t n) = hn g + 1 := by
  have a : hc (nA g t n) k = tg := by rw [hc_nA', if_neg (by omega)]; exact hc0
  refine ⟨(E.mA hn0 c0 ht).cR (Or.inr hk) (by rw [a]; exact md) hf, ?_, a, a, if_pos ⟨rfl, rfl⟩, if_pos rfl, if_pos rfl, rfl⟩
  have e1 := (Ev.rf (W := (· = k)) E.2.2.1).mA (t := t) (n := n) (c := c) hn0 c0 ht
  rw [Nat.zero_add] at e1
  exact e1.cR (Or.inl rfl) (by rw [a]; exact md) hf
theorem rm_A {n : Int} {c v : Nat} (r : Room v g) (n0 : 0 ≤ n) (hn0 : n.toNat ≤ 64 * c) (c0 : 0 < c) (cv : c ≤ v) : rmA g n := by
  unfold Room at r
  exact ⟨n0, by omega, by omega⟩
/-- the words of a string, as the lexer's constructor gathers them -/
def kstep (st : List Int × Int × Nat) (c : Int) : List Int × Int × Nat := if c = 32 then (st.1 ++ [st.2.1], 0, 0) else (st.1, st.2.1 + c * 256 ^ st.2.2, st.2.2 + 1)
def kst (cs : List Int) : List Int × Int × Nat := cs.foldl kstep ([], 0, 0)
def KEPT : List Int := [77, 79, 68, 69, 32, 79, 80, 32, 80, 82, 73, 79, 32, 73, 78, 84, 32, 76, 79, 78, 71, 32, 66, 79, 79, 76, 32, 86, 79, 73, 68, 32, 82, 69, 70, 32, 80, 82, 79, 67, 32, 83, 84, 82, 85, 67, 84, 32, 85, 78, 73, 79, 78, 32, 76, 79, 67, 32, 72, 69, 65, 80, 32, 79, 70, 32, 73, 83, 32, 73, 83, 78, 84, 32, 83, 75, 73, 80, 32, 78, 73, 76, 32, 84, 82, 85, 69, 32, 70, 65, 76, 83, 69, 32, 66, 69, 71, 73, 78, 32, 69, 78, 68, 32, 73, 70, 32, 84, 72, 69, 78, 32, 69, 76, 83, 69, 32, 70, 73, 32, 67, 65, 83, 69, 32, 73, 78, 32, 87, 72, 69, 78, 32, 79, 85, 84, 32, 69, 83, 65, 67, 32, 70, 79, 82, 32, 70, 82, 79, 77, 32, 66, 89, 32, 84, 79, 32, 87, 72, 73, 76, 69, 32, 68, 79, 32, 79, 68, 32, 80, 82, 73, 78, 84, 32, 76, 87, 66, 32, 85, 80, 66]
theorem kept_str : (3590324226, KEPT) ∈ strT.map (fun z => (z.1, z.2.2.2.2)) := by decide +kernel
theorem kept_ok : ((List.range 183).all fun k => decide (0 ≤ (kst (KEPT.take k)).2.1 ∧ 2 * (kst (KEPT.take k)).2.1 < 256 ^ (kst (KEPT.take k)).2.2 ∧ (kst (KEPT.take k)).2.2 ≤ 7 ∧ (kst (KEPT.take k)).1.length ≤ 40)) = true := by decide +kernel
theorem kept_ch : (KEPT.all fun c => decide (0 ≤ c ∧ c < 128)) = true := by decide +kernel
theorem kept_fin : (kstep (kst KEPT) 32).1 = KXL := by decide +kernel
theorem kept_len : KEPT.length = 182 := by decide +kernel
theorem kst_s {cs : List Int} {k : Nat} (h : k < cs.length) : kst (cs.take (k + 1)) = kstep (kst (cs.take k)) (cs.getD k 0) := by
  unfold kst
  rw [List.take_succ, List.foldl_append]
  rw [List.getD_eq_getElem?_getD]
  rw [List.getElem?_eq_getElem h]
  rfl
/-- the lexer while its words are gathered -/
def LexC (g : PH) (k : Nat) (ks : List Int) : Prop := hc g k = 5 ∧ gR g 302320150 k = k + 1 ∧ hc g (k + 1) = 66 ∧ hl g (k + 1) = 48 ∧ gI g 310708756 k = ks.length ∧ (∀ i : Nat, i < ks.length → eJ g (k + 1) i = ks.getD i 0) ∧ (gR g 319097366 k = k + 2 ∧ hc g (k + 2) = 73 ∧ hl g (k + 2) = 482) ∧ (gR g 327485974 k = k + 3 ∧ hc g (k + 3) = 65 ∧ hl g (k + 3) = 482) ∧ (gR g 335874582 k = k + 4 ∧ hc g (k + 4) = 66 ∧ hl g (k + 4) = 482)
theorem gdI_app1 {l : List Int} {v : Int} {j : Nat} (hj : j < l.length) : (l ++ [v]).getD j 0 = l.getD j 0 := by
  rw [List.getD_eq_getElem?_getD, List.getD_eq_getElem?_getD, List.getElem?_append_left hj]
theorem gdI_app2 {l : List Int} {v : Int} : (l ++ [v]).getD l.length 0 = v := by
  rw [List.getD_eq_getElem?_getD, List.getElem?_append_right (Nat.le_refl _)]
  simp
theorem lex_put (cf : Nat → List PV → PH → Rs) {k : Nat} {ks : List Int} {w : Int} {n j : Int} (E : Ev W0 u h g) (hk : hn h ≤ k) (L : LexC g k ks) (hl : ks.length ≤ 40) : ∃ g', FA cf 11806801 101 [vR k, vJ w, vX, vI n, vI j] [] g = FA cf 11806801 122 [vR k, vJ 0, vX, vI 0, vI j] [] g' ∧ Ev W0 u h g' ∧ LexC g' k (ks ++ [w]) ∧ hn g' = hn g := by
  obtain ⟨l1, l2, l3, l4, l5, l6, ⟨l7, l8, l9⟩, ⟨l10, l11, l12⟩, ⟨l13, l14, l15⟩⟩ := L
  refine ⟨qJ (pI g 310708756 k ((ks.length : Int) + 1)) (k + 1) ks.length w, ?_, ?_, ?_, rfl⟩
  · rw [c_X2_init_101 _ _ _ _ _ _ (i11 l1) (by rw [l2, l5, l3, l4]; exact ⟨rfl, by omega, by omega⟩), l2, l5, w32_id (x := (ks.length : Int) + 1) (by omega) (by omega)]
  · exact (E.cI (Or.inr hk) (by rw [l1]; rfl)).dJ (Or.inr (by omega)) (by show mdA (hc g (k + 1)) = true; rw [l3]; rfl)
  · refine ⟨l1, l2, l3, l4, ?_, fun i hi => ?_, ⟨l7, l8, l9⟩, ⟨l10, l11, l12⟩, ⟨l13, l14, l15⟩⟩
    · rw [rI_qJ, rI_pI, if_pos ⟨rfl, rfl⟩]
      simp
    · rw [sJ_qJ]
      have hi : i < ks.length + 1 := by simpa using hi
      by_cases z : i = ks.length
      · rw [if_pos ⟨rfl, by omega⟩, z, gdI_app2]
      · rw [if_neg (fun y => z (by omega)), gdI_app1 (by omega), sJ_pI]
        exact l6 i (by omega)
theorem kept_S (C : ConH g) : StrC g (gR g 3590324226 0) KEPT ∧ mdA (hc g (gR g 3568632022 (gR g 3590324226 0))) = false := by
  obtain ⟨z, hz, e⟩ := List.mem_map.mp kept_str
  have e1 : z.1 = 3590324226 := congrArg Prod.fst e
  have e2 : z.2.2.2.2 = KEPT := congrArg Prod.snd e
  obtain ⟨c1, c2, c3, c4, c5⟩ := C.2.2.2.2.2.2.2.1 z hz
  rw [e1] at c1 c2 c3 c4 c5
  rw [e2] at c4 c5
  refine ⟨⟨c1, c2, C.2.1.2.2.2, c3, c4, by rw [kept_len]; decide, fun j hj => ⟨c5 j hj, ?_⟩⟩, (C.1.2.2.2 _ (by rw [c3]; decide)).2⟩
  have := List.all_eq_true.mp kept_ch (KEPT.getD j 0) (by rw [List.getD_eq_getElem?_getD, List.getElem?_eq_getElem hj]; exact List.getElem_mem hj)
  exact of_decide_eq_true this
theorem lex_loop {cs : List Int} {kx : List Int} (hS : ∀ g, ConH g → StrC g (gR g 3590324226 0) cs ∧ mdA (hc g (gR g 3568632022 (gR g 3590324226 0))) = false) (hok : ∀ j, j ≤ cs.length → 0 ≤ (kst (cs.take j)).2.1 ∧ 2 * (kst (cs.take j)).2.1 < 256 ^ (kst (cs.take j)).2.2 ∧ (kst (cs.take j)).2.2 ≤ 7 ∧ (kst (cs.take j)).1.length ≤ 40) (hfin : (kst cs).1 ++ [(kst cs).2.1] = kx) (hcl : cs.length < 1000) (d : Nat) {k : Nat} (hk : hn h ≤ k) : ∀ (n j : Nat) (g : PH), j + n = cs.length → Ev W0 u h g → LexC g k (kst (cs.take j)).1 → ∃ g', FA (F (d + 4)) 11806801 47 [vR k, vJ (kst (cs.take j)).2.1, vX, vI (kst (cs.take j)).2.2, vI j] [] g = some (.inl none, g') ∧ Ev W0 u h g' ∧ LexC g' k kx ∧ hn g' = hn g := by
  intro n
  induction n with
  | zero =>
    intro j g e E L
    have ej : j = cs.length := by omega
    obtain ⟨S, hcv⟩ := hS _ E.2.2.1.1
    have t1 : cs.take j = cs := by rw [ej]; exact List.take_length
    have hb := hok j (by omega)
    have fl : F (d + 4) 173124433 [vR (gR g 3590324226 0)] g = some (.inl (some (vI cs.length)), g) := f_length (d + 2) S
    obtain ⟨g', a1, a2, a3, a4⟩ := lex_put (F (d + 4)) (w := (kst (cs.take j)).2.1) (n := (kst (cs.take j)).2.2) (j := j) E hk L hb.2.2.2
    obtain ⟨S', -⟩ := hS _ a2.2.2.1.1
    have fl' : F (d + 4) 173124433 [vR (gR g' 3590324226 0)] g' = some (.inl (some (vI cs.length)), g') := f_length (d + 2) S'
    have e9 : (kst (cs.take j)).1 ++ [(kst (cs.take j)).2.1] = kx := by rw [t1]; exact hfin
    rw [e9] at a3
    refine ⟨g', ?_, a2, a3, a4⟩
    rw [c_X2_init_47 _ _ _ _ _ _ (i11 S.1), fl, bnd_v, pu_s, c_X2_init_54, if_neg (by omega), c_X2_init_57 _ _ _ _ _ _ (i11 S.1), fl, bnd_v, pu_s, c_X2_init_64, if_neg (by omega), a1, c_X2_init_122, w32_1 (by omega), c_X2_init_47 _ _ _ _ _ _ (i11 S'.1), fl', bnd_v, pu_s, c_X2_init_54, if_pos (by omega), c_X2_init_128]
  | succ n ih =>
    intro j g e E L
    obtain ⟨S, hcv⟩ := hS _ E.2.2.1.1
    have jl : j < cs.length := by omega
    have hb := hok j (by omega)
    have fl : F (d + 4) 173124433 [vR (gR g 3590324226 0)] g = some (.inl (some (vI cs.length)), g) := f_length (d + 2) S
    have fc := f_charAt d S hcv jl
    have hst := kst_s jl
    have hch := (S.2.2.2.2.2.2 j jl).2
    have j6 : j < 1000000 := by omega
    have ih := ih (j + 1)
    rw [hst] at ih
    rw [c_X2_init_47 _ _ _ _ _ _ (i11 S.1), fl, bnd_v, pu_s, c_X2_init_54, if_neg (by omega), c_X2_init_57 _ _ _ _ _ _ (i11 S.1), fl, bnd_v, pu_s, c_X2_init_64, if_pos (by omega), c_X2_init_67 _ _ _ _ _ _ (i11 S.1), fc, bnd_v, pu_s, c_X2_init_74]
    by_cases q : cs.getD j 0 = 32
    · obtain ⟨g', a1, a2, a3, a4⟩ := lex_put (F (d + 4)) (w := (kst (cs.take j)).2.1) (n := (kst (cs.take j)).2.2) (j := j) E hk L hb.2.2.2
      have ks : kstep (kst (cs.take j)) (cs.getD j 0) = ((kst (cs.take j)).1 ++ [(kst (cs.take j)).2.1], 0, 0) := if_pos q
      rw [ks] at ih
      obtain ⟨g2, b1, b2, b3, b4⟩ := ih g' (by omega) a2 a3
      refine ⟨g2, ?_, b2, b3, b4.trans a4⟩
      rw [if_pos q, a1, c_X2_init_122, w32_1 j6]
      exact b1
    · have ks : kstep (kst (cs.take j)) (cs.getD j 0) = ((kst (cs.take j)).1, (kst (cs.take j)).2.1 + cs.getD j 0 * 256 ^ (kst (cs.take j)).2.2, (kst (cs.take j)).2.2 + 1) := if_neg q
      rw [ks] at ih
      obtain ⟨g2, b1, b2, b3, b4⟩ := ih g (by omega) E L
      refine ⟨g2, ?_, b2, b3, b4⟩
      rw [if_neg q, c_X2_init_79 _ _ _ _ _ _ (i11 S.1), fc, bnd_v, pu_s, c_X2_init_87, lor_top hb.1 hb.2.1 hb.2.2.1 hch.1 hch.2, w32_1 (by omega), c_X2_init_122, w32_1 j6]
      exact b1
end XF
