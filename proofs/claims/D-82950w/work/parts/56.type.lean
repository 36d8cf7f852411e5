/-! type: both of the texts -/
set_option maxRecDepth 100000
theorem e_X1_type (d : Nat) (a0 : Nat) (a1 : Int) (h : PH) : F (d + 1) 4458514 [vR a0, vJ a1] h = FA (F d) 4458514 0 [vR a0, vJ a1, vX, vX, vX] [] h := rfl
theorem c_X1_type_0 (cf : Nat → List PV → PH → Rs) (a0 : Nat) (a1 : Int) (a3 : PV) (a4 : PV) (h : PH) : FA cf 4458514 0 [vR a0, vJ a1, vX, a3, a4] [] h = FA cf 4458514 2 [vR a0, vJ a1, vX, vI 0, a4] [] h := (FA_ex cf 4458514 2 _ _ _ _).trans rfl
theorem c_X1_type_2 (cf : Nat → List PV → PH → Rs) (a0 : Nat) (a1 : Int) (a3 : Int) (a4 : PV) (h : PH) : FA cf 4458514 2 [vR a0, vJ a1, vX, vI a3, a4] [] h = if a3 < 8 then FA cf 4458514 8 [vR a0, vJ a1, vX, vI a3, a4] [] h else FA cf 4458514 29 [vR a0, vJ a1, vX, vI a3, a4] [] h := (FA_ex cf 4458514 3 _ _ _ _).trans rfl
theorem c_X1_type_8 (cf : Nat → List PV → PH → Rs) (a0 : Nat) (a1 : Int) (a3 : Int) (a4 : PV) (h : PH) : FA cf 4458514 8 [vR a0, vJ a1, vX, vI a3, a4] [] h = if (lcm (land (lushr a1 (w32 (8 * a3))) (255)) 0) = 0 then FA cf 4458514 29 [vR a0, vJ a1, vX, vI a3, a4] [] h else FA cf 4458514 23 [vR a0, vJ a1, vX, vI a3, a4] [] h := (FA_ex cf 4458514 10 _ _ _ _).trans rfl
theorem c_X1_type_23 (cf : Nat → List PV → PH → Rs) (a0 : Nat) (a1 : Int) (a3 : Int) (a4 : PV) (h : PH) : FA cf 4458514 23 [vR a0, vJ a1, vX, vI a3, a4] [] h = FA cf 4458514 2 [vR a0, vJ a1, vX, vI (w32 (a3 + 1)), a4] [] h := (FA_ex cf 4458514 2 _ _ _ _).trans rfl
theorem c_X1_type_29 (cf : Nat → List PV → PH → Rs) (a0 : Nat) (a1 : Int) (a3 : Int) (a4 : PV) (h : PH) (g0 : inT 1 1 (hc h a0)) : FA cf 4458514 29 [vR a0, vJ a1, vX, vI a3, a4] [] h = if 480 < (w32 ((gI h 8454660 a0) + a3)) then FA cf 4458514 41 [vR a0, vJ a1, vX, vI a3, a4] [] h else FA cf 4458514 43 [vR a0, vJ a1, vX, vI a3, a4] [] h := ((FA_ex cf 4458514 6 _ _ _ _).trans rfl : FA cf 4458514 29 [vR a0, vJ a1, vX, vI a3, a4] [] h = gd (inT 1 1 (hc h a0)) (if 480 < (w32 ((gI h 8454660 a0) + a3)) then FA cf 4458514 41 [vR a0, vJ a1, vX, vI a3, a4] [] h else FA cf 4458514 43 [vR a0, vJ a1, vX, vI a3, a4] [] h)).trans ((gd_t g0))
theorem c_X1_type_41 (cf : Nat → List PV → PH → Rs) (a0 : Nat) (a1 : Int) (a3 : Int) (a4 : PV) (h : PH) : FA cf 4458514 41 [vR a0, vJ a1, vX, vI a3, a4] [] h = some (.inl (some (vI (-1))), h) := (FA_ex cf 4458514 2 _ _ _ _).trans rfl
theorem c_X1_type_43 (cf : Nat → List PV → PH → Rs) (a0 : Nat) (a1 : Int) (a3 : Int) (a4 : PV) (h : PH) : FA cf 4458514 43 [vR a0, vJ a1, vX, vI a3, a4] [] h = FA cf 4458514 46 [vR a0, vJ a1, vX, vI a3, vI 0] [] h := (FA_ex cf 4458514 2 _ _ _ _).trans rfl
theorem c_X1_type_46 (cf : Nat → List PV → PH → Rs) (a0 : Nat) (a1 : Int) (a3 : Int) (a4 : Int) (h : PH) : FA cf 4458514 46 [vR a0, vJ a1, vX, vI a3, vI a4] [] h = if a4 < a3 then FA cf 4458514 52 [vR a0, vJ a1, vX, vI a3, vI a4] [] h else FA cf 4458514 83 [vR a0, vJ a1, vX, vI a3, vI a4] [] h := (FA_ex cf 4458514 3 _ _ _ _).trans rfl
theorem c_X1_type_52 (cf : Nat → List PV → PH → Rs) (a0 : Nat) (a1 : Int) (a3 : Int) (a4 : Int) (h : PH) (g0 : inT 1 1 (hc h a0)) (g1 : ((hc h (gR h 66054 a0)) = 67 ∨ (hc h (gR h 66054 a0)) = 69 ∧ ((w8 (w32 (lushr a1 (w32 (8 * a4))))) = 0 ∨ (w8 (w32 (lushr a1 (w32 (8 * a4))))) = 1)) ∧ inA (gI h 8454660 a0) (hl h (gR h 66054 a0))) : FA cf 4458514 52 [vR a0, vJ a1, vX, vI a3, vI a4] [] h = FA cf 4458514 46 [vR a0, vJ a1, vX, vI a3, vI (w32 (a4 + 1))] [] (qI (pI h 8454660 a0 (w32 ((gI h 8454660 a0) + 1))) (gR h 66054 a0) (gI h 8454660 a0) (if (hc h (gR h 66054 a0)) = 69 then w8 (w32 (lushr a1 (w32 (8 * a4)))) else w8 (w8 (w32 (lushr a1 (w32 (8 * a4))))))) := ((FA_ex cf 4458514 19 _ _ _ _).trans rfl : FA cf 4458514 52 [vR a0, vJ a1, vX, vI a3, vI a4] [] h = gd (inT 1 1 (hc h a0)) (gd (inT 1 1 (hc h a0)) (gd (inT 1 1 (hc h a0)) (gd (((hc h (gR h 66054 a0)) = 67 ∨ (hc h (gR h 66054 a0)) = 69 ∧ ((w8 (w32 (lushr a1 (w32 (8 * a4))))) = 0 ∨ (w8 (w32 (lushr a1 (w32 (8 * a4))))) = 1)) ∧ inA (gI h 8454660 a0) (hl h (gR h 66054 a0))) (FA cf 4458514 46 [vR a0, vJ a1, vX, vI a3, vI (w32 (a4 + 1))] [] (qI (pI h 8454660 a0 (w32 ((gI h 8454660 a0) + 1))) (gR h 66054 a0) (gI h 8454660 a0) (if (hc h (gR h 66054 a0)) = 69 then w8 (w32 (lushr a1 (w32 (8 * a4)))) else w8 (w8 (w32 (lushr a1 (w32 (8 * a4)))))))))))).trans ((gd_t g0).trans ((gd_t g0).trans ((gd_t g0).trans ((gd_t g1)))))
theorem c_X1_type_83 (cf : Nat → List PV → PH → Rs) (a0 : Nat) (a1 : Int) (a3 : Int) (a4 : Int) (h : PH) (g0 : inT 1 1 (hc h a0)) : FA cf 4458514 83 [vR a0, vJ a1, vX, vI a3, vI a4] [] h = some (.inl (some (vI (gI h 8454660 a0))), h) := ((FA_ex cf 4458514 3 _ _ _ _).trans rfl : FA cf 4458514 83 [vR a0, vJ a1, vX, vI a3, vI a4] [] h = gd (inT 1 1 (hc h a0)) (some (.inl (some (vI (gI h 8454660 a0))), h))).trans ((gd_t g0))
theorem e_X10_type (d : Nat) (a0 : Nat) (a1 : Int) (h : PH) : F (d + 1) 37313202 [vR a0, vJ a1] h = FA (F d) 37313202 0 [vR a0, vJ a1, vX, vX, vX] [] h := rfl
theorem c_X10_type_0 (cf : Nat → List PV → PH → Rs) (a0 : Nat) (a1 : Int) (a3 : PV) (a4 : PV) (h : PH) (g0 : inT 43 43 (hc h a0)) : FA cf 37313202 0 [vR a0, vJ a1, vX, a3, a4] [] h = FA cf 37313202 7 [vR a0, vJ a1, vX, vI 0, a4] [] (pI h 1672173228 a0 0) := ((FA_ex cf 37313202 5 _ _ _ _).trans rfl : FA cf 37313202 0 [vR a0, vJ a1, vX, a3, a4] [] h = gd (inT 43 43 (hc h a0)) (FA cf 37313202 7 [vR a0, vJ a1, vX, vI 0, a4] [] (pI h 1672173228 a0 0))).trans ((gd_t g0))
theorem c_X10_type_7 (cf : Nat → List PV → PH → Rs) (a0 : Nat) (a1 : Int) (a3 : Int) (a4 : PV) (h : PH) : FA cf 37313202 7 [vR a0, vJ a1, vX, vI a3, a4] [] h = if a3 < 8 then FA cf 37313202 13 [vR a0, vJ a1, vX, vI a3, a4] [] h else FA cf 37313202 34 [vR a0, vJ a1, vX, vI a3, a4] [] h := (FA_ex cf 37313202 3 _ _ _ _).trans rfl
theorem c_X10_type_13 (cf : Nat → List PV → PH → Rs) (a0 : Nat) (a1 : Int) (a3 : Int) (a4 : PV) (h : PH) : FA cf 37313202 13 [vR a0, vJ a1, vX, vI a3, a4] [] h = if (lcm (land (lshr a1 (w32 (8 * a3))) (255)) 0) = 0 then FA cf 37313202 34 [vR a0, vJ a1, vX, vI a3, a4] [] h else FA cf 37313202 28 [vR a0, vJ a1, vX, vI a3, a4] [] h := (FA_ex cf 37313202 10 _ _ _ _).trans rfl
theorem c_X10_type_28 (cf : Nat → List PV → PH → Rs) (a0 : Nat) (a1 : Int) (a3 : Int) (a4 : PV) (h : PH) : FA cf 37313202 28 [vR a0, vJ a1, vX, vI a3, a4] [] h = FA cf 37313202 7 [vR a0, vJ a1, vX, vI (w32 (a3 + 1)), a4] [] h := (FA_ex cf 37313202 2 _ _ _ _).trans rfl
theorem c_X10_type_34 (cf : Nat → List PV → PH → Rs) (a0 : Nat) (a1 : Int) (a3 : Int) (a4 : PV) (h : PH) (g0 : inT 43 43 (hc h a0)) : FA cf 37313202 34 [vR a0, vJ a1, vX, vI a3, a4] [] h = if 480 < (w32 ((gI h 1688950444 a0) + a3)) then FA cf 37313202 46 [vR a0, vJ a1, vX, vI a3, a4] [] h else FA cf 37313202 48 [vR a0, vJ a1, vX, vI a3, a4] [] h := ((FA_ex cf 37313202 6 _ _ _ _).trans rfl : FA cf 37313202 34 [vR a0, vJ a1, vX, vI a3, a4] [] h = gd (inT 43 43 (hc h a0)) (if 480 < (w32 ((gI h 1688950444 a0) + a3)) then FA cf 37313202 46 [vR a0, vJ a1, vX, vI a3, a4] [] h else FA cf 37313202 48 [vR a0, vJ a1, vX, vI a3, a4] [] h)).trans ((gd_t g0))
theorem c_X10_type_46 (cf : Nat → List PV → PH → Rs) (a0 : Nat) (a1 : Int) (a3 : Int) (a4 : PV) (h : PH) : FA cf 37313202 46 [vR a0, vJ a1, vX, vI a3, a4] [] h = some (.inl (some (vI (-1))), h) := (FA_ex cf 37313202 2 _ _ _ _).trans rfl
theorem c_X10_type_48 (cf : Nat → List PV → PH → Rs) (a0 : Nat) (a1 : Int) (a3 : Int) (a4 : PV) (h : PH) : FA cf 37313202 48 [vR a0, vJ a1, vX, vI a3, a4] [] h = FA cf 37313202 51 [vR a0, vJ a1, vX, vI a3, vI 0] [] h := (FA_ex cf 37313202 2 _ _ _ _).trans rfl
theorem c_X10_type_51 (cf : Nat → List PV → PH → Rs) (a0 : Nat) (a1 : Int) (a3 : Int) (a4 : Int) (h : PH) : FA cf 37313202 51 [vR a0, vJ a1, vX, vI a3, vI a4] [] h = if a4 < a3 then FA cf 37313202 57 [vR a0, vJ a1, vX, vI a3, vI a4] [] h else FA cf 37313202 87 [vR a0, vJ a1, vX, vI a3, vI a4] [] h := (FA_ex cf 37313202 3 _ _ _ _).trans rfl
theorem c_X10_type_57 (cf : Nat → List PV → PH → Rs) (a0 : Nat) (a1 : Int) (a3 : Int) (a4 : Int) (h : PH) (g0 : inT 43 43 (hc h a0)) (g1 : (hc h (gR h 1680561838 a0)) = 65 ∧ inA (w32 ((gI h 1688950444 a0) + a4)) (hl h (gR h 1680561838 a0))) : FA cf 37313202 57 [vR a0, vJ a1, vX, vI a3, vI a4] [] h = FA cf 37313202 51 [vR a0, vJ a1, vX, vI a3, vI (w32 (a4 + 1))] [] (qI h (gR h 1680561838 a0) (w32 ((gI h 1688950444 a0) + a4)) (w32 (land (lshr a1 (w32 (8 * a4))) (255)))) := ((FA_ex cf 37313202 17 _ _ _ _).trans rfl : FA cf 37313202 57 [vR a0, vJ a1, vX, vI a3, vI a4] [] h = gd (inT 43 43 (hc h a0)) (gd (inT 43 43 (hc h a0)) (gd ((hc h (gR h 1680561838 a0)) = 65 ∧ inA (w32 ((gI h 1688950444 a0) + a4)) (hl h (gR h 1680561838 a0))) (FA cf 37313202 51 [vR a0, vJ a1, vX, vI a3, vI (w32 (a4 + 1))] [] (qI h (gR h 1680561838 a0) (w32 ((gI h 1688950444 a0) + a4)) (w32 (land (lshr a1 (w32 (8 * a4))) (255)))))))).trans ((gd_t g0).trans ((gd_t g0).trans ((gd_t g1))))
theorem c_X10_type_87 (cf : Nat → List PV → PH → Rs) (a0 : Nat) (a1 : Int) (a3 : Int) (a4 : Int) (h : PH) (g0 : inT 43 43 (hc h a0)) : FA cf 37313202 87 [vR a0, vJ a1, vX, vI a3, vI a4] [] h = some (.inl (some (vI (gI (pI h 1688950444 a0 (w32 ((gI h 1688950444 a0) + a3))) 1688950444 a0))), (pI h 1688950444 a0 (w32 ((gI h 1688950444 a0) + a3)))) := ((FA_ex cf 37313202 9 _ _ _ _).trans rfl : FA cf 37313202 87 [vR a0, vJ a1, vX, vI a3, vI a4] [] h = gd (inT 43 43 (hc h a0)) (gd (inT 43 43 (hc h a0)) (gd (inT 43 43 (hc h a0)) (some (.inl (some (vI (gI (pI h 1688950444 a0 (w32 ((gI h 1688950444 a0) + a3))) 1688950444 a0))), (pI h 1688950444 a0 (w32 ((gI h 1688950444 a0) + a3)))))))).trans ((gd_t g0).trans ((gd_t g0).trans ((gd_t g0))))
/-- how many bytes there are ahead of a 0 -/
def nbK (v : Int) : Nat → Nat → Nat
  | 0, n => n
  | k + 1, n => if byt v n = 0 then n else nbK v k (n + 1)
theorem nbK_le (v : Int) : ∀ k n, n ≤ nbK v k n ∧ nbK v k n ≤ n + k
  | 0, n => ⟨Nat.le_refl _, Nat.le_refl _⟩
  | k + 1, n => by
    unfold nbK
    split
    · omega
    · have := nbK_le v k (n + 1); omega
def nB (v : Int) : Nat := nbK v 8 0
theorem nB_le (v : Int) : nB v ≤ 8 := by have := (nbK_le v 8 0).2; unfold nB; omega
theorem lcm0 (x : Int) : lcm x 0 = 0 ↔ x = 0 := by
  unfold lcm
  by_cases h : x < 0
  · rw [if_pos h]; omega
  · rw [if_neg h]
    by_cases e : x = 0
    · rw [if_pos e]; simp [e]
    · rw [if_neg e]; simp [e]
theorem w32_1 {n : Nat} (h : n < 1000000) : w32 ((n : Int) + 1) = ((n + 1 : Nat) : Int) := by rw [w32_id (by omega) (by omega)]; omega
theorem xt_1 (cf : Nat → List PV → PH → Rs) (x : Nat) (v : Int) (a4 : PV) (h : PH) : ∀ k n : Nat, n + k = 8 → FA cf 4458514 2 [vR x, vJ v, vX, vI (n : Int), a4] [] h = FA cf 4458514 29 [vR x, vJ v, vX, vI ((nbK v k n : Nat) : Int), a4] [] h := by
  intro k
  induction k with
  | zero =>
    intro n e
    rw [c_X1_type_2, if_neg (by omega)]
    rfl
  | succ k ih =>
    intro n e
    rw [c_X1_type_2, if_pos (by omega), c_X1_type_8, byt_u v n (by omega)]
    unfold nbK
    by_cases z : byt v n = 0
    · rw [if_pos ((lcm0 _).mpr z), if_pos z]
    · rw [if_neg (fun w => z ((lcm0 _).mp w)), if_neg z, c_X1_type_23, w32_1 (by omega)]
      exact ih (n + 1) (by omega)
theorem mt_1 (cf : Nat → List PV → PH → Rs) (x : Nat) (v : Int) (a4 : PV) (h : PH) : ∀ k n : Nat, n + k = 8 → FA cf 37313202 7 [vR x, vJ v, vX, vI (n : Int), a4] [] h = FA cf 37313202 34 [vR x, vJ v, vX, vI ((nbK v k n : Nat) : Int), a4] [] h := by
  intro k
  induction k with
  | zero =>
    intro n e
    rw [c_X10_type_7, if_neg (by omega)]
    rfl
  | succ k ih =>
    intro n e
    rw [c_X10_type_7, if_pos (by omega), c_X10_type_13, byt_s v n (by omega)]
    unfold nbK
    by_cases z : byt v n = 0
    · rw [if_pos ((lcm0 _).mpr z), if_pos z]
    · rw [if_neg (fun w => z ((lcm0 _).mp w)), if_neg z, c_X10_type_28, w32_1 (by omega)]
      exact ih (n + 1) (by omega)
/-- the text behind n bytes more -/
def txX (f : Int → Int) (s : Int) (v : Int) (n : Nat) : Int → Int := fun i => if s ≤ i ∧ i < s + n then w8 (byt v (i - s).toNat) else f i
def txM (f : Int → Int) (s : Int) (v : Int) (n : Nat) : Int → Int := fun i => if s ≤ i ∧ i < s + n then byt v (i - s).toNat else f i
theorem txX_s {f : Int → Int} {s v : Int} {n : Nat} : (fun j => if j = s + n then w8 (byt v n) else txX f s v n j) = txX f s v (n + 1) := by
  funext j
  unfold txX
  by_cases e : j = s + n
  · subst e
    rw [if_pos rfl, if_pos (by omega)]
    have z : (s + (n : Int) - s).toNat = n := by omega
    rw [z]
  · rw [if_neg e]
    by_cases q : s ≤ j ∧ j < s + n
    · rw [if_pos q, if_pos (by omega)]
    · rw [if_neg q, if_neg (by omega)]
theorem txM_s {f : Int → Int} {s v : Int} {n : Nat} : (fun j => if j = s + n then byt v n else txM f s v n j) = txM f s v (n + 1) := by
  funext j
  unfold txM
  by_cases e : j = s + n
  · subst e
    rw [if_pos rfl, if_pos (by omega)]
    have z : (s + (n : Int) - s).toNat = n := by omega
    rw [z]
  · rw [if_neg e]
    by_cases q : s ≤ j ∧ j < s + n
    · rw [if_pos q, if_pos (by omega)]
    · rw [if_neg q, if_neg (by omega)]
theorem tx_0 {f : Int → Int} {s v : Int} : txX f s v 0 = f ∧ txM f s v 0 = f := by
  constructor <;> funext j
  · unfold txX; rw [if_neg (by omega)]
  · unfold txM; rw [if_neg (by omega)]
section TY
variable {h : PH} {x t : Nat} {s v : Int}
/-- x's heap behind j bytes -/
def hxT (h : PH) (x t : Nat) (s v : Int) (j : Nat) : PH := pI (sE h t (txX (eI h t) s v j)) 8454660 x (s + j)
def hmT (h : PH) (m t : Nat) (s v : Int) (j : Nat) : PH := sE h t (txM (eI h t) s v j)
theorem xt_2 (cf : Nat → List PV → PH → Rs) (hx : hc h x = 1) (ht : gR h 66054 x = t) (htg : hc h t = 67) (hlen : hl h t = 480) (h0 : 0 ≤ s) (N : Nat) (hN : s + N ≤ 480) (hN8 : N ≤ 8) : ∀ k j : Nat, j + k = N → FA cf 4458514 46 [vR x, vJ v, vX, vI (N : Int), vI (j : Int)] [] (hxT h x t s v j) = FA cf 4458514 83 [vR x, vJ v, vX, vI (N : Int), vI (N : Int)] [] (hxT h x t s v N) := by
  intro k
  induction k with
  | zero =>
    intro j e
    have e : j = N := by omega
    subst e
    rw [c_X1_type_46, if_neg (by omega)]
  | succ k ih =>
    intro j e
    have g1 : gI (hxT h x t s v j) 8454660 x = s + j := gI_pI
    have g2 : gR (hxT h x t s v j) 66054 x = t := ht
    rw [c_X1_type_46, if_pos (by omega), c_X1_type_52 cf x v N j (hxT h x t s v j) (i11 hx) (by rw [g1, g2]; exact ⟨Or.inl htg, by omega, by show s + (j : Int) < hl h t; omega⟩), g1, g2, w32_1 (by omega), byt_8 v j (by omega)]
    have e1 : hc (hxT h x t s v j) t = 67 := htg
    rw [e1, if_neg (by decide)]
    have e2 : w8 (w8 (byt v j)) = w8 (byt v j) := by unfold w8; omega
    have e3 : w32 (s + (j : Int) + 1) = s + ((j + 1 : Nat) : Int) := by rw [w32_id (by omega) (by omega)]; omega
    rw [e2, e3]
    have e4 : qI (pI (hxT h x t s v j) 8454660 x (s + ((j + 1 : Nat) : Int))) t (s + j) (w8 (byt v j)) = hxT h x t s v (j + 1) := by
      unfold hxT
      rw [pI_pI]
      show pI (qI (sE h t (txX (eI h t) s v j)) t (s + j) (w8 (byt v j))) 8454660 x (s + ((j + 1 : Nat) : Int)) = _
      rw [qI_sE, txX_s]
    rw [e4]
    exact ih (j + 1) (by omega)
theorem mt_2 (cf : Nat → List PV → PH → Rs) {m : Nat} (hm : hc h m = 43) (ht : gR h 1680561838 m = t) (hs0 : gI h 1688950444 m = s) (htg : hc h t = 65) (hlen : hl h t = 480) (h0 : 0 ≤ s) (N : Nat) (hN : s + N ≤ 480) (hN8 : N ≤ 8) : ∀ k j : Nat, j + k = N → FA cf 37313202 51 [vR m, vJ v, vX, vI (N : Int), vI (j : Int)] [] (hmT h m t s v j) = FA cf 37313202 87 [vR m, vJ v, vX, vI (N : Int), vI (N : Int)] [] (hmT h m t s v N) := by
  intro k
  induction k with
  | zero =>
    intro j e
    have e : j = N := by omega
    subst e
    rw [c_X10_type_51, if_neg (by omega)]
  | succ k ih =>
    intro j e
    have g1 : gI (hmT h m t s v j) 1688950444 m = s := hs0
    have g2 : gR (hmT h m t s v j) 1680561838 m = t := ht
    have e3 : w32 (s + (j : Int)) = s + j := w32_id (by omega) (by omega)
    have hb := byt_rng v j
    rw [c_X10_type_51, if_pos (by omega), c_X10_type_57 cf m v N j (hmT h m t s v j) (i11 hm) (by rw [g1, g2, e3]; exact ⟨htg, by omega, by show s + (j : Int) < hl h t; omega⟩), g1, g2, w32_1 (by omega), byt_s v j (by omega), e3, w32_id (by omega) (by omega)]
    have e4 : qI (hmT h m t s v j) t (s + j) (byt v j) = hmT h m t s v (j + 1) := by
      unfold hmT
      rw [qI_sE, txM_s]
    rw [e4]
    exact ih (j + 1) (by omega)
/-- x.type -/
theorem f_xtype (d : Nat) (hx : hc h x = 1) (ht : gR h 66054 x = t) (hs0 : gI h 8454660 x = s) (htg : hc h t = 67) (hlen : hl h t = 480) (h0 : 0 ≤ s) (h1 : s ≤ 480) : F (d + 1) 4458514 [vR x, vJ v] h = if 480 < s + nB v then some (.inl (some (vI (-1))), h) else some (.inl (some (vI (s + nB v))), hxT h x t s v (nB v)) := by
  have hN := nB_le v
  rw [e_X1_type, c_X1_type_0]
  have e1 := xt_1 (F d) x v vX h 8 0 rfl
  have e1 : FA (F d) 4458514 2 [vR x, vJ v, vX, vI 0, vX] [] h = FA (F d) 4458514 29 [vR x, vJ v, vX, vI (nB v : Int), vX] [] h := e1
  rw [e1, c_X1_type_29 (g0 := i11 hx), hs0, w32_id (by omega) (by omega)]
  by_cases q : 480 < s + nB v
  · rw [if_pos q, if_pos q, c_X1_type_41]
  · rw [if_neg q, if_neg q, c_X1_type_43]
    have e2 := xt_2 (v := v) (F d) hx ht htg hlen h0 (nB v) (by omega) hN (nB v) 0 (by omega)
    have e3 : hxT h x t s v 0 = h := by
      unfold hxT
      rw [tx_0.1, sE_id]
      have : s + ((0 : Nat) : Int) = gI h 8454660 x := by rw [hs0]; omega
      rw [this]
      exact pI_id
    rw [e3] at e2
    have e2 : FA (F d) 4458514 46 [vR x, vJ v, vX, vI (nB v : Int), vI 0] [] h = FA (F d) 4458514 83 [vR x, vJ v, vX, vI (nB v : Int), vI (nB v : Int)] [] (hxT h x t s v (nB v)) := e2
    rw [e2, c_X1_type_83 (F d) x v _ _ (hxT h x t s v (nB v)) (i11 hx)]
    have e5 : gI (hxT h x t s v (nB v)) 8454660 x = s + nB v := gI_pI
    rw [e5]
/-- m.type -/
theorem f_mtype (d : Nat) {m : Nat} (hm : hc h m = 43) (ht : gR h 1680561838 m = t) (hs0 : gI h 1688950444 m = s) (htg : hc h t = 65) (hlen : hl h t = 480) (h0 : 0 ≤ s) (h1 : s ≤ 480) : F (d + 1) 37313202 [vR m, vJ v] h = if 480 < s + nB v then some (.inl (some (vI (-1))), pI h 1672173228 m 0) else some (.inl (some (vI (s + nB v))), pI (hmT (pI h 1672173228 m 0) m t s v (nB v)) 1688950444 m (s + nB v)) := by
  have hN := nB_le v
  rw [e_X10_type, c_X10_type_0 (g0 := i11 hm)]
  have e1 := mt_1 (F d) m v vX (pI h 1672173228 m 0) 8 0 rfl
  have e1 : FA (F d) 37313202 7 [vR m, vJ v, vX, vI 0, vX] [] (pI h 1672173228 m 0) = FA (F d) 37313202 34 [vR m, vJ v, vX, vI (nB v : Int), vX] [] (pI h 1672173228 m 0) := e1
  have hs1 : gI (pI h 1672173228 m 0) 1688950444 m = s := by rw [gI_pIo (fun z => absurd z.1 (by decide))]; exact hs0
  rw [e1, c_X10_type_34 (g0 := i11 (show hc (pI h 1672173228 m 0) m = 43 from hm)), hs1, w32_id (by omega) (by omega)]
  by_cases q : 480 < s + nB v
  · rw [if_pos q, if_pos q, c_X10_type_46]
  · rw [if_neg q, if_neg q, c_X10_type_48]
    have e2 := mt_2 (h := pI h 1672173228 m 0) (v := v) (F d) (m := m) hm ht hs1 htg hlen h0 (nB v) (by omega) hN (nB v) 0 (by omega)
    have e3 : hmT (pI h 1672173228 m 0) m t s v 0 = pI h 1672173228 m 0 := by
      unfold hmT
      rw [tx_0.2, sE_id]
    rw [e3] at e2
    have e2 : FA (F d) 37313202 51 [vR m, vJ v, vX, vI (nB v : Int), vI 0] [] (pI h 1672173228 m 0) = FA (F d) 37313202 87 [vR m, vJ v, vX, vI (nB v : Int), vI (nB v : Int)] [] (hmT (pI h 1672173228 m 0) m t s v (nB v)) := e2
    have e6 : gI (hmT (pI h 1672173228 m 0) m t s v (nB v)) 1688950444 m = s := hs1
    rw [e2, c_X10_type_87 (g0 := i11 (show hc (hmT (pI h 1672173228 m 0) m t s v (nB v)) m = 43 from hm)), e6, w32_id (by omega) (by omega), gI_pI]
end TY
