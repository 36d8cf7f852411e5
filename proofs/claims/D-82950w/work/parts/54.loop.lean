/-! THE LAW OUT OF WHAT ITS CALLS DO (printed by gen/top2.py) -/
set_option maxRecDepth 100000
theorem e_X10_thrown (d : Nat) (a0 : Nat) (h : PH) : F (d + 1) 37051057 [vR a0] h = FA (F d) 37051057 0 [vR a0] [] h := rfl
theorem c_X10_thrown_0 (cf : Nat → List PV → PH → Rs) (a0 : Nat) (h : PH) (g0 : inT 43 43 (hc h a0)) : FA cf 37051057 0 [vR a0] [] h = some (.inl (some (vI (gI h 1672173228 a0))), h) := ((FA_ex cf 37051057 3 _ _ _ _).trans rfl : FA cf 37051057 0 [vR a0] [] h = gd (inT 43 43 (hc h a0)) (some (.inl (some (vI (gI h 1672173228 a0))), h))).trans ((gd_t g0))
theorem lcm_self (x : Int) : lcm x x = 0 := by unfold lcm; rw [if_neg (by omega), if_pos rfl]
theorem lor_in (x y : Int) : in64 (lor x y) := ⟨Int64.le_toInt _, Int64.toInt_lt _⟩
abbrev IV : Type := Nat → PH → Nat → Nat → Nat → Prop
/-- what the invariant of the two objects must say -/
def InvOK (INV : IV) (b L : Nat) (xs : Nat → Int) : Prop := ∀ k h x m o, INV k h x m o → hc h x = 1 ∧ hc h m = 43 ∧ hc h o = 66 ∧ hl h o = 1 ∧ ConH h ∧ ScrH h b L xs ∧ INV (k + 1) h x m o
/-- a call that answers with an int, of both -/
def OpV (INV : IV) (MX MM : Nat) (av : List PV) : Prop := ∀ k h x m o, k < 64 → INV k h x m o → ∃ v h1 h2, F 2039 MX (vR x :: av) h = some (.inl (some (vI v)), h1) ∧ F 2039 MM (vR m :: av) h1 = some (.inl (some (vI v)), h2) ∧ INV (k + 1) h2 x m o
/-- a call that may throw: WX is the law's own method that catches -/
def OpT (INV : IV) (WX MM : Nat) (av : List PV) : Prop := ∀ k h x m o, k < 64 → INV k h x m o → ∃ c h1 v h2, F 2039 WX (vR x :: (av ++ [vR o])) h = some (.inl (some (vI c)), h1) ∧ F 2039 MM (vR m :: av) h1 = some (.inl (some (vI v)), h2) ∧ gI h2 1672173228 m = c ∧ (c = 0 → eJ h2 o 0 = v) ∧ INV (k + 1) h2 x m o
def OpJ (INV : IV) (WX MM : Nat) (av : List PV) : Prop := ∀ k h x m o, k < 64 → INV k h x m o → ∃ c h1 v h2, F 2039 WX (vR x :: (av ++ [vR o])) h = some (.inl (some (vI c)), h1) ∧ F 2039 MM (vR m :: av) h1 = some (.inl (some (vJ v)), h2) ∧ gI h2 1672173228 m = c ∧ (c = 0 → eJ h2 o 0 = v) ∧ INV (k + 1) h2 x m o
def OpB (INV : IV) (WX MM : Nat) (av : List PV) : Prop := ∀ k h x m o, k < 64 → INV k h x m o → ∃ c h1 v h2, F 2039 WX (vR x :: (av ++ [vR o])) h = some (.inl (some (vI c)), h1) ∧ F 2039 MM (vR m :: av) h1 = some (.inl (some (vI v)), h2) ∧ gI h2 1672173228 m = c ∧ (c = 0 → eJ h2 o 0 = if v = 0 then 0 else 1) ∧ INV (k + 1) h2 x m o
section LAWL
variable {INV : IV} {b L k : Nat} {xs : Nat → Int} {h h1 : PH} {x m o : Nat}
theorem scg {i : Int} {j : Nat} (S : ScrH h b L xs) (hj : j < L) (e : i = (j : Int)) : (inT 64 65 (hc h (b + 1)) ∨ inT 64 65 (kc h (b + 1))) ∧ inA i (hl h (b + 1)) := by
  obtain ⟨s1, s2, -, -⟩ := S
  exact ⟨Or.inr (by rw [s1]; exact ⟨by decide, by decide⟩), by omega, by rw [s2]; omega⟩
theorem scv {i : Int} {j : Nat} (S : ScrH h b L xs) (hj : j < L) (e : i = (j : Int)) : eI h (b + 1) i = xs j := by rw [e]; exact (S.2.2.2 j hj).1
theorem wj1 (hk : k < 64) : w32 (((5 * k : Nat) : Int) + 1) = ((5 * k + 1 : Nat) : Int) := by rw [w32_id (by omega) (by omega)]; omega
theorem wj2 (hk : k < 64) : w32 (((5 * k : Nat) : Int) + 2) = ((5 * k + 2 : Nat) : Int) := by rw [w32_id (by omega) (by omega)]; omega
theorem wj3 (hk : k < 64) : w32 (((5 * k : Nat) : Int) + 3) = ((5 * k + 3 : Nat) : Int) := by rw [w32_id (by omega) (by omega)]; omega
theorem wj4 (hk : k < 64) : w32 (((5 * k : Nat) : Int) + 4) = ((5 * k + 4 : Nat) : Int) := by rw [w32_id (by omega) (by omega)]; omega
theorem hc_keep {r : Nat} (C : ConH h) (K : Kept h h1) (hr : hc h r ≠ 0) : hc h1 r = hc h r := by
  rcases Nat.lt_or_ge r (hn h) with z | z
  · exact K.1.2.2.2.1 r z
  · exact absurd (C.1.2.2.1 r z) hr
theorem i11 {n : Nat} {c : Nat} (e : n = c) : inT c c n := by rw [e]; exact ⟨Nat.le_refl _, Nat.le_refl _⟩
theorem l_case0 (hI : InvOK INV b L xs) (op : ∀ v0 : Int, in64 v0 → OpV INV 4458514 37313202 [vJ v0]) (a5 a6 a7 : PV) (hk : k < 64) (hb : 5 * k + 4 < L) (I : INV k h x m o) : ∃ h2 b5 b6 b7, FA (F 2039) 176685057 132 [vR (b + 1), vR x, vR m, vR o, vI ((5 * k : Nat) : Int), a5, a6, a7] [] h = FA (F 2039) 176685057 1365 [vR (b + 1), vR x, vR m, vR o, vI ((5 * k : Nat) : Int), b5, b6, b7] [] h2 ∧ INV (k + 1) h2 x m o := by
  obtain ⟨hx, hm, ho, hol, C, S, Im⟩ := hI _ _ _ _ _ I
  obtain ⟨v, h1, h2, f1, f2, I2⟩ := (op _ (lor_in _ _)) k h x m o hk I
  have f1 : F 2039 4458514 [vR x, vJ (lor (lshl (xs (5 * k + 1)) 32) (land (xs (5 * k + 2)) (4294967295)))] h = some (.inl (some (vI v)), h1) := f1
  have f2 : F 2039 37313202 [vR m, vJ (lor (lshl (xs (5 * k + 1)) 32) (land (xs (5 * k + 2)) (4294967295)))] h1 = some (.inl (some (vI v)), h2) := f2
  have K1 : Kept h h1 := F_con f1
  have S1 := S.keep C K1
  have hm1 : hc h1 m = 43 := (hc_keep C K1 (by rw [hm]; decide)).trans hm
  obtain ⟨hx2, hm2, ho2, hol2, C2, S2, -⟩ := hI _ _ _ _ _ I2
  rw [c_law_132 (g0 := scg S (by omega) (wj1 hk)) (g1 := scg S (by omega) (wj2 hk)) (g2 := i11 hx), scv S (j := 5 * k + 1) (by omega) (wj1 hk), scv S (j := 5 * k + 2) (by omega) (wj2 hk), f1]
  dsimp only [bnd, pu]
  rw [c_law_158 (g0 := scg S1 (by omega) (wj1 hk)) (g1 := scg S1 (by omega) (wj2 hk)) (g2 := i11 hm1), scv S1 (j := 5 * k + 1) (by omega) (wj1 hk), scv S1 (j := 5 * k + 2) (by omega) (wj2 hk), f2]
  dsimp only [bnd, pu]
  rw [c_law_184, if_pos rfl]
  exact ⟨h2, _, _, _, rfl, I2⟩
theorem l_case1 (hI : InvOK INV b L xs) (op : OpT INV 2 37575345 []) (a5 a6 a7 : PV) (hk : k < 64) (hb : 5 * k + 4 < L) (I : INV k h x m o) : ∃ h2 b5 b6 b7, FA (F 2039) 176685057 189 [vR (b + 1), vR x, vR m, vR o, vI ((5 * k : Nat) : Int), a5, a6, a7] [] h = FA (F 2039) 176685057 1365 [vR (b + 1), vR x, vR m, vR o, vI ((5 * k : Nat) : Int), b5, b6, b7] [] h2 ∧ INV (k + 1) h2 x m o := by
  obtain ⟨hx, hm, ho, hol, C, S, Im⟩ := hI _ _ _ _ _ I
  obtain ⟨c, h1, v, h2, f1, f2, e1, e2, I2⟩ := op k h x m o hk I
  have f1 : F 2039 2 [vR x, vR o] h = some (.inl (some (vI c)), h1) := f1
  have f2 : F 2039 37575345 [vR m] h1 = some (.inl (some (vI v)), h2) := f2
  have K1 : Kept h h1 := F_con f1
  have S1 := S.keep C K1
  have hm1 : hc h1 m = 43 := (hc_keep C K1 (by rw [hm]; decide)).trans hm
  obtain ⟨hx2, hm2, ho2, hol2, C2, S2, -⟩ := hI _ _ _ _ _ I2
  rw [c_law_189 , f1]
  dsimp only [bnd, pu]
  rw [c_law_194 (g0 := i11 hm1), f2]
  dsimp only [bnd, pu]
  rw [c_law_200 (g0 := i11 hm2), show F 2039 37051057 [vR m] h2 = some (.inl (some (vI (gI h2 1672173228 m))), h2) from (e_X10_thrown 2038 m h2).trans (c_X10_thrown_0 _ _ _ (i11 hm2)), e1]
  dsimp only [bnd, pu]
  rw [c_law_206, if_pos rfl, c_law_213]
  by_cases hq : c = 0
  · rw [if_pos hq, c_law_218 (g0 := ⟨ho2, by decide, by rw [hol2]; decide⟩), e2 hq, lcm_self, if_pos rfl, c_law_230]
    exact ⟨h2, _, _, _, rfl, I2⟩
  · rw [if_neg hq, c_law_230]
    exact ⟨h2, _, _, _, rfl, I2⟩
theorem l_case2 (hI : InvOK INV b L xs) (op : ∀ v0 : Int, in32 v0 → OpT INV 262147 77159090 [vI v0]) (a5 a6 a7 : PV) (hk : k < 64) (hb : 5 * k + 4 < L) (I : INV k h x m o) : ∃ h2 b5 b6 b7, FA (F 2039) 176685057 233 [vR (b + 1), vR x, vR m, vR o, vI ((5 * k : Nat) : Int), a5, a6, a7] [] h = FA (F 2039) 176685057 1365 [vR (b + 1), vR x, vR m, vR o, vI ((5 * k : Nat) : Int), b5, b6, b7] [] h2 ∧ INV (k + 1) h2 x m o := by
  obtain ⟨hx, hm, ho, hol, C, S, Im⟩ := hI _ _ _ _ _ I
  obtain ⟨c, h1, v, h2, f1, f2, e1, e2, I2⟩ := (op _ ((S.2.2.2 (5 * k + 1) (by omega)).2)) k h x m o hk I
  have f1 : F 2039 262147 [vR x, vI (xs (5 * k + 1)), vR o] h = some (.inl (some (vI c)), h1) := f1
  have f2 : F 2039 77159090 [vR m, vI (xs (5 * k + 1))] h1 = some (.inl (some (vI v)), h2) := f2
  have K1 : Kept h h1 := F_con f1
  have S1 := S.keep C K1
  have hm1 : hc h1 m = 43 := (hc_keep C K1 (by rw [hm]; decide)).trans hm
  obtain ⟨hx2, hm2, ho2, hol2, C2, S2, -⟩ := hI _ _ _ _ _ I2
  rw [c_law_233 (g0 := scg S (by omega) (wj1 hk)), scv S (j := 5 * k + 1) (by omega) (wj1 hk), f1]
  dsimp only [bnd, pu]
  rw [c_law_244 (g0 := scg S1 (by omega) (wj1 hk)) (g1 := i11 hm1), scv S1 (j := 5 * k + 1) (by omega) (wj1 hk), f2]
  dsimp only [bnd, pu]
  rw [c_law_256 (g0 := i11 hm2), show F 2039 37051057 [vR m] h2 = some (.inl (some (vI (gI h2 1672173228 m))), h2) from (e_X10_thrown 2038 m h2).trans (c_X10_thrown_0 _ _ _ (i11 hm2)), e1]
  dsimp only [bnd, pu]
  rw [c_law_262, if_pos rfl, c_law_269]
  by_cases hq : c = 0
  · rw [if_pos hq, c_law_274 (g0 := ⟨ho2, by decide, by rw [hol2]; decide⟩), e2 hq, lcm_self, if_pos rfl, c_law_286]
    exact ⟨h2, _, _, _, rfl, I2⟩
  · rw [if_neg hq, c_law_286]
    exact ⟨h2, _, _, _, rfl, I2⟩
theorem l_case3 (hI : InvOK INV b L xs) (op : OpV INV 4720657 77421233 []) (a5 a6 a7 : PV) (hk : k < 64) (hb : 5 * k + 4 < L) (I : INV k h x m o) : ∃ h2 b5 b6 b7, FA (F 2039) 176685057 289 [vR (b + 1), vR x, vR m, vR o, vI ((5 * k : Nat) : Int), a5, a6, a7] [] h = FA (F 2039) 176685057 1365 [vR (b + 1), vR x, vR m, vR o, vI ((5 * k : Nat) : Int), b5, b6, b7] [] h2 ∧ INV (k + 1) h2 x m o := by
  obtain ⟨hx, hm, ho, hol, C, S, Im⟩ := hI _ _ _ _ _ I
  obtain ⟨v, h1, h2, f1, f2, I2⟩ := op k h x m o hk I
  have f1 : F 2039 4720657 [vR x] h = some (.inl (some (vI v)), h1) := f1
  have f2 : F 2039 77421233 [vR m] h1 = some (.inl (some (vI v)), h2) := f2
  have K1 : Kept h h1 := F_con f1
  have S1 := S.keep C K1
  have hm1 : hc h1 m = 43 := (hc_keep C K1 (by rw [hm]; decide)).trans hm
  obtain ⟨hx2, hm2, ho2, hol2, C2, S2, -⟩ := hI _ _ _ _ _ I2
  rw [c_law_289 (g0 := i11 hx), f1]
  dsimp only [bnd, pu]
  rw [c_law_293 (g0 := i11 hm1), f2]
  dsimp only [bnd, pu]
  rw [c_law_297, if_pos rfl]
  exact ⟨h2, _, _, _, rfl, I2⟩
theorem l_case4 (hI : InvOK INV b L xs) (op : OpV INV 4982801 77683377 []) (a5 a6 a7 : PV) (hk : k < 64) (hb : 5 * k + 4 < L) (I : INV k h x m o) : ∃ h2 b5 b6 b7, FA (F 2039) 176685057 302 [vR (b + 1), vR x, vR m, vR o, vI ((5 * k : Nat) : Int), a5, a6, a7] [] h = FA (F 2039) 176685057 1365 [vR (b + 1), vR x, vR m, vR o, vI ((5 * k : Nat) : Int), b5, b6, b7] [] h2 ∧ INV (k + 1) h2 x m o := by
  obtain ⟨hx, hm, ho, hol, C, S, Im⟩ := hI _ _ _ _ _ I
  obtain ⟨v, h1, h2, f1, f2, I2⟩ := op k h x m o hk I
  have f1 : F 2039 4982801 [vR x] h = some (.inl (some (vI v)), h1) := f1
  have f2 : F 2039 77683377 [vR m] h1 = some (.inl (some (vI v)), h2) := f2
  have K1 : Kept h h1 := F_con f1
  have S1 := S.keep C K1
  have hm1 : hc h1 m = 43 := (hc_keep C K1 (by rw [hm]; decide)).trans hm
  obtain ⟨hx2, hm2, ho2, hol2, C2, S2, -⟩ := hI _ _ _ _ _ I2
  rw [c_law_302 (g0 := i11 hx), f1]
  dsimp only [bnd, pu]
  rw [c_law_306 (g0 := i11 hm1), f2]
  dsimp only [bnd, pu]
  rw [c_law_310, if_pos rfl]
  exact ⟨h2, _, _, _, rfl, I2⟩
theorem l_case5 (hI : InvOK INV b L xs) (op : ∀ v0 : Int, in32 v0 → OpT INV 524291 77945522 [vI v0]) (a5 a6 a7 : PV) (hk : k < 64) (hb : 5 * k + 4 < L) (I : INV k h x m o) : ∃ h2 b5 b6 b7, FA (F 2039) 176685057 315 [vR (b + 1), vR x, vR m, vR o, vI ((5 * k : Nat) : Int), a5, a6, a7] [] h = FA (F 2039) 176685057 1365 [vR (b + 1), vR x, vR m, vR o, vI ((5 * k : Nat) : Int), b5, b6, b7] [] h2 ∧ INV (k + 1) h2 x m o := by
  obtain ⟨hx, hm, ho, hol, C, S, Im⟩ := hI _ _ _ _ _ I
  obtain ⟨c, h1, v, h2, f1, f2, e1, e2, I2⟩ := (op _ ((S.2.2.2 (5 * k + 1) (by omega)).2)) k h x m o hk I
  have f1 : F 2039 524291 [vR x, vI (xs (5 * k + 1)), vR o] h = some (.inl (some (vI c)), h1) := f1
  have f2 : F 2039 77945522 [vR m, vI (xs (5 * k + 1))] h1 = some (.inl (some (vI v)), h2) := f2
  have K1 : Kept h h1 := F_con f1
  have S1 := S.keep C K1
  have hm1 : hc h1 m = 43 := (hc_keep C K1 (by rw [hm]; decide)).trans hm
  obtain ⟨hx2, hm2, ho2, hol2, C2, S2, -⟩ := hI _ _ _ _ _ I2
  rw [c_law_315 (g0 := scg S (by omega) (wj1 hk)), scv S (j := 5 * k + 1) (by omega) (wj1 hk), f1]
  dsimp only [bnd, pu]
  rw [c_law_326 (g0 := scg S1 (by omega) (wj1 hk)) (g1 := i11 hm1), scv S1 (j := 5 * k + 1) (by omega) (wj1 hk), f2]
  dsimp only [bnd, pu]
  rw [c_law_338 (g0 := i11 hm2), show F 2039 37051057 [vR m] h2 = some (.inl (some (vI (gI h2 1672173228 m))), h2) from (e_X10_thrown 2038 m h2).trans (c_X10_thrown_0 _ _ _ (i11 hm2)), e1]
  dsimp only [bnd, pu]
  rw [c_law_344, if_pos rfl, c_law_351]
  by_cases hq : c = 0
  · rw [if_pos hq, c_law_356 (g0 := ⟨ho2, by decide, by rw [hol2]; decide⟩), e2 hq, lcm_self, if_pos rfl, c_law_368]
    exact ⟨h2, _, _, _, rfl, I2⟩
  · rw [if_neg hq, c_law_368]
    exact ⟨h2, _, _, _, rfl, I2⟩
theorem l_case6 (hI : InvOK INV b L xs) (op : ∀ v0 v1 v2 : Int, in32 v0 → in32 v1 → in32 v2 → OpT INV 786437 78469812 [vI v0, vI v1, vI v2]) (a5 a6 a7 : PV) (hk : k < 64) (hb : 5 * k + 4 < L) (I : INV k h x m o) : ∃ h2 b5 b6 b7, FA (F 2039) 176685057 371 [vR (b + 1), vR x, vR m, vR o, vI ((5 * k : Nat) : Int), a5, a6, a7] [] h = FA (F 2039) 176685057 1365 [vR (b + 1), vR x, vR m, vR o, vI ((5 * k : Nat) : Int), b5, b6, b7] [] h2 ∧ INV (k + 1) h2 x m o := by
  obtain ⟨hx, hm, ho, hol, C, S, Im⟩ := hI _ _ _ _ _ I
  obtain ⟨c, h1, v, h2, f1, f2, e1, e2, I2⟩ := (op _ _ _ ((S.2.2.2 (5 * k + 1) (by omega)).2) ((S.2.2.2 (5 * k + 2) (by omega)).2) ((S.2.2.2 (5 * k + 3) (by omega)).2)) k h x m o hk I
  have f1 : F 2039 786437 [vR x, vI (xs (5 * k + 1)), vI (xs (5 * k + 2)), vI (xs (5 * k + 3)), vR o] h = some (.inl (some (vI c)), h1) := f1
  have f2 : F 2039 78469812 [vR m, vI (xs (5 * k + 1)), vI (xs (5 * k + 2)), vI (xs (5 * k + 3))] h1 = some (.inl (some (vI v)), h2) := f2
  have K1 : Kept h h1 := F_con f1
  have S1 := S.keep C K1
  have hm1 : hc h1 m = 43 := (hc_keep C K1 (by rw [hm]; decide)).trans hm
  obtain ⟨hx2, hm2, ho2, hol2, C2, S2, -⟩ := hI _ _ _ _ _ I2
  rw [c_law_371 (g0 := scg S (by omega) (wj1 hk)) (g1 := scg S (by omega) (wj2 hk)) (g2 := scg S (by omega) (wj3 hk)), scv S (j := 5 * k + 1) (by omega) (wj1 hk), scv S (j := 5 * k + 2) (by omega) (wj2 hk), scv S (j := 5 * k + 3) (by omega) (wj3 hk), f1]
  dsimp only [bnd, pu]
  rw [c_law_394 (g0 := scg S1 (by omega) (wj1 hk)) (g1 := scg S1 (by omega) (wj2 hk)) (g2 := scg S1 (by omega) (wj3 hk)) (g3 := i11 hm1), scv S1 (j := 5 * k + 1) (by omega) (wj1 hk), scv S1 (j := 5 * k + 2) (by omega) (wj2 hk), scv S1 (j := 5 * k + 3) (by omega) (wj3 hk), f2]
  dsimp only [bnd, pu]
  rw [c_law_418 (g0 := i11 hm2), show F 2039 37051057 [vR m] h2 = some (.inl (some (vI (gI h2 1672173228 m))), h2) from (e_X10_thrown 2038 m h2).trans (c_X10_thrown_0 _ _ _ (i11 hm2)), e1]
  dsimp only [bnd, pu]
  rw [c_law_424, if_pos rfl, c_law_431]
  by_cases hq : c = 0
  · rw [if_pos hq, c_law_436 (g0 := ⟨ho2, by decide, by rw [hol2]; decide⟩), e2 hq, lcm_self, if_pos rfl, c_law_448]
    exact ⟨h2, _, _, _, rfl, I2⟩
  · rw [if_neg hq, c_law_448]
    exact ⟨h2, _, _, _, rfl, I2⟩
theorem l_case7 (hI : InvOK INV b L xs) (op : ∀ v0 v1 v2 : Int, in32 v0 → in32 v1 → in32 v2 → OpT INV 1048581 78994100 [vI v0, vI v1, vI v2]) (a5 a6 a7 : PV) (hk : k < 64) (hb : 5 * k + 4 < L) (I : INV k h x m o) : ∃ h2 b5 b6 b7, FA (F 2039) 176685057 451 [vR (b + 1), vR x, vR m, vR o, vI ((5 * k : Nat) : Int), a5, a6, a7] [] h = FA (F 2039) 176685057 1365 [vR (b + 1), vR x, vR m, vR o, vI ((5 * k : Nat) : Int), b5, b6, b7] [] h2 ∧ INV (k + 1) h2 x m o := by
  obtain ⟨hx, hm, ho, hol, C, S, Im⟩ := hI _ _ _ _ _ I
  obtain ⟨c, h1, v, h2, f1, f2, e1, e2, I2⟩ := (op _ _ _ ((S.2.2.2 (5 * k + 1) (by omega)).2) ((S.2.2.2 (5 * k + 2) (by omega)).2) ((S.2.2.2 (5 * k + 3) (by omega)).2)) k h x m o hk I
  have f1 : F 2039 1048581 [vR x, vI (xs (5 * k + 1)), vI (xs (5 * k + 2)), vI (xs (5 * k + 3)), vR o] h = some (.inl (some (vI c)), h1) := f1
  have f2 : F 2039 78994100 [vR m, vI (xs (5 * k + 1)), vI (xs (5 * k + 2)), vI (xs (5 * k + 3))] h1 = some (.inl (some (vI v)), h2) := f2
  have K1 : Kept h h1 := F_con f1
  have S1 := S.keep C K1
  have hm1 : hc h1 m = 43 := (hc_keep C K1 (by rw [hm]; decide)).trans hm
  obtain ⟨hx2, hm2, ho2, hol2, C2, S2, -⟩ := hI _ _ _ _ _ I2
  rw [c_law_451 (g0 := scg S (by omega) (wj1 hk)) (g1 := scg S (by omega) (wj2 hk)) (g2 := scg S (by omega) (wj3 hk)), scv S (j := 5 * k + 1) (by omega) (wj1 hk), scv S (j := 5 * k + 2) (by omega) (wj2 hk), scv S (j := 5 * k + 3) (by omega) (wj3 hk), f1]
  dsimp only [bnd, pu]
  rw [c_law_474 (g0 := scg S1 (by omega) (wj1 hk)) (g1 := scg S1 (by omega) (wj2 hk)) (g2 := scg S1 (by omega) (wj3 hk)) (g3 := i11 hm1), scv S1 (j := 5 * k + 1) (by omega) (wj1 hk), scv S1 (j := 5 * k + 2) (by omega) (wj2 hk), scv S1 (j := 5 * k + 3) (by omega) (wj3 hk), f2]
  dsimp only [bnd, pu]
  rw [c_law_498 (g0 := i11 hm2), show F 2039 37051057 [vR m] h2 = some (.inl (some (vI (gI h2 1672173228 m))), h2) from (e_X10_thrown 2038 m h2).trans (c_X10_thrown_0 _ _ _ (i11 hm2)), e1]
  dsimp only [bnd, pu]
  rw [c_law_504, if_pos rfl, c_law_511]
  by_cases hq : c = 0
  · rw [if_pos hq, c_law_516 (g0 := ⟨ho2, by decide, by rw [hol2]; decide⟩), e2 hq, lcm_self, if_pos rfl, c_law_528]
    exact ⟨h2, _, _, _, rfl, I2⟩
  · rw [if_neg hq, c_law_528]
    exact ⟨h2, _, _, _, rfl, I2⟩
theorem l_case8 (hI : InvOK INV b L xs) (op : ∀ v0 v1 v2 : Int, in32 v0 → in32 v1 → in32 v2 → OpT INV 1310725 79256244 [vI v0, vI v1, vI v2]) (a5 a6 a7 : PV) (hk : k < 64) (hb : 5 * k + 4 < L) (I : INV k h x m o) : ∃ h2 b5 b6 b7, FA (F 2039) 176685057 531 [vR (b + 1), vR x, vR m, vR o, vI ((5 * k : Nat) : Int), a5, a6, a7] [] h = FA (F 2039) 176685057 1365 [vR (b + 1), vR x, vR m, vR o, vI ((5 * k : Nat) : Int), b5, b6, b7] [] h2 ∧ INV (k + 1) h2 x m o := by
  obtain ⟨hx, hm, ho, hol, C, S, Im⟩ := hI _ _ _ _ _ I
  obtain ⟨c, h1, v, h2, f1, f2, e1, e2, I2⟩ := (op _ _ _ ((S.2.2.2 (5 * k + 1) (by omega)).2) ((S.2.2.2 (5 * k + 2) (by omega)).2) ((S.2.2.2 (5 * k + 3) (by omega)).2)) k h x m o hk I
  have f1 : F 2039 1310725 [vR x, vI (xs (5 * k + 1)), vI (xs (5 * k + 2)), vI (xs (5 * k + 3)), vR o] h = some (.inl (some (vI c)), h1) := f1
  have f2 : F 2039 79256244 [vR m, vI (xs (5 * k + 1)), vI (xs (5 * k + 2)), vI (xs (5 * k + 3))] h1 = some (.inl (some (vI v)), h2) := f2
  have K1 : Kept h h1 := F_con f1
  have S1 := S.keep C K1
  have hm1 : hc h1 m = 43 := (hc_keep C K1 (by rw [hm]; decide)).trans hm
  obtain ⟨hx2, hm2, ho2, hol2, C2, S2, -⟩ := hI _ _ _ _ _ I2
  rw [c_law_531 (g0 := scg S (by omega) (wj1 hk)) (g1 := scg S (by omega) (wj2 hk)) (g2 := scg S (by omega) (wj3 hk)), scv S (j := 5 * k + 1) (by omega) (wj1 hk), scv S (j := 5 * k + 2) (by omega) (wj2 hk), scv S (j := 5 * k + 3) (by omega) (wj3 hk), f1]
  dsimp only [bnd, pu]
  rw [c_law_554 (g0 := scg S1 (by omega) (wj1 hk)) (g1 := scg S1 (by omega) (wj2 hk)) (g2 := scg S1 (by omega) (wj3 hk)) (g3 := i11 hm1), scv S1 (j := 5 * k + 1) (by omega) (wj1 hk), scv S1 (j := 5 * k + 2) (by omega) (wj2 hk), scv S1 (j := 5 * k + 3) (by omega) (wj3 hk), f2]
  dsimp only [bnd, pu]
  rw [c_law_578 (g0 := i11 hm2), show F 2039 37051057 [vR m] h2 = some (.inl (some (vI (gI h2 1672173228 m))), h2) from (e_X10_thrown 2038 m h2).trans (c_X10_thrown_0 _ _ _ (i11 hm2)), e1]
  dsimp only [bnd, pu]
  rw [c_law_584, if_pos rfl, c_law_591]
  by_cases hq : c = 0
  · rw [if_pos hq, c_law_596 (g0 := ⟨ho2, by decide, by rw [hol2]; decide⟩), e2 hq, lcm_self, if_pos rfl, c_law_608]
    exact ⟨h2, _, _, _, rfl, I2⟩
  · rw [if_neg hq, c_law_608]
    exact ⟨h2, _, _, _, rfl, I2⟩
theorem l_case9 (hI : InvOK INV b L xs) (op : ∀ v0 v1 v2 : Int, in32 v0 → in32 v1 → in32 v2 → OpT INV 1572869 80042676 [vI v0, vI v1, vI v2]) (a5 a6 a7 : PV) (hk : k < 64) (hb : 5 * k + 4 < L) (I : INV k h x m o) : ∃ h2 b5 b6 b7, FA (F 2039) 176685057 611 [vR (b + 1), vR x, vR m, vR o, vI ((5 * k : Nat) : Int), a5, a6, a7] [] h = FA (F 2039) 176685057 1365 [vR (b + 1), vR x, vR m, vR o, vI ((5 * k : Nat) : Int), b5, b6, b7] [] h2 ∧ INV (k + 1) h2 x m o := by
  obtain ⟨hx, hm, ho, hol, C, S, Im⟩ := hI _ _ _ _ _ I
  obtain ⟨c, h1, v, h2, f1, f2, e1, e2, I2⟩ := (op _ _ _ ((S.2.2.2 (5 * k + 1) (by omega)).2) ((S.2.2.2 (5 * k + 2) (by omega)).2) ((S.2.2.2 (5 * k + 3) (by omega)).2)) k h x m o hk I
  have f1 : F 2039 1572869 [vR x, vI (xs (5 * k + 1)), vI (xs (5 * k + 2)), vI (xs (5 * k + 3)), vR o] h = some (.inl (some (vI c)), h1) := f1
  have f2 : F 2039 80042676 [vR m, vI (xs (5 * k + 1)), vI (xs (5 * k + 2)), vI (xs (5 * k + 3))] h1 = some (.inl (some (vI v)), h2) := f2
  have K1 : Kept h h1 := F_con f1
  have S1 := S.keep C K1
  have hm1 : hc h1 m = 43 := (hc_keep C K1 (by rw [hm]; decide)).trans hm
  obtain ⟨hx2, hm2, ho2, hol2, C2, S2, -⟩ := hI _ _ _ _ _ I2
  rw [c_law_611 (g0 := scg S (by omega) (wj1 hk)) (g1 := scg S (by omega) (wj2 hk)) (g2 := scg S (by omega) (wj3 hk)), scv S (j := 5 * k + 1) (by omega) (wj1 hk), scv S (j := 5 * k + 2) (by omega) (wj2 hk), scv S (j := 5 * k + 3) (by omega) (wj3 hk), f1]
  dsimp only [bnd, pu]
  rw [c_law_634 (g0 := scg S1 (by omega) (wj1 hk)) (g1 := scg S1 (by omega) (wj2 hk)) (g2 := scg S1 (by omega) (wj3 hk)) (g3 := i11 hm1), scv S1 (j := 5 * k + 1) (by omega) (wj1 hk), scv S1 (j := 5 * k + 2) (by omega) (wj2 hk), scv S1 (j := 5 * k + 3) (by omega) (wj3 hk), f2]
  dsimp only [bnd, pu]
  rw [c_law_658 (g0 := i11 hm2), show F 2039 37051057 [vR m] h2 = some (.inl (some (vI (gI h2 1672173228 m))), h2) from (e_X10_thrown 2038 m h2).trans (c_X10_thrown_0 _ _ _ (i11 hm2)), e1]
  dsimp only [bnd, pu]
  rw [c_law_664, if_pos rfl, c_law_671]
  by_cases hq : c = 0
  · rw [if_pos hq, c_law_676 (g0 := ⟨ho2, by decide, by rw [hol2]; decide⟩), e2 hq, lcm_self, if_pos rfl, c_law_688]
    exact ⟨h2, _, _, _, rfl, I2⟩
  · rw [if_neg hq, c_law_688]
    exact ⟨h2, _, _, _, rfl, I2⟩
theorem l_case10 (hI : InvOK INV b L xs) (op : ∀ v0 v1 v2 v3 : Int, in32 v0 → in32 v1 → in32 v2 → in32 v3 → OpB INV 1835014 80304821 [vI v0, vI v1, vI v2, vI v3]) (a5 a6 a7 : PV) (hk : k < 64) (hb : 5 * k + 4 < L) (I : INV k h x m o) : ∃ h2 b5 b6 b7, FA (F 2039) 176685057 691 [vR (b + 1), vR x, vR m, vR o, vI ((5 * k : Nat) : Int), a5, a6, a7] [] h = FA (F 2039) 176685057 1365 [vR (b + 1), vR x, vR m, vR o, vI ((5 * k : Nat) : Int), b5, b6, b7] [] h2 ∧ INV (k + 1) h2 x m o := by
  obtain ⟨hx, hm, ho, hol, C, S, Im⟩ := hI _ _ _ _ _ I
  obtain ⟨c, h1, v, h2, f1, f2, e1, e2, I2⟩ := (op _ _ _ _ ((S.2.2.2 (5 * k + 1) (by omega)).2) ((S.2.2.2 (5 * k + 2) (by omega)).2) ((S.2.2.2 (5 * k + 3) (by omega)).2) ((S.2.2.2 (5 * k + 4) (by omega)).2)) k h x m o hk I
  have f1 : F 2039 1835014 [vR x, vI (xs (5 * k + 1)), vI (xs (5 * k + 2)), vI (xs (5 * k + 3)), vI (xs (5 * k + 4)), vR o] h = some (.inl (some (vI c)), h1) := f1
  have f2 : F 2039 80304821 [vR m, vI (xs (5 * k + 1)), vI (xs (5 * k + 2)), vI (xs (5 * k + 3)), vI (xs (5 * k + 4))] h1 = some (.inl (some (vI v)), h2) := f2
  have K1 : Kept h h1 := F_con f1
  have S1 := S.keep C K1
  have hm1 : hc h1 m = 43 := (hc_keep C K1 (by rw [hm]; decide)).trans hm
  obtain ⟨hx2, hm2, ho2, hol2, C2, S2, -⟩ := hI _ _ _ _ _ I2
  rw [c_law_691 (g0 := scg S (by omega) (wj1 hk)) (g1 := scg S (by omega) (wj2 hk)) (g2 := scg S (by omega) (wj3 hk)) (g3 := scg S (by omega) (wj4 hk)), scv S (j := 5 * k + 1) (by omega) (wj1 hk), scv S (j := 5 * k + 2) (by omega) (wj2 hk), scv S (j := 5 * k + 3) (by omega) (wj3 hk), scv S (j := 5 * k + 4) (by omega) (wj4 hk), f1]
  dsimp only [bnd, pu]
  rw [c_law_720 (g0 := scg S1 (by omega) (wj1 hk)) (g1 := scg S1 (by omega) (wj2 hk)) (g2 := scg S1 (by omega) (wj3 hk)) (g3 := scg S1 (by omega) (wj4 hk)) (g4 := i11 hm1), scv S1 (j := 5 * k + 1) (by omega) (wj1 hk), scv S1 (j := 5 * k + 2) (by omega) (wj2 hk), scv S1 (j := 5 * k + 3) (by omega) (wj3 hk), scv S1 (j := 5 * k + 4) (by omega) (wj4 hk), f2]
  dsimp only [bnd, pu]
  rw [c_law_750 (g0 := i11 hm2), show F 2039 37051057 [vR m] h2 = some (.inl (some (vI (gI h2 1672173228 m))), h2) from (e_X10_thrown 2038 m h2).trans (c_X10_thrown_0 _ _ _ (i11 hm2)), e1]
  dsimp only [bnd, pu]
  rw [c_law_756, if_pos rfl, c_law_763]
  by_cases hq : c = 0
  · rw [if_pos hq, c_law_768 (g0 := ⟨ho2, by decide, by rw [hol2]; decide⟩), e2 hq]
    by_cases hv : v = 0
    · rw [if_pos hv, if_pos hv, c_law_780, c_law_781, lcm_self, if_pos rfl, c_law_787]
      exact ⟨h2, _, _, _, rfl, I2⟩
    · rw [if_neg hv, if_neg hv, c_law_776, c_law_781, lcm_self, if_pos rfl, c_law_787]
      exact ⟨h2, _, _, _, rfl, I2⟩
  · rw [if_neg hq, c_law_787]
    exact ⟨h2, _, _, _, rfl, I2⟩
theorem l_case11 (hI : InvOK INV b L xs) (op : ∀ v0 v1 : Int, in32 v0 → in32 v1 → OpT INV 2097156 80566963 [vI v0, vI v1]) (a5 a6 a7 : PV) (hk : k < 64) (hb : 5 * k + 4 < L) (I : INV k h x m o) : ∃ h2 b5 b6 b7, FA (F 2039) 176685057 790 [vR (b + 1), vR x, vR m, vR o, vI ((5 * k : Nat) : Int), a5, a6, a7] [] h = FA (F 2039) 176685057 1365 [vR (b + 1), vR x, vR m, vR o, vI ((5 * k : Nat) : Int), b5, b6, b7] [] h2 ∧ INV (k + 1) h2 x m o := by
  obtain ⟨hx, hm, ho, hol, C, S, Im⟩ := hI _ _ _ _ _ I
  obtain ⟨c, h1, v, h2, f1, f2, e1, e2, I2⟩ := (op _ _ ((S.2.2.2 (5 * k + 1) (by omega)).2) ((S.2.2.2 (5 * k + 2) (by omega)).2)) k h x m o hk I
  have f1 : F 2039 2097156 [vR x, vI (xs (5 * k + 1)), vI (xs (5 * k + 2)), vR o] h = some (.inl (some (vI c)), h1) := f1
  have f2 : F 2039 80566963 [vR m, vI (xs (5 * k + 1)), vI (xs (5 * k + 2))] h1 = some (.inl (some (vI v)), h2) := f2
  have K1 : Kept h h1 := F_con f1
  have S1 := S.keep C K1
  have hm1 : hc h1 m = 43 := (hc_keep C K1 (by rw [hm]; decide)).trans hm
  obtain ⟨hx2, hm2, ho2, hol2, C2, S2, -⟩ := hI _ _ _ _ _ I2
  rw [c_law_790 (g0 := scg S (by omega) (wj1 hk)) (g1 := scg S (by omega) (wj2 hk)), scv S (j := 5 * k + 1) (by omega) (wj1 hk), scv S (j := 5 * k + 2) (by omega) (wj2 hk), f1]
  dsimp only [bnd, pu]
  rw [c_law_807 (g0 := scg S1 (by omega) (wj1 hk)) (g1 := scg S1 (by omega) (wj2 hk)) (g2 := i11 hm1), scv S1 (j := 5 * k + 1) (by omega) (wj1 hk), scv S1 (j := 5 * k + 2) (by omega) (wj2 hk), f2]
  dsimp only [bnd, pu]
  rw [c_law_825 (g0 := i11 hm2), show F 2039 37051057 [vR m] h2 = some (.inl (some (vI (gI h2 1672173228 m))), h2) from (e_X10_thrown 2038 m h2).trans (c_X10_thrown_0 _ _ _ (i11 hm2)), e1]
  dsimp only [bnd, pu]
  rw [c_law_831, if_pos rfl, c_law_838]
  by_cases hq : c = 0
  · rw [if_pos hq, c_law_843 (g0 := ⟨ho2, by decide, by rw [hol2]; decide⟩), e2 hq, lcm_self, if_pos rfl, c_law_855]
    exact ⟨h2, _, _, _, rfl, I2⟩
  · rw [if_neg hq, c_law_855]
    exact ⟨h2, _, _, _, rfl, I2⟩
theorem l_case12 (hI : InvOK INV b L xs) (op : ∀ v0 v1 v2 : Int, in32 v0 → in64 v1 → in32 v2 → OpT INV 2359301 80829108 [vI v0, vJ v1, vI v2]) (a5 a6 a7 : PV) (hk : k < 64) (hb : 5 * k + 4 < L) (I : INV k h x m o) : ∃ h2 b5 b6 b7, FA (F 2039) 176685057 858 [vR (b + 1), vR x, vR m, vR o, vI ((5 * k : Nat) : Int), a5, a6, a7] [] h = FA (F 2039) 176685057 1365 [vR (b + 1), vR x, vR m, vR o, vI ((5 * k : Nat) : Int), b5, b6, b7] [] h2 ∧ INV (k + 1) h2 x m o := by
  obtain ⟨hx, hm, ho, hol, C, S, Im⟩ := hI _ _ _ _ _ I
  obtain ⟨c, h1, v, h2, f1, f2, e1, e2, I2⟩ := (op _ _ _ ((S.2.2.2 (5 * k + 1) (by omega)).2) (lor_in _ _) ((S.2.2.2 (5 * k + 4) (by omega)).2)) k h x m o hk I
  have f1 : F 2039 2359301 [vR x, vI (xs (5 * k + 1)), vJ (lor (lshl (xs (5 * k + 2)) 32) (land (xs (5 * k + 3)) (4294967295))), vI (xs (5 * k + 4)), vR o] h = some (.inl (some (vI c)), h1) := f1
  have f2 : F 2039 80829108 [vR m, vI (xs (5 * k + 1)), vJ (lor (lshl (xs (5 * k + 2)) 32) (land (xs (5 * k + 3)) (4294967295))), vI (xs (5 * k + 4))] h1 = some (.inl (some (vI v)), h2) := f2
  have K1 : Kept h h1 := F_con f1
  have S1 := S.keep C K1
  have hm1 : hc h1 m = 43 := (hc_keep C K1 (by rw [hm]; decide)).trans hm
  obtain ⟨hx2, hm2, ho2, hol2, C2, S2, -⟩ := hI _ _ _ _ _ I2
  rw [c_law_858 (g0 := scg S (by omega) (wj1 hk)) (g1 := scg S (by omega) (wj2 hk)) (g2 := scg S (by omega) (wj3 hk)) (g3 := scg S (by omega) (wj4 hk)), scv S (j := 5 * k + 1) (by omega) (wj1 hk), scv S (j := 5 * k + 2) (by omega) (wj2 hk), scv S (j := 5 * k + 3) (by omega) (wj3 hk), scv S (j := 5 * k + 4) (by omega) (wj4 hk), f1]
  dsimp only [bnd, pu]
  rw [c_law_897 (g0 := scg S1 (by omega) (wj1 hk)) (g1 := scg S1 (by omega) (wj2 hk)) (g2 := scg S1 (by omega) (wj3 hk)) (g3 := scg S1 (by omega) (wj4 hk)) (g4 := i11 hm1), scv S1 (j := 5 * k + 1) (by omega) (wj1 hk), scv S1 (j := 5 * k + 2) (by omega) (wj2 hk), scv S1 (j := 5 * k + 3) (by omega) (wj3 hk), scv S1 (j := 5 * k + 4) (by omega) (wj4 hk), f2]
  dsimp only [bnd, pu]
  rw [c_law_937 (g0 := i11 hm2), show F 2039 37051057 [vR m] h2 = some (.inl (some (vI (gI h2 1672173228 m))), h2) from (e_X10_thrown 2038 m h2).trans (c_X10_thrown_0 _ _ _ (i11 hm2)), e1]
  dsimp only [bnd, pu]
  rw [c_law_943, if_pos rfl, c_law_950]
  by_cases hq : c = 0
  · rw [if_pos hq, c_law_955 (g0 := ⟨ho2, by decide, by rw [hol2]; decide⟩), e2 hq, lcm_self, if_pos rfl, c_law_967]
    exact ⟨h2, _, _, _, rfl, I2⟩
  · rw [if_neg hq, c_law_967]
    exact ⟨h2, _, _, _, rfl, I2⟩
theorem l_case13 (hI : InvOK INV b L xs) (op : OpV INV 5244945 98130609 []) (a5 a6 a7 : PV) (hk : k < 64) (hb : 5 * k + 4 < L) (I : INV k h x m o) : ∃ h2 b5 b6 b7, FA (F 2039) 176685057 970 [vR (b + 1), vR x, vR m, vR o, vI ((5 * k : Nat) : Int), a5, a6, a7] [] h = FA (F 2039) 176685057 1365 [vR (b + 1), vR x, vR m, vR o, vI ((5 * k : Nat) : Int), b5, b6, b7] [] h2 ∧ INV (k + 1) h2 x m o := by
  obtain ⟨hx, hm, ho, hol, C, S, Im⟩ := hI _ _ _ _ _ I
  obtain ⟨v, h1, h2, f1, f2, I2⟩ := op k h x m o hk I
  have f1 : F 2039 5244945 [vR x] h = some (.inl (some (vI v)), h1) := f1
  have f2 : F 2039 98130609 [vR m] h1 = some (.inl (some (vI v)), h2) := f2
  have K1 : Kept h h1 := F_con f1
  have S1 := S.keep C K1
  have hm1 : hc h1 m = 43 := (hc_keep C K1 (by rw [hm]; decide)).trans hm
  obtain ⟨hx2, hm2, ho2, hol2, C2, S2, -⟩ := hI _ _ _ _ _ I2
  rw [c_law_970 (g0 := i11 hx), f1]
  dsimp only [bnd, pu]
  rw [c_law_974 (g0 := i11 hm1), f2]
  dsimp only [bnd, pu]
  rw [c_law_978, if_pos rfl]
  exact ⟨h2, _, _, _, rfl, I2⟩
theorem l_case14 (hI : InvOK INV b L xs) (op : ∀ v0 : Int, in32 v0 → OpJ INV 2621443 98392754 [vI v0]) (a5 a6 a7 : PV) (hk : k < 64) (hb : 5 * k + 4 < L) (I : INV k h x m o) : ∃ h2 b5 b6 b7, FA (F 2039) 176685057 983 [vR (b + 1), vR x, vR m, vR o, vI ((5 * k : Nat) : Int), a5, a6, a7] [] h = FA (F 2039) 176685057 1365 [vR (b + 1), vR x, vR m, vR o, vI ((5 * k : Nat) : Int), b5, b6, b7] [] h2 ∧ INV (k + 1) h2 x m o := by
  obtain ⟨hx, hm, ho, hol, C, S, Im⟩ := hI _ _ _ _ _ I
  obtain ⟨c, h1, v, h2, f1, f2, e1, e2, I2⟩ := (op _ ((S.2.2.2 (5 * k + 1) (by omega)).2)) k h x m o hk I
  have f1 : F 2039 2621443 [vR x, vI (xs (5 * k + 1)), vR o] h = some (.inl (some (vI c)), h1) := f1
  have f2 : F 2039 98392754 [vR m, vI (xs (5 * k + 1))] h1 = some (.inl (some (vJ v)), h2) := f2
  have K1 : Kept h h1 := F_con f1
  have S1 := S.keep C K1
  have hm1 : hc h1 m = 43 := (hc_keep C K1 (by rw [hm]; decide)).trans hm
  obtain ⟨hx2, hm2, ho2, hol2, C2, S2, -⟩ := hI _ _ _ _ _ I2
  rw [c_law_983 (g0 := scg S (by omega) (wj1 hk)), scv S (j := 5 * k + 1) (by omega) (wj1 hk), f1]
  dsimp only [bnd, pu]
  rw [c_law_994 (g0 := scg S1 (by omega) (wj1 hk)) (g1 := i11 hm1), scv S1 (j := 5 * k + 1) (by omega) (wj1 hk), f2]
  dsimp only [bnd, pu]
  rw [c_law_1006 (g0 := i11 hm2), show F 2039 37051057 [vR m] h2 = some (.inl (some (vI (gI h2 1672173228 m))), h2) from (e_X10_thrown 2038 m h2).trans (c_X10_thrown_0 _ _ _ (i11 hm2)), e1]
  dsimp only [bnd, pu]
  rw [c_law_1012, if_pos rfl, c_law_1019]
  by_cases hq : c = 0
  · rw [if_pos hq, c_law_1024 (g0 := ⟨ho2, by decide, by rw [hol2]; decide⟩), e2 hq, lcm_self, if_pos rfl, c_law_1035]
    exact ⟨h2, _, _, _, rfl, I2⟩
  · rw [if_neg hq, c_law_1035]
    exact ⟨h2, _, _, _, rfl, I2⟩
theorem l_case15 (hI : InvOK INV b L xs) (op : ∀ v0 : Int, in32 v0 → OpT INV 2883587 98654898 [vI v0]) (a5 a6 a7 : PV) (hk : k < 64) (hb : 5 * k + 4 < L) (I : INV k h x m o) : ∃ h2 b5 b6 b7, FA (F 2039) 176685057 1038 [vR (b + 1), vR x, vR m, vR o, vI ((5 * k : Nat) : Int), a5, a6, a7] [] h = FA (F 2039) 176685057 1365 [vR (b + 1), vR x, vR m, vR o, vI ((5 * k : Nat) : Int), b5, b6, b7] [] h2 ∧ INV (k + 1) h2 x m o := by
  obtain ⟨hx, hm, ho, hol, C, S, Im⟩ := hI _ _ _ _ _ I
  obtain ⟨c, h1, v, h2, f1, f2, e1, e2, I2⟩ := (op _ ((S.2.2.2 (5 * k + 1) (by omega)).2)) k h x m o hk I
  have f1 : F 2039 2883587 [vR x, vI (xs (5 * k + 1)), vR o] h = some (.inl (some (vI c)), h1) := f1
  have f2 : F 2039 98654898 [vR m, vI (xs (5 * k + 1))] h1 = some (.inl (some (vI v)), h2) := f2
  have K1 : Kept h h1 := F_con f1
  have S1 := S.keep C K1
  have hm1 : hc h1 m = 43 := (hc_keep C K1 (by rw [hm]; decide)).trans hm
  obtain ⟨hx2, hm2, ho2, hol2, C2, S2, -⟩ := hI _ _ _ _ _ I2
  rw [c_law_1038 (g0 := scg S (by omega) (wj1 hk)), scv S (j := 5 * k + 1) (by omega) (wj1 hk), f1]
  dsimp only [bnd, pu]
  rw [c_law_1049 (g0 := scg S1 (by omega) (wj1 hk)) (g1 := i11 hm1), scv S1 (j := 5 * k + 1) (by omega) (wj1 hk), f2]
  dsimp only [bnd, pu]
  rw [c_law_1061 (g0 := i11 hm2), show F 2039 37051057 [vR m] h2 = some (.inl (some (vI (gI h2 1672173228 m))), h2) from (e_X10_thrown 2038 m h2).trans (c_X10_thrown_0 _ _ _ (i11 hm2)), e1]
  dsimp only [bnd, pu]
  rw [c_law_1067, if_pos rfl, c_law_1074]
  by_cases hq : c = 0
  · rw [if_pos hq, c_law_1079 (g0 := ⟨ho2, by decide, by rw [hol2]; decide⟩), e2 hq, lcm_self, if_pos rfl, c_law_1091]
    exact ⟨h2, _, _, _, rfl, I2⟩
  · rw [if_neg hq, c_law_1091]
    exact ⟨h2, _, _, _, rfl, I2⟩
theorem l_case16 (hI : InvOK INV b L xs) (op : ∀ v0 : Int, in32 v0 → OpT INV 3145731 98917042 [vI v0]) (a5 a6 a7 : PV) (hk : k < 64) (hb : 5 * k + 4 < L) (I : INV k h x m o) : ∃ h2 b5 b6 b7, FA (F 2039) 176685057 1094 [vR (b + 1), vR x, vR m, vR o, vI ((5 * k : Nat) : Int), a5, a6, a7] [] h = FA (F 2039) 176685057 1365 [vR (b + 1), vR x, vR m, vR o, vI ((5 * k : Nat) : Int), b5, b6, b7] [] h2 ∧ INV (k + 1) h2 x m o := by
  obtain ⟨hx, hm, ho, hol, C, S, Im⟩ := hI _ _ _ _ _ I
  obtain ⟨c, h1, v, h2, f1, f2, e1, e2, I2⟩ := (op _ ((S.2.2.2 (5 * k + 1) (by omega)).2)) k h x m o hk I
  have f1 : F 2039 3145731 [vR x, vI (xs (5 * k + 1)), vR o] h = some (.inl (some (vI c)), h1) := f1
  have f2 : F 2039 98917042 [vR m, vI (xs (5 * k + 1))] h1 = some (.inl (some (vI v)), h2) := f2
  have K1 : Kept h h1 := F_con f1
  have S1 := S.keep C K1
  have hm1 : hc h1 m = 43 := (hc_keep C K1 (by rw [hm]; decide)).trans hm
  obtain ⟨hx2, hm2, ho2, hol2, C2, S2, -⟩ := hI _ _ _ _ _ I2
  rw [c_law_1094 (g0 := scg S (by omega) (wj1 hk)), scv S (j := 5 * k + 1) (by omega) (wj1 hk), f1]
  dsimp only [bnd, pu]
  rw [c_law_1105 (g0 := scg S1 (by omega) (wj1 hk)) (g1 := i11 hm1), scv S1 (j := 5 * k + 1) (by omega) (wj1 hk), f2]
  dsimp only [bnd, pu]
  rw [c_law_1117 (g0 := i11 hm2), show F 2039 37051057 [vR m] h2 = some (.inl (some (vI (gI h2 1672173228 m))), h2) from (e_X10_thrown 2038 m h2).trans (c_X10_thrown_0 _ _ _ (i11 hm2)), e1]
  dsimp only [bnd, pu]
  rw [c_law_1123, if_pos rfl, c_law_1130]
  by_cases hq : c = 0
  · rw [if_pos hq, c_law_1135 (g0 := ⟨ho2, by decide, by rw [hol2]; decide⟩), e2 hq, lcm_self, if_pos rfl, c_law_1147]
    exact ⟨h2, _, _, _, rfl, I2⟩
  · rw [if_neg hq, c_law_1147]
    exact ⟨h2, _, _, _, rfl, I2⟩
theorem l_case17 (hI : InvOK INV b L xs) (op : ∀ v0 v1 v2 : Int, in32 v0 → in32 v1 → in32 v2 → OpT INV 3407877 99179188 [vI v0, vI v1, vI v2]) (a5 a6 a7 : PV) (hk : k < 64) (hb : 5 * k + 4 < L) (I : INV k h x m o) : ∃ h2 b5 b6 b7, FA (F 2039) 176685057 1150 [vR (b + 1), vR x, vR m, vR o, vI ((5 * k : Nat) : Int), a5, a6, a7] [] h = FA (F 2039) 176685057 1365 [vR (b + 1), vR x, vR m, vR o, vI ((5 * k : Nat) : Int), b5, b6, b7] [] h2 ∧ INV (k + 1) h2 x m o := by
  obtain ⟨hx, hm, ho, hol, C, S, Im⟩ := hI _ _ _ _ _ I
  obtain ⟨c, h1, v, h2, f1, f2, e1, e2, I2⟩ := (op _ _ _ ((S.2.2.2 (5 * k + 1) (by omega)).2) ((S.2.2.2 (5 * k + 2) (by omega)).2) ((S.2.2.2 (5 * k + 3) (by omega)).2)) k h x m o hk I
  have f1 : F 2039 3407877 [vR x, vI (xs (5 * k + 1)), vI (xs (5 * k + 2)), vI (xs (5 * k + 3)), vR o] h = some (.inl (some (vI c)), h1) := f1
  have f2 : F 2039 99179188 [vR m, vI (xs (5 * k + 1)), vI (xs (5 * k + 2)), vI (xs (5 * k + 3))] h1 = some (.inl (some (vI v)), h2) := f2
  have K1 : Kept h h1 := F_con f1
  have S1 := S.keep C K1
  have hm1 : hc h1 m = 43 := (hc_keep C K1 (by rw [hm]; decide)).trans hm
  obtain ⟨hx2, hm2, ho2, hol2, C2, S2, -⟩ := hI _ _ _ _ _ I2
  rw [c_law_1150 (g0 := scg S (by omega) (wj1 hk)) (g1 := scg S (by omega) (wj2 hk)) (g2 := scg S (by omega) (wj3 hk)), scv S (j := 5 * k + 1) (by omega) (wj1 hk), scv S (j := 5 * k + 2) (by omega) (wj2 hk), scv S (j := 5 * k + 3) (by omega) (wj3 hk), f1]
  dsimp only [bnd, pu]
  rw [c_law_1173 (g0 := scg S1 (by omega) (wj1 hk)) (g1 := scg S1 (by omega) (wj2 hk)) (g2 := scg S1 (by omega) (wj3 hk)) (g3 := i11 hm1), scv S1 (j := 5 * k + 1) (by omega) (wj1 hk), scv S1 (j := 5 * k + 2) (by omega) (wj2 hk), scv S1 (j := 5 * k + 3) (by omega) (wj3 hk), f2]
  dsimp only [bnd, pu]
  rw [c_law_1197 (g0 := i11 hm2), show F 2039 37051057 [vR m] h2 = some (.inl (some (vI (gI h2 1672173228 m))), h2) from (e_X10_thrown 2038 m h2).trans (c_X10_thrown_0 _ _ _ (i11 hm2)), e1]
  dsimp only [bnd, pu]
  rw [c_law_1203, if_pos rfl, c_law_1210]
  by_cases hq : c = 0
  · rw [if_pos hq, c_law_1215 (g0 := ⟨ho2, by decide, by rw [hol2]; decide⟩), e2 hq, lcm_self, if_pos rfl, c_law_1227]
    exact ⟨h2, _, _, _, rfl, I2⟩
  · rw [if_neg hq, c_law_1227]
    exact ⟨h2, _, _, _, rfl, I2⟩
theorem l_case18 (hI : InvOK INV b L xs) (op : ∀ v0 v1 : Int, in32 v0 → in32 v1 → OpT INV 3670020 100227763 [vI v0, vI v1]) (a5 a6 a7 : PV) (hk : k < 64) (hb : 5 * k + 4 < L) (I : INV k h x m o) : ∃ h2 b5 b6 b7, FA (F 2039) 176685057 1230 [vR (b + 1), vR x, vR m, vR o, vI ((5 * k : Nat) : Int), a5, a6, a7] [] h = FA (F 2039) 176685057 1365 [vR (b + 1), vR x, vR m, vR o, vI ((5 * k : Nat) : Int), b5, b6, b7] [] h2 ∧ INV (k + 1) h2 x m o := by
  obtain ⟨hx, hm, ho, hol, C, S, Im⟩ := hI _ _ _ _ _ I
  obtain ⟨c, h1, v, h2, f1, f2, e1, e2, I2⟩ := (op _ _ ((S.2.2.2 (5 * k + 1) (by omega)).2) ((S.2.2.2 (5 * k + 2) (by omega)).2)) k h x m o hk I
  have f1 : F 2039 3670020 [vR x, vI (xs (5 * k + 1)), vI (xs (5 * k + 2)), vR o] h = some (.inl (some (vI c)), h1) := f1
  have f2 : F 2039 100227763 [vR m, vI (xs (5 * k + 1)), vI (xs (5 * k + 2))] h1 = some (.inl (some (vI v)), h2) := f2
  have K1 : Kept h h1 := F_con f1
  have S1 := S.keep C K1
  have hm1 : hc h1 m = 43 := (hc_keep C K1 (by rw [hm]; decide)).trans hm
  obtain ⟨hx2, hm2, ho2, hol2, C2, S2, -⟩ := hI _ _ _ _ _ I2
  rw [c_law_1230 (g0 := scg S (by omega) (wj1 hk)) (g1 := scg S (by omega) (wj2 hk)), scv S (j := 5 * k + 1) (by omega) (wj1 hk), scv S (j := 5 * k + 2) (by omega) (wj2 hk), f1]
  dsimp only [bnd, pu]
  rw [c_law_1247 (g0 := scg S1 (by omega) (wj1 hk)) (g1 := scg S1 (by omega) (wj2 hk)) (g2 := i11 hm1), scv S1 (j := 5 * k + 1) (by omega) (wj1 hk), scv S1 (j := 5 * k + 2) (by omega) (wj2 hk), f2]
  dsimp only [bnd, pu]
  rw [c_law_1265 (g0 := i11 hm2), show F 2039 37051057 [vR m] h2 = some (.inl (some (vI (gI h2 1672173228 m))), h2) from (e_X10_thrown 2038 m h2).trans (c_X10_thrown_0 _ _ _ (i11 hm2)), e1]
  dsimp only [bnd, pu]
  rw [c_law_1271, if_pos rfl, c_law_1278]
  by_cases hq : c = 0
  · rw [if_pos hq, c_law_1283 (g0 := ⟨ho2, by decide, by rw [hol2]; decide⟩), e2 hq, lcm_self, if_pos rfl, c_law_1295]
    exact ⟨h2, _, _, _, rfl, I2⟩
  · rw [if_neg hq, c_law_1295]
    exact ⟨h2, _, _, _, rfl, I2⟩
theorem l_case19 (hI : InvOK INV b L xs) (op : ∀ v0 v1 : Int, in32 v0 → in32 v1 → OpJ INV 3932164 100489907 [vI v0, vI v1]) (a5 a6 a7 : PV) (hk : k < 64) (hb : 5 * k + 4 < L) (I : INV k h x m o) : ∃ h2 b5 b6 b7, FA (F 2039) 176685057 1298 [vR (b + 1), vR x, vR m, vR o, vI ((5 * k : Nat) : Int), a5, a6, a7] [] h = FA (F 2039) 176685057 1365 [vR (b + 1), vR x, vR m, vR o, vI ((5 * k : Nat) : Int), b5, b6, b7] [] h2 ∧ INV (k + 1) h2 x m o := by
  obtain ⟨hx, hm, ho, hol, C, S, Im⟩ := hI _ _ _ _ _ I
  obtain ⟨c, h1, v, h2, f1, f2, e1, e2, I2⟩ := (op _ _ ((S.2.2.2 (5 * k + 1) (by omega)).2) ((S.2.2.2 (5 * k + 2) (by omega)).2)) k h x m o hk I
  have f1 : F 2039 3932164 [vR x, vI (xs (5 * k + 1)), vI (xs (5 * k + 2)), vR o] h = some (.inl (some (vI c)), h1) := f1
  have f2 : F 2039 100489907 [vR m, vI (xs (5 * k + 1)), vI (xs (5 * k + 2))] h1 = some (.inl (some (vJ v)), h2) := f2
  have K1 : Kept h h1 := F_con f1
  have S1 := S.keep C K1
  have hm1 : hc h1 m = 43 := (hc_keep C K1 (by rw [hm]; decide)).trans hm
  obtain ⟨hx2, hm2, ho2, hol2, C2, S2, -⟩ := hI _ _ _ _ _ I2
  rw [c_law_1298 (g0 := scg S (by omega) (wj1 hk)) (g1 := scg S (by omega) (wj2 hk)), scv S (j := 5 * k + 1) (by omega) (wj1 hk), scv S (j := 5 * k + 2) (by omega) (wj2 hk), f1]
  dsimp only [bnd, pu]
  rw [c_law_1315 (g0 := scg S1 (by omega) (wj1 hk)) (g1 := scg S1 (by omega) (wj2 hk)) (g2 := i11 hm1), scv S1 (j := 5 * k + 1) (by omega) (wj1 hk), scv S1 (j := 5 * k + 2) (by omega) (wj2 hk), f2]
  dsimp only [bnd, pu]
  rw [c_law_1333 (g0 := i11 hm2), show F 2039 37051057 [vR m] h2 = some (.inl (some (vI (gI h2 1672173228 m))), h2) from (e_X10_thrown 2038 m h2).trans (c_X10_thrown_0 _ _ _ (i11 hm2)), e1]
  dsimp only [bnd, pu]
  rw [c_law_1339, if_pos rfl, c_law_1346]
  by_cases hq : c = 0
  · rw [if_pos hq, c_law_1351 (g0 := ⟨ho2, by decide, by rw [hol2]; decide⟩), e2 hq, lcm_self, if_pos rfl, c_law_1362]
    exact ⟨h2, _, _, _, rfl, I2⟩
  · rw [if_neg hq, c_law_1362]
    exact ⟨h2, _, _, _, rfl, I2⟩
/-- what every call must do -/
def OpsOK (INV : IV) : Prop := (∀ v0 : Int, in64 v0 → OpV INV 4458514 37313202 [vJ v0]) ∧ (OpT INV 2 37575345 []) ∧ (∀ v0 : Int, in32 v0 → OpT INV 262147 77159090 [vI v0]) ∧ (OpV INV 4720657 77421233 []) ∧ (OpV INV 4982801 77683377 []) ∧ (∀ v0 : Int, in32 v0 → OpT INV 524291 77945522 [vI v0]) ∧ (∀ v0 v1 v2 : Int, in32 v0 → in32 v1 → in32 v2 → OpT INV 786437 78469812 [vI v0, vI v1, vI v2]) ∧ (∀ v0 v1 v2 : Int, in32 v0 → in32 v1 → in32 v2 → OpT INV 1048581 78994100 [vI v0, vI v1, vI v2]) ∧ (∀ v0 v1 v2 : Int, in32 v0 → in32 v1 → in32 v2 → OpT INV 1310725 79256244 [vI v0, vI v1, vI v2]) ∧ (∀ v0 v1 v2 : Int, in32 v0 → in32 v1 → in32 v2 → OpT INV 1572869 80042676 [vI v0, vI v1, vI v2]) ∧ (∀ v0 v1 v2 v3 : Int, in32 v0 → in32 v1 → in32 v2 → in32 v3 → OpB INV 1835014 80304821 [vI v0, vI v1, vI v2, vI v3]) ∧ (∀ v0 v1 : Int, in32 v0 → in32 v1 → OpT INV 2097156 80566963 [vI v0, vI v1]) ∧ (∀ v0 v1 v2 : Int, in32 v0 → in64 v1 → in32 v2 → OpT INV 2359301 80829108 [vI v0, vJ v1, vI v2]) ∧ (OpV INV 5244945 98130609 []) ∧ (∀ v0 : Int, in32 v0 → OpJ INV 2621443 98392754 [vI v0]) ∧ (∀ v0 : Int, in32 v0 → OpT INV 2883587 98654898 [vI v0]) ∧ (∀ v0 : Int, in32 v0 → OpT INV 3145731 98917042 [vI v0]) ∧ (∀ v0 v1 v2 : Int, in32 v0 → in32 v1 → in32 v2 → OpT INV 3407877 99179188 [vI v0, vI v1, vI v2]) ∧ (∀ v0 v1 : Int, in32 v0 → in32 v1 → OpT INV 3670020 100227763 [vI v0, vI v1]) ∧ (∀ v0 v1 : Int, in32 v0 → in32 v1 → OpJ INV 3932164 100489907 [vI v0, vI v1])
/-- what the constructors must do -/
def NewOK (INV : IV) (b L : Nat) (xs : Nat → Int) : Prop := ∀ h, ConH h → ScrH h b L xs → hk h = 0 → hs h = 0 → ∃ h1 h2, F 2039 4196369 [vR (hn h)] (nO h 1 11) = some (.inl none, h1) ∧ F 2039 36788913 [vR (hn h1)] (nO h1 43 213) = some (.inl none, h2) ∧ rmO h 11 ∧ rmO h1 213 ∧ rmA h2 1 ∧ INV 0 (nA h2 66 1) (hn h) (hn h1) (hn h2)
theorem law_loop (hI : InvOK INV b L xs) (hO : OpsOK INV) : ∀ (n k : Nat) (h : PH) (a5 a6 a7 : PV), INV k h x m o → 5 * k ≤ L → L < 5 * k + 5 * n + 5 → ∃ h', FA (F 2039) 176685057 23 [vR (b + 1), vR x, vR m, vR o, vI ((5 * k : Nat) : Int), a5, a6, a7] [] h = some (.inl (some (vI 1)), h') := by
  intro n
  induction n with
  | zero =>
    intro k h a5 a6 a7 I h1 h2
    obtain ⟨hx, hm, ho, hol, C, S, Im⟩ := hI _ _ _ _ _ I
    have hL := S.2.2.1
    rw [c_law_23 (g0 := Or.inr (by rw [S.1]; exact ⟨by decide, by decide⟩)), S.2.1, w32_id (by omega) (by omega), if_pos (by omega), c_law_1371]
    exact ⟨h, rfl⟩
  | succ n ih =>
    intro k h a5 a6 a7 I h1 h2
    obtain ⟨hx, hm, ho, hol, C, S, Im⟩ := hI _ _ _ _ _ I
    have hL := S.2.2.1
    by_cases hlt : L < 5 * k + 5
    · rw [c_law_23 (g0 := Or.inr (by rw [S.1]; exact ⟨by decide, by decide⟩)), S.2.1, w32_id (by omega) (by omega), if_pos (by omega), c_law_1371]
      exact ⟨h, rfl⟩
    · have hk : k < 64 := by omega
      have hb : 5 * k + 4 < L := by omega
      rw [c_law_23 (g0 := Or.inr (by rw [S.1]; exact ⟨by decide, by decide⟩)), S.2.1, w32_id (by omega) (by omega), if_neg (by omega), c_law_32 (g0 := scg S (j := 5 * k) (by omega) rfl)]
      have fin : ∀ (pc : Nat), (∃ h2 b5 b6 b7, FA (F 2039) 176685057 pc [vR (b + 1), vR x, vR m, vR o, vI ((5 * k : Nat) : Int), a5, a6, a7] [] h = FA (F 2039) 176685057 1365 [vR (b + 1), vR x, vR m, vR o, vI ((5 * k : Nat) : Int), b5, b6, b7] [] h2 ∧ INV (k + 1) h2 x m o) → ∃ h', FA (F 2039) 176685057 pc [vR (b + 1), vR x, vR m, vR o, vI ((5 * k : Nat) : Int), a5, a6, a7] [] h = some (.inl (some (vI 1)), h') := by
        intro pc ⟨h2, b5, b6, b7, e, I2⟩
        rw [e, c_law_1365]
        have e5 : w32 (((5 * k : Nat) : Int) + 5) = ((5 * (k + 1) : Nat) : Int) := by rw [w32_id (by omega) (by omega)]; omega
        rw [e5]
        exact ih (k + 1) h2 b5 b6 b7 I2 (by omega) (by omega)
      obtain ⟨o0, o1, o2, o3, o4, o5, o6, o7, o8, o9, o10, o11, o12, o13, o14, o15, o16, o17, o18, o19⟩ := hO
      generalize hq : iand (eI h (b + 1) ((5 * k : Nat) : Int)) 31 = q
      by_cases e0 : q = 0
      · rw [if_pos e0]
        exact fin 132 (l_case0 hI o0 a5 a6 a7 hk hb I)
      rw [if_neg e0]
      by_cases e1 : q = 1
      · rw [if_pos e1]
        exact fin 189 (l_case1 hI o1 a5 a6 a7 hk hb I)
      rw [if_neg e1]
      by_cases e2 : q = 2
      · rw [if_pos e2]
        exact fin 233 (l_case2 hI o2 a5 a6 a7 hk hb I)
      rw [if_neg e2]
      by_cases e3 : q = 3
      · rw [if_pos e3]
        exact fin 289 (l_case3 hI o3 a5 a6 a7 hk hb I)
      rw [if_neg e3]
      by_cases e4 : q = 4
      · rw [if_pos e4]
        exact fin 302 (l_case4 hI o4 a5 a6 a7 hk hb I)
      rw [if_neg e4]
      by_cases e5 : q = 5
      · rw [if_pos e5]
        exact fin 315 (l_case5 hI o5 a5 a6 a7 hk hb I)
      rw [if_neg e5]
      by_cases e6 : q = 6
      · rw [if_pos e6]
        exact fin 371 (l_case6 hI o6 a5 a6 a7 hk hb I)
      rw [if_neg e6]
      by_cases e7 : q = 7
      · rw [if_pos e7]
        exact fin 451 (l_case7 hI o7 a5 a6 a7 hk hb I)
      rw [if_neg e7]
      by_cases e8 : q = 8
      · rw [if_pos e8]
        exact fin 531 (l_case8 hI o8 a5 a6 a7 hk hb I)
      rw [if_neg e8]
      by_cases e9 : q = 9
      · rw [if_pos e9]
        exact fin 611 (l_case9 hI o9 a5 a6 a7 hk hb I)
      rw [if_neg e9]
      by_cases e10 : q = 10
      · rw [if_pos e10]
        exact fin 691 (l_case10 hI o10 a5 a6 a7 hk hb I)
      rw [if_neg e10]
      by_cases e11 : q = 11
      · rw [if_pos e11]
        exact fin 790 (l_case11 hI o11 a5 a6 a7 hk hb I)
      rw [if_neg e11]
      by_cases e12 : q = 12
      · rw [if_pos e12]
        exact fin 858 (l_case12 hI o12 a5 a6 a7 hk hb I)
      rw [if_neg e12]
      by_cases e13 : q = 13
      · rw [if_pos e13]
        exact fin 970 (l_case13 hI o13 a5 a6 a7 hk hb I)
      rw [if_neg e13]
      by_cases e14 : q = 14
      · rw [if_pos e14]
        exact fin 983 (l_case14 hI o14 a5 a6 a7 hk hb I)
      rw [if_neg e14]
      by_cases e15 : q = 15
      · rw [if_pos e15]
        exact fin 1038 (l_case15 hI o15 a5 a6 a7 hk hb I)
      rw [if_neg e15]
      by_cases e16 : q = 16
      · rw [if_pos e16]
        exact fin 1094 (l_case16 hI o16 a5 a6 a7 hk hb I)
      rw [if_neg e16]
      by_cases e17 : q = 17
      · rw [if_pos e17]
        exact fin 1150 (l_case17 hI o17 a5 a6 a7 hk hb I)
      rw [if_neg e17]
      by_cases e18 : q = 18
      · rw [if_pos e18]
        exact fin 1230 (l_case18 hI o18 a5 a6 a7 hk hb I)
      rw [if_neg e18]
      by_cases e19 : q = 19
      · rw [if_pos e19]
        exact fin 1298 (l_case19 hI o19 a5 a6 a7 hk hb I)
      rw [if_neg e19]
      exact fin 1365 ⟨h, a5, a6, a7, rfl, Im⟩
end LAWL
/-- the law, out of an invariant that every call keeps -/
def LawInv : Prop := ∀ (b L : Nat) (xs : Nat → Int), ∃ INV : IV, InvOK INV b L xs ∧ NewOK INV b L xs ∧ OpsOK INV
theorem pure2_of (P : LawInv) : PureLaw2 := by
  intro h b L xs C S k0 s0
  obtain ⟨INV, hI, hN, hO⟩ := P b L xs
  obtain ⟨h1, h2, f1, f2, r1, r2, r3, I⟩ := hN h C S k0 s0
  have e0 : F 2040 LAWM [vR (b + 1)] h = FA (F 2039) 176685057 0 [vR (b + 1), vX, vX, vX, vX, vX, vX, vX] [] h := e_law 2039 (b + 1) h
  rw [e0, c_law_0 (g0 := r1) (g1 := i11 hc_nO), f1]
  dsimp only [bnd, pu]
  rw [c_law_7 (g0 := r2) (g1 := i11 hc_nO), f2]
  dsimp only [bnd, pu]
  rw [c_law_15 (g0 := r3)]
  exact law_loop hI hO 64 0 _ _ _ _ I (by omega) (by have := S.2.2.1; omega)
theorem claim_of3 (P : LawInv) : Claimed_1_1 ∧ Claimed_1_2 := claim_of2 (pure2_of P)
