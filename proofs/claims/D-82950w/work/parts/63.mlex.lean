/-! THE MODEL's TOKENS: what its lexer does -/
set_option maxRecDepth 100000
theorem e_X10_keptWord (d : Nat) (a0 : Nat) (a1 : Int) (a2 : Int) (h : PH) : F (d + 1) 38886067 [vR a0, vI a1, vI a2] h = FA (F d) 38886067 0 [vR a0, vI a1, vI a2, vX, vX, vX] [] h := rfl
theorem c_X10_keptWord_0 (cf : Nat → List PV → PH → Rs) (a0 : Nat) (a1 : Int) (a2 : Int) (a3 : PV) (a4 : PV) (a5 : PV) (h : PH) : FA cf 38886067 0 [vR a0, vI a1, vI a2, a3, a4, a5] [] h = FA cf 38886067 5 [vR a0, vI a1, vI a2, vI 0, vI 0, a5] [] h := (FA_ex cf 38886067 4 _ _ _ _).trans rfl
theorem c_X10_keptWord_5 (cf : Nat → List PV → PH → Rs) (a0 : Nat) (a1 : Int) (a2 : Int) (a3 : Int) (a4 : Int) (a5 : PV) (h : PH) (g0 : inT 64 77 (hc h (gR h 3665821698 0)) ∨ inT 64 77 (kc h (gR h 3665821698 0))) : FA cf 38886067 5 [vR a0, vI a1, vI a2, vI a3, vI a4, a5] [] h = if a4 < (hl h (gR h 3665821698 0)) then FA cf 38886067 14 [vR a0, vI a1, vI a2, vI a3, vI a4, a5] [] h else FA cf 38886067 98 [vR a0, vI a1, vI a2, vI a3, vI a4, a5] [] h := ((FA_ex cf 38886067 4 _ _ _ _).trans rfl : FA cf 38886067 5 [vR a0, vI a1, vI a2, vI a3, vI a4, a5] [] h = gd (inT 64 77 (hc h (gR h 3665821698 0)) ∨ inT 64 77 (kc h (gR h 3665821698 0))) (if a4 < (hl h (gR h 3665821698 0)) then FA cf 38886067 14 [vR a0, vI a1, vI a2, vI a3, vI a4, a5] [] h else FA cf 38886067 98 [vR a0, vI a1, vI a2, vI a3, vI a4, a5] [] h)).trans ((gd_t g0))
theorem c_X10_keptWord_14 (cf : Nat → List PV → PH → Rs) (a0 : Nat) (a1 : Int) (a2 : Int) (a3 : Int) (a4 : Int) (a5 : PV) (h : PH) : FA cf 38886067 14 [vR a0, vI a1, vI a2, vI a3, vI a4, a5] [] h = FA cf 38886067 17 [vR a0, vI a1, vI a2, vI a3, vI a4, vI 0] [] h := (FA_ex cf 38886067 2 _ _ _ _).trans rfl
theorem c_X10_keptWord_17 (cf : Nat → List PV → PH → Rs) (a0 : Nat) (a1 : Int) (a2 : Int) (a3 : Int) (a4 : Int) (a5 : Int) (h : PH) : FA cf 38886067 17 [vR a0, vI a1, vI a2, vI a3, vI a4, vI a5] [] h = if a5 < a2 then FA cf 38886067 23 [vR a0, vI a1, vI a2, vI a3, vI a4, vI a5] [] h else FA cf 38886067 50 [vR a0, vI a1, vI a2, vI a3, vI a4, vI a5] [] h := (FA_ex cf 38886067 3 _ _ _ _).trans rfl
theorem c_X10_keptWord_23 (cf : Nat → List PV → PH → Rs) (a0 : Nat) (a1 : Int) (a2 : Int) (a3 : Int) (a4 : Int) (a5 : Int) (h : PH) (g0 : (inT 70 70 (hc h (gR h 3665821698 0)) ∨ inT 70 70 (kc h (gR h 3665821698 0))) ∧ inA (w32 (a4 + a5)) (hl h (gR h 3665821698 0))) (g1 : inT 43 43 (hc h a0)) (g2 : (inT 64 65 (hc h (gR h 1680561838 a0)) ∨ inT 64 65 (kc h (gR h 1680561838 a0))) ∧ inA (w32 (a1 + a5)) (hl h (gR h 1680561838 a0))) : FA cf 38886067 23 [vR a0, vI a1, vI a2, vI a3, vI a4, vI a5] [] h = if (eI h (gR h 3665821698 0) (w32 (a4 + a5))) = (eI h (gR h 1680561838 a0) (w32 (a1 + a5))) then FA cf 38886067 44 [vR a0, vI a1, vI a2, vI a3, vI a4, vI a5] [] h else FA cf 38886067 50 [vR a0, vI a1, vI a2, vI a3, vI a4, vI a5] [] h := ((FA_ex cf 38886067 12 _ _ _ _).trans rfl : FA cf 38886067 23 [vR a0, vI a1, vI a2, vI a3, vI a4, vI a5] [] h = gd ((inT 70 70 (hc h (gR h 3665821698 0)) ∨ inT 70 70 (kc h (gR h 3665821698 0))) ∧ inA (w32 (a4 + a5)) (hl h (gR h 3665821698 0))) (gd (inT 43 43 (hc h a0)) (gd ((inT 64 65 (hc h (gR h 1680561838 a0)) ∨ inT 64 65 (kc h (gR h 1680561838 a0))) ∧ inA (w32 (a1 + a5)) (hl h (gR h 1680561838 a0))) (if (eI h (gR h 3665821698 0) (w32 (a4 + a5))) = (eI h (gR h 1680561838 a0) (w32 (a1 + a5))) then FA cf 38886067 44 [vR a0, vI a1, vI a2, vI a3, vI a4, vI a5] [] h else FA cf 38886067 50 [vR a0, vI a1, vI a2, vI a3, vI a4, vI a5] [] h)))).trans ((gd_t g0).trans ((gd_t g1).trans ((gd_t g2))))
theorem c_X10_keptWord_44 (cf : Nat → List PV → PH → Rs) (a0 : Nat) (a1 : Int) (a2 : Int) (a3 : Int) (a4 : Int) (a5 : Int) (h : PH) : FA cf 38886067 44 [vR a0, vI a1, vI a2, vI a3, vI a4, vI a5] [] h = FA cf 38886067 17 [vR a0, vI a1, vI a2, vI a3, vI a4, vI (w32 (a5 + 1))] [] h := (FA_ex cf 38886067 2 _ _ _ _).trans rfl
theorem c_X10_keptWord_50 (cf : Nat → List PV → PH → Rs) (a0 : Nat) (a1 : Int) (a2 : Int) (a3 : Int) (a4 : Int) (a5 : Int) (h : PH) : FA cf 38886067 50 [vR a0, vI a1, vI a2, vI a3, vI a4, vI a5] [] h = if a5 = a2 then FA cf 38886067 56 [vR a0, vI a1, vI a2, vI a3, vI a4, vI a5] [] h else FA cf 38886067 72 [vR a0, vI a1, vI a2, vI a3, vI a4, vI a5] [] h := (FA_ex cf 38886067 3 _ _ _ _).trans rfl
theorem c_X10_keptWord_56 (cf : Nat → List PV → PH → Rs) (a0 : Nat) (a1 : Int) (a2 : Int) (a3 : Int) (a4 : Int) (a5 : Int) (h : PH) (g0 : (inT 70 70 (hc h (gR h 3665821698 0)) ∨ inT 70 70 (kc h (gR h 3665821698 0))) ∧ inA (w32 (a4 + a5)) (hl h (gR h 3665821698 0))) : FA cf 38886067 56 [vR a0, vI a1, vI a2, vI a3, vI a4, vI a5] [] h = if (eI h (gR h 3665821698 0) (w32 (a4 + a5))) = 32 then FA cf 38886067 70 [vR a0, vI a1, vI a2, vI a3, vI a4, vI a5] [] h else FA cf 38886067 72 [vR a0, vI a1, vI a2, vI a3, vI a4, vI a5] [] h := ((FA_ex cf 38886067 7 _ _ _ _).trans rfl : FA cf 38886067 56 [vR a0, vI a1, vI a2, vI a3, vI a4, vI a5] [] h = gd ((inT 70 70 (hc h (gR h 3665821698 0)) ∨ inT 70 70 (kc h (gR h 3665821698 0))) ∧ inA (w32 (a4 + a5)) (hl h (gR h 3665821698 0))) (if (eI h (gR h 3665821698 0) (w32 (a4 + a5))) = 32 then FA cf 38886067 70 [vR a0, vI a1, vI a2, vI a3, vI a4, vI a5] [] h else FA cf 38886067 72 [vR a0, vI a1, vI a2, vI a3, vI a4, vI a5] [] h)).trans ((gd_t g0))
theorem c_X10_keptWord_70 (cf : Nat → List PV → PH → Rs) (a0 : Nat) (a1 : Int) (a2 : Int) (a3 : Int) (a4 : Int) (a5 : Int) (h : PH) : FA cf 38886067 70 [vR a0, vI a1, vI a2, vI a3, vI a4, vI a5] [] h = some (.inl (some (vI a3)), h) := (FA_ex cf 38886067 2 _ _ _ _).trans rfl
theorem c_X10_keptWord_72 (cf : Nat → List PV → PH → Rs) (a0 : Nat) (a1 : Int) (a2 : Int) (a3 : Int) (a4 : Int) (a5 : Int) (h : PH) (g0 : (inT 70 70 (hc h (gR h 3665821698 0)) ∨ inT 70 70 (kc h (gR h 3665821698 0))) ∧ inA a4 (hl h (gR h 3665821698 0))) : FA cf 38886067 72 [vR a0, vI a1, vI a2, vI a3, vI a4, vI a5] [] h = if (eI h (gR h 3665821698 0) a4) = 32 then FA cf 38886067 89 [vR a0, vI a1, vI a2, vI a3, vI a4, vI a5] [] h else FA cf 38886067 83 [vR a0, vI a1, vI a2, vI a3, vI a4, vI a5] [] h := ((FA_ex cf 38886067 5 _ _ _ _).trans rfl : FA cf 38886067 72 [vR a0, vI a1, vI a2, vI a3, vI a4, vI a5] [] h = gd ((inT 70 70 (hc h (gR h 3665821698 0)) ∨ inT 70 70 (kc h (gR h 3665821698 0))) ∧ inA a4 (hl h (gR h 3665821698 0))) (if (eI h (gR h 3665821698 0) a4) = 32 then FA cf 38886067 89 [vR a0, vI a1, vI a2, vI a3, vI a4, vI a5] [] h else FA cf 38886067 83 [vR a0, vI a1, vI a2, vI a3, vI a4, vI a5] [] h)).trans ((gd_t g0))
theorem c_X10_keptWord_83 (cf : Nat → List PV → PH → Rs) (a0 : Nat) (a1 : Int) (a2 : Int) (a3 : Int) (a4 : Int) (a5 : Int) (h : PH) : FA cf 38886067 83 [vR a0, vI a1, vI a2, vI a3, vI a4, vI a5] [] h = FA cf 38886067 72 [vR a0, vI a1, vI a2, vI a3, vI (w32 (a4 + 1)), vI a5] [] h := (FA_ex cf 38886067 2 _ _ _ _).trans rfl
theorem c_X10_keptWord_89 (cf : Nat → List PV → PH → Rs) (a0 : Nat) (a1 : Int) (a2 : Int) (a3 : Int) (a4 : Int) (a5 : Int) (h : PH) : FA cf 38886067 89 [vR a0, vI a1, vI a2, vI a3, vI a4, vI a5] [] h = FA cf 38886067 5 [vR a0, vI a1, vI a2, vI (w32 (a3 + 1)), vI (w32 (a4 + 1)), vI a5] [] h := (FA_ex cf 38886067 3 _ _ _ _).trans rfl
theorem c_X10_keptWord_98 (cf : Nat → List PV → PH → Rs) (a0 : Nat) (a1 : Int) (a2 : Int) (a3 : Int) (a4 : Int) (a5 : PV) (h : PH) : FA cf 38886067 98 [vR a0, vI a1, vI a2, vI a3, vI a4, a5] [] h = some (.inl (some (vI (-1))), h) := (FA_ex cf 38886067 2 _ _ _ _).trans rfl
theorem bnd_v {v : Option PV} {h : PH} {f : Option PV → PH → Rs} : bnd (some (.inl v, h)) f = f v h := rfl
theorem bnd_x {e : Nat} {h : PH} {f : Option PV → PH → Rs} : bnd (some (.inr e, h)) f = some (.inr e, h) := rfl
theorem pu_s {v : PV} {st : List PV} : pu (some v) st = v :: st := rfl
theorem pu_n {st : List PV} : pu none st = st := rfl
def b01 (p : Prop) [Decidable p] : Int := if p then 1 else 0
theorem b01_p {p : Prop} [Decidable p] (h : p) : b01 p = 1 := if_pos h
theorem b01_n {p : Prop} [Decidable p] (h : ¬ p) : b01 p = 0 := if_neg h
theorem b01_0 {p : Prop} [Decidable p] : b01 p = 0 ↔ ¬ p := by
  unfold b01
  by_cases h : p
  · rw [if_pos h]; exact ⟨fun z => absurd z (by decide), fun z => absurd h z⟩
  · rw [if_neg h]; exact ⟨fun _ => h, fun _ => rfl⟩
theorem b01_b {p : Prop} [Decidable p] : b01 p = 0 ∨ b01 p = 1 := by
  by_cases h : p
  · right; exact if_pos h
  · left; exact if_neg h
abbrev isG (c : Int) : Prop := 65 ≤ c ∧ c ≤ 90
abbrev isS (c : Int) : Prop := 97 ≤ c ∧ c ≤ 122
abbrev isD (c : Int) : Prop := 48 ≤ c ∧ c ≤ 57
theorem f_isGreat (d : Nat) (c : Int) (h : PH) : F (d + 1) 38273025 [vI c] h = some (.inl (some (vI (b01 (isG c)))), h) := by
  rw [e_X10_isGreat, c_X10_isGreat_0]
  by_cases h1 : c < 65
  · rw [if_pos h1, c_X10_isGreat_16, c_X10_isGreat_17 _ _ _ _ (Or.inl rfl), b01_n (by omega)]
  · rw [if_neg h1, c_X10_isGreat_6]
    by_cases h2 : 90 < c
    · rw [if_pos h2, c_X10_isGreat_16, c_X10_isGreat_17 _ _ _ _ (Or.inl rfl), b01_n (by omega)]
    · rw [if_neg h2, c_X10_isGreat_12, c_X10_isGreat_17 _ _ _ _ (Or.inr rfl), b01_p (by omega)]
theorem f_isSmallC (d : Nat) (c : Int) (h : PH) : F (d + 1) 39583745 [vI c] h = some (.inl (some (vI (b01 (isS c)))), h) := by
  rw [e_X10_isSmall, c_X10_isSmall_0]
  by_cases h1 : c < 97
  · rw [if_pos h1, c_X10_isSmall_16, c_X10_isSmall_17 _ _ _ _ (Or.inl rfl), b01_n (by omega)]
  · rw [if_neg h1, c_X10_isSmall_6]
    by_cases h2 : 122 < c
    · rw [if_pos h2, c_X10_isSmall_16, c_X10_isSmall_17 _ _ _ _ (Or.inl rfl), b01_n (by omega)]
    · rw [if_neg h2, c_X10_isSmall_12, c_X10_isSmall_17 _ _ _ _ (Or.inr rfl), b01_p (by omega)]
theorem f_isDigit (d : Nat) (c : Int) (h : PH) : F (d + 1) 39845889 [vI c] h = some (.inl (some (vI (b01 (isD c)))), h) := by
  rw [e_X10_isDigit, c_X10_isDigit_0]
  by_cases h1 : c < 48
  · rw [if_pos h1, c_X10_isDigit_16, c_X10_isDigit_17 _ _ _ _ (Or.inl rfl), b01_n (by omega)]
  · rw [if_neg h1, c_X10_isDigit_6]
    by_cases h2 : 57 < c
    · rw [if_pos h2, c_X10_isDigit_16, c_X10_isDigit_17 _ _ _ _ (Or.inl rfl), b01_n (by omega)]
    · rw [if_neg h2, c_X10_isDigit_12, c_X10_isDigit_17 _ _ _ _ (Or.inr rfl), b01_p (by omega)]
/-- the kept words, packed, in the model's order -/
def KWL : List Int := [1162104653, 1330205264, 20559, 4411212, 1346454856, 1346980691, 4999502, 21321, 1414419273, 4347724, 4345941, 17999, 1196314444, 1163219540, 297750249798, 336236856642, 4476485, 17993, 1313163348, 1163086917, 18758, 1163084099, 20041, 5526863, 1128354629, 1313163351, 5394246, 1297044038, 22850, 20308, 297632614487, 20292, 17487, 362090680912, 5525065, 1280266050, 1145655126, 4605266, 1129271888, 92648171000915, 336337653333]
def WTL : List (Nat × Nat) := [(0, 4), (5, 4), (10, 2), (13, 3), (17, 4), (22, 4), (27, 3), (31, 2), (34, 4), (39, 3), (43, 3), (47, 2), (50, 4), (55, 4), (60, 5), (66, 5), (72, 3), (76, 2), (79, 4), (84, 4), (89, 2), (92, 4), (97, 2), (100, 3), (104, 4), (109, 4), (114, 3), (118, 4), (123, 2), (126, 2), (129, 5), (135, 2), (138, 2), (141, 5), (147, 3), (151, 4), (156, 4), (161, 3), (165, 4), (170, 6), (177, 5)]
def kix (w : Int) : Int → List Int → Int
  | _, [] => -1
  | i, x :: l => if x = w then i else kix w (i + 1) l
def WD (j : Int) : Int := wrdL.getD j.toNat 0
def wtOK : Bool := (WTL.zip KWL).all (fun z => Nat.ble (z.1.1 + z.1.2 + 1) 183 && ((List.range z.1.2).all fun j => decide (65 ≤ WD (z.1.1 + j : Nat) ∧ WD (z.1.1 + j : Nat) ≤ 90)) && decide (WD (z.1.1 + z.1.2 : Nat) = 32) && decide (pk WD (z.1.1 : Nat) z.1.2 = z.2))
theorem wtOK_t : wtOK = true := by decide +kernel
/-- the table's words lie one behind the other -/
def wtCh : Nat → List (Nat × Nat) → Bool
  | k, [] => k == 183
  | k, z :: l => z.1 == k && wtCh (k + z.2 + 1) l
theorem wtCh_t : wtCh 0 WTL = true := by decide +kernel
theorem wt_len : WTL.length = 41 ∧ KWL.length = 41 := by decide
section KW
variable {h : PH} {m tx wk : Nat} {from' : Int} {n : Nat}
/-- what keptWord sees -/
def KWH (h : PH) (m tx wk : Nat) (from' : Int) (n : Nat) : Prop := hc h m = 43 ∧ gR h 1680561838 m = tx ∧ hc h tx = 65 ∧ hl h tx = 480 ∧ gR h 3665821698 0 = wk ∧ kc h wk = 70 ∧ hl h wk = 183 ∧ (∀ j : Int, 0 ≤ j → j < 183 → eI h wk j = WD j) ∧ 0 ≤ from' ∧ from' + n ≤ 480 ∧ ∀ i : Nat, i < n → isG (eI h tx (from' + i))
/-- the comparing of one word from its i-th letter on -/
theorem kw_in (cf : Nat → List PV → PH → Rs) (H : KWH h m tx wk from' n) {w : Int} {st l : Nat} (hl1 : st + l + 1 ≤ 183) (hw : ∀ j : Nat, j < l → isG (WD (st + j))) (hsp : WD (st + l) = 32) : ∀ k i : Nat, i + k = n → i ≤ l → (∀ j : Nat, j < i → WD (st + j) = eI h tx (from' + j)) → (FA cf 38886067 17 [vR m, vI from', vI n, vI w, vI st, vI i] [] h = some (.inl (some (vI w)), h) ∧ n = l ∧ ∀ j : Nat, j < l → WD (st + j) = eI h tx (from' + j)) ∨ (∃ i' : Int, FA cf 38886067 17 [vR m, vI from', vI n, vI w, vI st, vI i] [] h = FA cf 38886067 72 [vR m, vI from', vI n, vI w, vI st, vI i'] [] h) ∧ ¬ (n = l ∧ ∀ j : Nat, j < l → WD (st + j) = eI h tx (from' + j)) := by
  obtain ⟨h1, h2, h3, h4, h5, h6, h7, h8, h9, h10, h11⟩ := H
  intro k
  induction k with
  | zero =>
    intro i e il hj
    have : i = n := by omega
    subst this
    have hA : inA (w32 ((st : Int) + i)) (hl h (gR h 3665821698 0)) := by rw [h5, h7, w32_id (by omega) (by omega)]; constructor <;> omega
    rw [c_X10_keptWord_17, if_neg (by omega), c_X10_keptWord_50, if_pos rfl, c_X10_keptWord_56 _ _ _ _ _ _ _ _ ⟨Or.inr (by rw [h5, h6]; decide), hA⟩, h5, w32_id (by omega) (by omega), h8 _ (by omega) (by omega)]
    by_cases q : i = l
    · subst q
      left
      rw [if_pos hsp, c_X10_keptWord_70]
      exact ⟨rfl, rfl, hj⟩
    · right
      have := hw i (by omega)
      rw [if_neg (by omega)]
      exact ⟨⟨i, rfl⟩, fun z => q z.1⟩
  | succ k ih =>
    intro i e il hj
    have hA : inA (w32 ((st : Int) + i)) (hl h (gR h 3665821698 0)) := by rw [h5, h7, w32_id (by omega) (by omega)]; constructor <;> omega
    have hB : inA (w32 (from' + i)) (hl h (gR h 1680561838 m)) := by rw [h2, h4, w32_id (by omega) (by omega)]; constructor <;> omega
    have hG := h11 i (by omega)
    rw [c_X10_keptWord_17, if_pos (by omega), c_X10_keptWord_23 _ _ _ _ _ _ _ _ ⟨Or.inr (by rw [h5, h6]; decide), hA⟩ (i11 h1) ⟨Or.inl (by rw [h2, h3]; decide), hB⟩, h5, h2, w32_id (x := (st : Int) + i) (by omega) (by omega), w32_id (x := from' + i) (by omega) (by omega), h8 _ (by omega) (by omega)]
    by_cases q : WD ((st : Int) + i) = eI h tx (from' + i)
    · rw [if_pos q, c_X10_keptWord_44, w32_1 (by omega)]
      have il' : i < l := by
        rcases Nat.lt_or_ge i l with z | z
        · exact z
        · have : i = l := by omega
          subst this
          rw [hsp] at q
          omega
      exact ih (i + 1) (by omega) (by omega) (fun j hj1 => by
        rcases Nat.lt_or_ge j i with z | z
        · exact hj j z
        · have : j = i := by omega
          subst this
          exact q)
    · right
      rw [if_neg q, c_X10_keptWord_50, if_neg (by omega)]
      refine ⟨⟨i, rfl⟩, fun z => ?_⟩
      exact q (z.2 i (by omega))
theorem kw_skip (cf : Nat → List PV → PH → Rs) (H : KWH h m tx wk from' n) {w i' : Int} {st l : Nat} (hl1 : st + l + 1 ≤ 183) (hw : ∀ j : Nat, j < l → isG (WD (st + j))) (hsp : WD (st + l) = 32) : ∀ k i : Nat, i + k = l → FA cf 38886067 72 [vR m, vI from', vI n, vI w, vI ((st + i : Nat) : Int), vI i'] [] h = FA cf 38886067 5 [vR m, vI from', vI n, vI (w32 (w + 1)), vI ((st + l + 1 : Nat) : Int), vI i'] [] h := by
  obtain ⟨h1, h2, h3, h4, h5, h6, h7, h8, h9, h10, h11⟩ := H
  intro k
  induction k with
  | zero =>
    intro i e
    have : i = l := by omega
    subst this
    rw [c_X10_keptWord_72 _ _ _ _ _ _ _ _ ⟨Or.inr (by rw [h5, h6]; decide), by rw [h5, h7]; constructor <;> omega⟩, h5, h8 _ (by omega) (by omega)]
    have e2 : ((st + i : Nat) : Int) = (st : Int) + i := by omega
    rw [e2, if_pos hsp, c_X10_keptWord_89, w32_id (x := (st : Int) + i + 1) (by omega) (by omega)]
    have e3 : ((st : Int) + i + 1) = ((st + i + 1 : Nat) : Int) := by omega
    rw [e3]
  | succ k ih =>
    intro i e
    have e2 : ((st + i : Nat) : Int) = (st : Int) + i := by omega
    have := hw i (by omega)
    rw [c_X10_keptWord_72 _ _ _ _ _ _ _ _ ⟨Or.inr (by rw [h5, h6]; decide), by rw [h5, h7]; constructor <;> omega⟩, h5, h8 _ (by omega) (by omega)]
    rw [e2, if_neg (by omega), c_X10_keptWord_83, w32_id (x := (st : Int) + i + 1) (by omega) (by omega)]
    have e3 : ((st : Int) + i + 1) = ((st + (i + 1) : Nat) : Int) := by omega
    rw [e3]
    exact ih (i + 1) (by omega)
theorem kw_all (cf : Nat → List PV → PH → Rs) (H : KWH h m tx wk from' n) (hn8 : n ≤ 8) : ∀ (l : List (Nat × Nat)) (kw : List Int) (st : Nat) (w : Nat) (a5 : PV), l.length = kw.length → w + l.length ≤ 100 → wtCh st l = true → (∀ z ∈ l.zip kw, z.1.1 + z.1.2 + 1 ≤ 183 ∧ (∀ j : Nat, j < z.1.2 → isG (WD (z.1.1 + j))) ∧ WD (z.1.1 + z.1.2) = 32 ∧ pk WD (z.1.1 : Nat) z.1.2 = z.2) → FA cf 38886067 5 [vR m, vI from', vI n, vI w, vI st, a5] [] h = some (.inl (some (vI (kix (pk (eI h tx) from' n) w kw))), h) := by
  intro l
  induction l with
  | nil =>
    intro kw st w a5 e0 _ e1 _
    obtain ⟨h1, h2, h3, h4, h5, h6, h7, h8, h9, h10, h11⟩ := H
    have : kw = [] := by cases kw with
      | nil => rfl
      | cons => simp at e0
    subst this
    have : st = 183 := by simpa [wtCh] using e1
    subst this
    rw [c_X10_keptWord_5 _ _ _ _ _ _ _ _ (Or.inr (by rw [h5, h6]; decide)), h5, h7, if_neg (by omega), c_X10_keptWord_98]
    rfl
  | cons z l ih =>
    intro kw st w a5 e0 e9 e1 e2
    obtain ⟨x, kw, rfl⟩ : ∃ x kw', kw = x :: kw' := by cases kw with
      | nil => simp at e0
      | cons x kw => exact ⟨x, kw, rfl⟩
    have hz := e2 (z, x) (by simp)
    obtain ⟨z1, z2, z3, z4⟩ := hz
    simp only [wtCh, Bool.and_eq_true, beq_iff_eq] at e1
    have hz0 : z.1 = st := e1.1
    simp only at z1 z2 z3 z4
    rw [hz0] at z1 z2 z3 z4
    have hh := H
    obtain ⟨h1, h2, h3, h4, h5, h6, h7, h8, h9, h10, h11⟩ := hh
    rw [c_X10_keptWord_5 _ _ _ _ _ _ _ _ (Or.inr (by rw [h5, h6]; decide)), h5, h7, if_pos (by omega), c_X10_keptWord_14]
    have key : (n = z.2 ∧ ∀ j : Nat, j < z.2 → WD (st + j) = eI h tx (from' + j)) ↔ x = pk (eI h tx) from' n := by
      constructor
      · intro ⟨a, c⟩
        rw [← z4, a]
        -- both packed alike
        have : ∀ (k : Nat) (p q : Int), (∀ i : Nat, i < k → WD (p + i) = eI h tx (q + i)) → pk WD p k = pk (eI h tx) q k := by
          intro k
          induction k with
          | zero => intros; rfl
          | succ k ih =>
            intro p q hh
            have a0 := hh 0 (by omega)
            rw [show p + ((0 : Nat) : Int) = p by omega, show q + ((0 : Nat) : Int) = q by omega] at a0
            unfold pk
            rw [a0, ih (p + 1) (q + 1) (fun i hi => by
              have := hh (i + 1) (by omega)
              rw [show p + ((i + 1 : Nat) : Int) = p + 1 + i by omega, show q + ((i + 1 : Nat) : Int) = q + 1 + i by omega] at this
              exact this)]
        exact this _ _ _ c
      · intro a
        rw [← z4] at a
        have := pk_inj (f := WD) (g := eI h tx) (n := z.2) (k := n) (p := (st : Nat)) (q := from') (fun i hi => by have := z2 i hi; omega) (fun i hi => by have := h11 i hi; omega) a
        exact ⟨this.1.symm, this.2⟩
    have e5 := kw_in cf H (w := w) (st := st) (l := z.2) z1 z2 z3 n 0 (by omega) (by omega) (fun j hj => absurd hj (by omega))
    have e7 : ((0 : Nat) : Int) = 0 := rfl
    rw [e7] at e5
    unfold kix
    rcases e5 with ⟨a, c⟩ | ⟨⟨i', a⟩, c⟩
    · rw [a, if_pos (key.mp c)]
    · rw [a, if_neg (fun q => c (key.mpr q))]
      have e6 := kw_skip cf H (w := w) (i' := i') (st := st) (l := z.2) z1 z2 z3 z.2 0 (by omega)
      rw [show ((st + 0 : Nat) : Int) = (st : Int) from rfl] at e6
      have e9' : w + l.length + 1 ≤ 100 := by simpa [Nat.add_assoc] using e9
      rw [e6, w32_1 (by omega)]
      have := ih kw (st + z.2 + 1) (w + 1) (vI i') (by simpa using e0) (by omega) e1.2 (fun q hq => e2 q (by simp [hq]))
      rw [this]
      rfl
theorem f_keptWord (d : Nat) (H : KWH h m tx wk from' n) (hn8 : n ≤ 8) : F (d + 1) 38886067 [vR m, vI from', vI n] h = some (.inl (some (vI (kix (pk (eI h tx) from' n) 0 KWL))), h) := by
  rw [e_X10_keptWord, c_X10_keptWord_0]
  have := kw_all (F d) H hn8 WTL KWL 0 0 vX (by decide) (by decide) wtCh_t (fun z hz => by
    have := wtOK_t
    unfold wtOK at this
    have := List.all_eq_true.mp this z hz
    simp only [Bool.and_eq_true, decide_eq_true_eq, List.all_eq_true, List.mem_range, Nat.ble_eq] at this
    obtain ⟨⟨⟨a, b⟩, c⟩, e⟩ := this
    refine ⟨a, fun j hj => ?_, ?_, e⟩
    · have := b j hj
      push_cast at this
      exact this
    · push_cast at c
      exact c)
  exact this
end KW
