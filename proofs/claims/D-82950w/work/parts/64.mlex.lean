/-! THE MODEL's TOKENS: what its lexer makes -/
set_option maxRecDepth 100000
def rn (c : Int → Bool) (T : Int → Int) (L : Int) : Nat → Int → Nat
  | 0, _ => 0
  | k + 1, p => if p < L ∧ c (T p) = true then rn c T L k (p + 1) + 1 else 0
/-- how many bytes of a kind there are from p on -/
def rl (c : Int → Bool) (T : Int → Int) (L : Int) (p : Int) : Nat := rn c T L (L - p).toNat p
section RL
variable {c : Int → Bool} {T : Int → Int} {L p : Int}
theorem rl_n (h : ¬ (p < L ∧ c (T p) = true)) : rl c T L p = 0 := by
  unfold rl
  cases e : (L - p).toNat with
  | zero => rfl
  | succ k => unfold rn; rw [if_neg h]
theorem rl_s (h : p < L ∧ c (T p) = true) : rl c T L p = rl c T L (p + 1) + 1 := by
  unfold rl
  have e : (L - p).toNat = (L - (p + 1)).toNat + 1 := by omega
  rw [e]
  conv => lhs; unfold rn
  rw [if_pos h]
theorem rl_le : ∀ (k : Nat) (p : Int), (L - p).toNat = k → p ≤ L → p + (rl c T L p : Nat) ≤ L := by
  intro k
  induction k with
  | zero =>
    intro p e h
    rw [rl_n (by omega)]; omega
  | succ k ih =>
    intro p e h
    by_cases q : p < L ∧ c (T p) = true
    · rw [rl_s q]
      have := ih (p + 1) (by omega) (by omega)
      omega
    · rw [rl_n q]; omega
theorem rl_in : ∀ (k : Nat) (p : Int), (L - p).toNat = k → ∀ i : Nat, i < rl c T L p → p + i < L ∧ c (T (p + i)) = true := by
  intro k
  induction k with
  | zero =>
    intro p e i h
    rw [rl_n (by omega)] at h; omega
  | succ k ih =>
    intro p e i h
    by_cases q : p < L ∧ c (T p) = true
    · rw [rl_s q] at h
      rcases i with _ | i
      · rw [show p + ((0 : Nat) : Int) = p by omega]; exact q
      · have := ih (p + 1) (by omega) i (by omega)
        rw [show p + ((i + 1 : Nat) : Int) = p + 1 + i by omega]
        exact this
    · rw [rl_n q] at h; omega
end RL
def cG (c : Int) : Bool := decide (isG c)
def cS (c : Int) : Bool := decide (isS c ∨ isD c)
def cD (c : Int) : Bool := decide (isD c)
/-- a number's value by its digits -/
def dv (T : Int → Int) (p : Int) : Nat → Int
  | 0 => 0
  | n + 1 => 10 * dv T p n + T (p + n) - 48
theorem dv_rng {T : Int → Int} {p : Int} : ∀ {n : Nat}, (∀ i : Nat, i < n → isD (T (p + i))) → 0 ≤ dv T p n ∧ dv T p n < 10 ^ n
  | 0, _ => by unfold dv; omega
  | n + 1, h => by
    have a := h n (by omega)
    have b := dv_rng (n := n) (fun i hi => h i (by omega))
    unfold dv
    rw [Int.pow_succ]
    omega
/-- signs of two bytes -/
abbrev isTwo (T : Int → Int) (L p : Int) : Prop := (p + 1 < L ∧ T (p + 1) = 61) ∧ (T p = 58 ∨ T p = 47 ∨ T p = 60 ∨ T p = 62)
def sgL : List Int := [40, 41, 91, 93, 44, 59, 58, 43, 45, 42, 47, 37, 38, 33, 126, 61, 60, 62]
def two (c : Int) : Int := if c = 58 then 300 else if c = 47 then 301 else if c = 60 then 302 else 303
abbrev TokE : Type := Int × Int × Int × Int
/-- a token from p on, and where the next one may begin: kind, is, word, next -/
def lexAt (T : Int → Int) (L p : Int) : TokE :=
  if isG (T p) then (if 8 < rl cG T L p then (6, 0, 0, p + rl cG T L p) else (if 0 ≤ kix (pk T p (rl cG T L p)) 0 KWL then 1 else 2, kix (pk T p (rl cG T L p)) 0 KWL, pk T p (rl cG T L p), p + rl cG T L p))
  else if isS (T p) then (if 8 < rl cS T L p then (6, 0, 0, p + rl cS T L p) else (3, 0, pk T p (rl cS T L p), p + rl cS T L p))
  else if isD (T p) then (if rl cD T L p ≤ 10 ∧ dv T p (rl cD T L p) ≤ 2147483647 then (4, dv T p (rl cD T L p), 0, p + rl cD T L p) else (6, 0, 0, p + rl cD T L p))
  else ((if T p ∈ sgL then 5 else 6), (if isTwo T L p then two (T p) else T p), lor (lshl (if isTwo T L p then two (T p) else T p) 56) 1, (if isTwo T L p then p + 2 else p + 1))
/-- the model's state with one token more -/
def tk1 (s : MS) (kd at' is w : Int) : MS := uI (vJ' (vI' (vI' (vI' s 2 (fI s 1722504876) kd) 3 (fI s 1722504876) at') 4 (fI s 1722504876) is) 5 (fI s 1722504876) w) 1722504876 (fI s 1722504876 + 1)
/-- the text is there -/
def TB (s : MS) : Prop := (0 ≤ fI s 1688950444 ∧ fI s 1688950444 ≤ 480) ∧ ∀ j, 0 ≤ j → j < fI s 1688950444 → 1 ≤ aI s 1 j ∧ aI s 1 j < 256
section ML
variable {b : PH} {m : Nat} {s : MS}
theorem f_byteAt (d : Nat) (B : MB b m) (t : TB s) {k : Int} (h0 : 0 ≤ k) : F (d + 1) 38623922 [vR m, vI k] (MH b m s) = some (.inl (some (vI (if k < fI s 1688950444 then aI s 1 k else -1))), MH b m s) := by
  rw [e_X10_byteAt, k_X10_byteAt_0 _ _ _ _ _ B]
  have := t.1
  by_cases q : k < fI s 1688950444
  · rw [if_pos q, if_pos q, k_X10_byteAt_8 _ _ _ _ _ B ⟨h0, by omega⟩, k_X10_byteAt_18 _ _ _ _ _ _ B]
  · rw [if_neg q, if_neg q, k_X10_byteAt_17 _ _ _ _ _ B, k_X10_byteAt_18 _ _ _ _ _ _ B]
theorem f_token (d : Nat) (B : MB b m) (ht : inA (fI s 1722504876) 490) (kd at' is w : Int) : F (d + 1) 39148213 [vR m, vI kd, vI at', vI is, vJ w] (MH b m s) = some (.inl none, MH b m (tk1 s kd at' is w)) := by
  rw [e_X10_token, k_X10_token_0 _ _ _ _ _ _ _ _ B ht, w32_id (by omega) (by omega)]
  rfl
theorem pk_lp (cf : Nat → List PV → PH → Rs) (B : MB b m) {p : Int} {n : Nat} (h0 : 0 ≤ p) (h1 : p + n ≤ 480) (h8 : n ≤ 8) (hb : ∀ i : Nat, i < n → 0 ≤ aI s 1 (p + i) ∧ aI s 1 (p + i) < 128) : ∀ j k : Nat, j + k = n → FA cf 39410355 7 [vR m, vI p, vI (p + n), vJ (pk (aI s 1) (p + j) k), vX, vI (p + j - 1)] [] (MH b m s) = some (.inl (some (vJ (pk (aI s 1) p n))), MH b m s) := by
  intro j
  induction j with
  | zero =>
    intro k e
    have : k = n := by omega
    subst this
    rw [k_X10_packed_7 _ _ _ _ _ _ _ _ B, if_pos (by omega), k_X10_packed_33 _ _ _ _ _ _ _ _ B, show p + ((0 : Nat) : Int) = p by omega]
  | succ j ih =>
    intro k e
    have e1 : p + ((j + 1 : Nat) : Int) - 1 = p + j := by omega
    have hr := pk_rng (f := aI s 1) (n := k) (p := p + ((j + 1 : Nat) : Int)) (fun i hi => by
      have := hb (j + 1 + i) (by omega)
      rw [show p + ((j + 1 + i : Nat) : Int) = p + ((j + 1 : Nat) : Int) + i by omega] at this
      exact this)
    have hj := hb j (by omega)
    rw [k_X10_packed_7 _ _ _ _ _ _ _ _ B, if_neg (by omega), k_X10_packed_13 _ _ _ _ _ _ _ _ B (by rw [e1]; constructor <;> omega), e1, lor_pk hr.1 hr.2 (by omega) hj.1 (by omega)]
    have e2 : aI s 1 (p + j) + 256 * pk (aI s 1) (p + ((j + 1 : Nat) : Int)) k = pk (aI s 1) (p + j) (k + 1) := by
      conv => rhs; unfold pk
      rw [show p + ((j + 1 : Nat) : Int) = p + j + 1 by omega]
    rw [e2, w32_id (by omega) (by omega)]
    exact ih (k + 1) (by omega)
theorem f_packed (d : Nat) (B : MB b m) {p : Int} {n : Nat} (h0 : 0 ≤ p) (h1 : p + n ≤ 480) (h8 : n ≤ 8) (hb : ∀ i : Nat, i < n → 0 ≤ aI s 1 (p + i) ∧ aI s 1 (p + i) < 128) : F (d + 1) 39410355 [vR m, vI p, vI (p + n)] (MH b m s) = some (.inl (some (vJ (pk (aI s 1) p n))), MH b m s) := by
  rw [e_X10_packed, k_X10_packed_0 _ _ _ _ _ _ _ _ _ B, w32_id (by omega) (by omega)]
  have := pk_lp (F d) B h0 h1 h8 hb n 0 (by omega)
  exact this
theorem lp_G (d : Nat) (B : MB b m) (t : TB s) {a1 a2 : Int} {a4 a5 a6 : PV} : ∀ (k : Nat) (p : Int), (fI s 1688950444 - p).toNat = k → 0 ≤ p → p ≤ fI s 1688950444 → FA (F (d + 1)) 38099634 18 [vR m, vI a1, vI a2, vI p, a4, a5, a6] [] (MH b m s) = FA (F (d + 1)) 38099634 35 [vR m, vI a1, vI a2, vI (p + rl cG (aI s 1) (fI s 1688950444) p), a4, a5, a6] [] (MH b m s) := by
  intro k
  have t1 := t.1
  induction k with
  | zero =>
    intro p e h0 h1
    rw [rl_n (by omega), k_X10_oneToken_18 _ _ _ _ _ _ _ _ _ _ B, f_byteAt d B t h0, if_neg (by omega), bnd_v, pu_s, k_X10_oneToken_23 _ _ _ _ _ _ _ _ _ _ _ B, f_isGreat, bnd_v, pu_s, k_X10_oneToken_26 _ _ _ _ _ _ _ _ _ _ _ B, if_pos (b01_0.mpr (by decide)), show p + ((0 : Nat) : Int) = p by omega]
  | succ k ih =>
    intro p e h0 h1
    rw [k_X10_oneToken_18 _ _ _ _ _ _ _ _ _ _ B, f_byteAt d B t h0, if_pos (by omega), bnd_v, pu_s, k_X10_oneToken_23 _ _ _ _ _ _ _ _ _ _ _ B, f_isGreat, bnd_v, pu_s, k_X10_oneToken_26 _ _ _ _ _ _ _ _ _ _ _ B]
    by_cases q : isG (aI s 1 p)
    · rw [if_neg (fun z => b01_0.mp z q), k_X10_oneToken_29 _ _ _ _ _ _ _ _ _ _ B, w32_id (by omega) (by omega), rl_s ⟨by omega, by unfold cG; simpa using q⟩, ih (p + 1) (by omega) (by omega) (by omega), show p + ((rl cG (aI s 1) (fI s 1688950444) (p + 1) + 1 : Nat) : Int) = p + 1 + (rl cG (aI s 1) (fI s 1688950444) (p + 1) : Nat) by omega]
    · rw [if_pos (b01_0.mpr q), rl_n (by unfold cG; intro z; exact q (by simpa using z.2)), show p + ((0 : Nat) : Int) = p by omega]
theorem lp_S (d : Nat) (B : MB b m) (t : TB s) {a1 a2 : Int} {a4 a5 a6 : PV} : ∀ (k : Nat) (p : Int), (fI s 1688950444 - p).toNat = k → 0 ≤ p → p ≤ fI s 1688950444 → FA (F (d + 1)) 38099634 109 [vR m, vI a1, vI a2, vI p, a4, a5, a6] [] (MH b m s) = FA (F (d + 1)) 38099634 137 [vR m, vI a1, vI a2, vI (p + rl cS (aI s 1) (fI s 1688950444) p), a4, a5, a6] [] (MH b m s) := by
  intro k
  have t1 := t.1
  induction k with
  | zero =>
    intro p e h0 h1
    rw [rl_n (by omega), k_X10_oneToken_109 _ _ _ _ _ _ _ _ _ _ B, f_byteAt d B t h0, if_neg (by omega), bnd_v, pu_s, k_X10_oneToken_114 _ _ _ _ _ _ _ _ _ _ _ B, f_isSmallC, bnd_v, pu_s, k_X10_oneToken_117 _ _ _ _ _ _ _ _ _ _ _ B, if_pos (b01_0.mpr (by decide)), k_X10_oneToken_120 _ _ _ _ _ _ _ _ _ _ B, f_byteAt d B t h0, if_neg (by omega), bnd_v, pu_s, k_X10_oneToken_125 _ _ _ _ _ _ _ _ _ _ _ B, f_isDigit, bnd_v, pu_s, k_X10_oneToken_128 _ _ _ _ _ _ _ _ _ _ _ B, if_pos (b01_0.mpr (by decide)), show p + ((0 : Nat) : Int) = p by omega]
  | succ k ih =>
    intro p e h0 h1
    rw [k_X10_oneToken_109 _ _ _ _ _ _ _ _ _ _ B, f_byteAt d B t h0, if_pos (by omega), bnd_v, pu_s, k_X10_oneToken_114 _ _ _ _ _ _ _ _ _ _ _ B, f_isSmallC, bnd_v, pu_s, k_X10_oneToken_117 _ _ _ _ _ _ _ _ _ _ _ B]
    by_cases q : isS (aI s 1 p)
    · rw [if_neg (fun z => b01_0.mp z q), k_X10_oneToken_131 _ _ _ _ _ _ _ _ _ _ B, w32_id (by omega) (by omega), rl_s ⟨by omega, by unfold cS; simpa using Or.inl q⟩, ih (p + 1) (by omega) (by omega) (by omega), show p + ((rl cS (aI s 1) (fI s 1688950444) (p + 1) + 1 : Nat) : Int) = p + 1 + (rl cS (aI s 1) (fI s 1688950444) (p + 1) : Nat) by omega]
    · rw [if_pos (b01_0.mpr q), k_X10_oneToken_120 _ _ _ _ _ _ _ _ _ _ B, f_byteAt d B t h0, if_pos (by omega), bnd_v, pu_s, k_X10_oneToken_125 _ _ _ _ _ _ _ _ _ _ _ B, f_isDigit, bnd_v, pu_s, k_X10_oneToken_128 _ _ _ _ _ _ _ _ _ _ _ B]
      by_cases r : isD (aI s 1 p)
      · rw [if_neg (fun z => b01_0.mp z r), k_X10_oneToken_131 _ _ _ _ _ _ _ _ _ _ B, w32_id (by omega) (by omega), rl_s ⟨by omega, by unfold cS; simpa using Or.inr r⟩, ih (p + 1) (by omega) (by omega) (by omega), show p + ((rl cS (aI s 1) (fI s 1688950444) (p + 1) + 1 : Nat) : Int) = p + 1 + (rl cS (aI s 1) (fI s 1688950444) (p + 1) : Nat) by omega]
      · rw [if_pos (b01_0.mpr r), rl_n (by unfold cS; intro z; have := of_decide_eq_true z.2; omega), show p + ((0 : Nat) : Int) = p by omega]
theorem lcm_gt (x y : Int) : 0 < lcm x y ↔ y < x := by unfold lcm; split <;> (try split) <;> omega
/-- digits: i of them are behind -/
theorem lp_D (d : Nat) (B : MB b m) (t : TB s) {p0 a2 : Int} {a6 : PV} (hp0 : 0 ≤ p0) : ∀ (k : Nat) (i : Nat) (v : Int), (fI s 1688950444 - (p0 + i)).toNat = k → p0 + i ≤ fI s 1688950444 → (∀ j : Nat, j < i → isD (aI s 1 (p0 + j))) → (i ≤ 11 → v = dv (aI s 1) p0 i) → ∃ v', FA (F (d + 1)) 38099634 191 [vR m, vI p0, vI a2, vI (p0 + i), vJ v, vX, a6] [] (MH b m s) = FA (F (d + 1)) 38099634 241 [vR m, vI p0, vI a2, vI (p0 + (i + rl cD (aI s 1) (fI s 1688950444) (p0 + i) : Nat)), vJ v', vX, a6] [] (MH b m s) ∧ (i + rl cD (aI s 1) (fI s 1688950444) (p0 + i) ≤ 11 → v' = dv (aI s 1) p0 (i + rl cD (aI s 1) (fI s 1688950444) (p0 + i))) := by
  intro k
  have t1 := t.1
  induction k with
  | zero =>
    intro i v e h1 hd hv
    rw [rl_n (by omega), k_X10_oneToken_191 _ _ _ _ _ _ _ _ _ B, f_byteAt d B t (by omega), if_neg (by omega), bnd_v, pu_s, k_X10_oneToken_196 _ _ _ _ _ _ _ _ _ _ B, f_isDigit, bnd_v, pu_s, k_X10_oneToken_199 _ _ _ _ _ _ _ _ _ _ B, if_pos (b01_0.mpr (by decide))]
    exact ⟨v, rfl, hv⟩
  | succ k ih =>
    intro i v e h1 hd hv
    rw [k_X10_oneToken_191 _ _ _ _ _ _ _ _ _ B, f_byteAt d B t (by omega), if_pos (by omega), bnd_v, pu_s, k_X10_oneToken_196 _ _ _ _ _ _ _ _ _ _ B, f_isDigit, bnd_v, pu_s, k_X10_oneToken_199 _ _ _ _ _ _ _ _ _ _ B]
    by_cases q : isD (aI s 1 (p0 + i))
    · rw [if_neg (fun z => b01_0.mp z q), rl_s ⟨by omega, by unfold cD; simpa using q⟩]
      have hd' : ∀ j : Nat, j < i + 1 → isD (aI s 1 (p0 + j)) := fun j hj => by
        rcases Nat.lt_or_ge j i with z | z
        · exact hd j z
        · have : j = i := by omega
          subst this
          exact q
      have e3 : w32 (p0 + (i : Int) + 1) = p0 + ((i + 1 : Nat) : Int) := by rw [w32_id (by omega) (by omega)]; omega
      have e4 : p0 + (i : Int) + 1 = p0 + ((i + 1 : Nat) : Int) := by omega
      have e5 : i + (rl cD (aI s 1) (fI s 1688950444) (p0 + (i : Int) + 1) + 1) = (i + 1) + rl cD (aI s 1) (fI s 1688950444) (p0 + ((i + 1 : Nat) : Int)) := by rw [e4]; omega
      rw [e5, k_X10_oneToken_202 _ _ _ _ _ _ _ _ _ B]
      by_cases g : 100000000000 < v
      · rw [if_pos ((lcm_gt _ _).mpr g), k_X10_oneToken_211 _ _ _ _ _ _ _ _ _ B, k_X10_oneToken_233 _ _ _ _ _ _ _ _ _ _ B, e3]
        refine ih (i + 1) v (by omega) (by omega) hd' (fun z => ?_)
        have := hv (by omega)
        have r := dv_rng hd
        have : (10 : Int) ^ i ≤ 10 ^ 11 := by
          have : (10 : Nat) ^ i ≤ 10 ^ 11 := Nat.pow_le_pow_right (by decide) (by omega)
          exact_mod_cast this
        omega
      · rw [if_neg (fun z => g ((lcm_gt _ _).mp z)), k_X10_oneToken_216 _ _ _ _ _ _ _ _ _ B, f_byteAt d B t (by omega), if_pos (by omega), bnd_v, pu_s, k_X10_oneToken_227 _ _ _ _ _ _ _ _ _ _ _ B, k_X10_oneToken_233 _ _ _ _ _ _ _ _ _ _ B, e3]
        refine ih (i + 1) _ (by omega) (by omega) hd' (fun z => ?_)
        have := hv (by omega)
        have r := dv_rng hd
        have c := t.2 (p0 + i) (by omega) (by omega)
        have e6 : (10 : Int) ^ i ≤ 10 ^ 11 := by
          have : (10 : Nat) ^ i ≤ 10 ^ 11 := Nat.pow_le_pow_right (by decide) (by omega)
          exact_mod_cast this
        unfold dv
        rw [← this]
        rw [w64_id (x := 10 * v) (by omega) (by omega), w64_id (x := 10 * v + aI s 1 (p0 + i)) (by omega) (by omega), w64_id (by omega) (by omega)]
    · rw [if_pos (b01_0.mpr q), rl_n (by unfold cD; intro z; exact q (by simpa using z.2))]
      exact ⟨v, rfl, hv⟩
/-- what all the model's lexer needs besides -/
theorem mArr_all : ((List.range 146).all fun i => mArr.any fun q => q.2.1 == i + 1 && mdA q.2.2.1) = true := by decide +kernel
theorem MB.arr (B : MB b m) {r : Nat} (h1 : m < r) (h2 : r < m + 147) : mdA (hc b r) = true := by
  have := List.all_eq_true.mp mArr_all (r - m - 1) (List.mem_range.mpr (by omega))
  obtain ⟨q, hq, e⟩ := List.any_eq_true.mp this
  simp only [Bool.and_eq_true, beq_iff_eq] at e
  have e2 := (B.2 q hq).2.1
  rw [show m + q.2.1 = r by omega] at e2
  rw [e2]
  exact e.2
def LexH (b : PH) (m : Nat) (s : MS) : Prop := MB b m ∧ TB s ∧ ConH b
theorem kwh (B : MB b m) (C : ConH b) {p : Int} {n : Nat} (h0 : 0 ≤ p) (h1 : p + n ≤ 480) (hb : ∀ i : Nat, i < n → isG (aI s 1 (p + i))) : ∃ wk, KWH (MH b m s) m (m + 1) wk p n := by
  obtain ⟨t1, t2, t3⟩ := mb_text B
  obtain ⟨c1, c2, c3⟩ := C.2.2.2.2.2.2.2.2
  have hm := C.1.2.2.2 (gR b 3665821698 0) (by rw [c1]; decide)
  refine ⟨gR b 3665821698 0, B.1, t1, t2, t3, rfl, c1, c2, fun j hj0 hj1 => ?_, h0, h1, fun i hi => ?_⟩
  · have hne : ¬ (m < gR b 3665821698 0 ∧ gR b 3665821698 0 < m + 147) := by
      intro z
      have : mdA (hc b (gR b 3665821698 0)) = true := B.arr z.1 z.2
      rw [this] at hm
      exact absurd hm.2 Bool.noConfusion
    have e : eI (MH b m s) (gR b 3665821698 0) j = eI b (gR b 3665821698 0) j := if_neg hne
    rw [e]
    have := c3 j.toNat (by omega)
    rw [show ((j.toNat : Nat) : Int) = j by omega] at this
    exact this
  · rw [eI_MH (by decide) (by decide)]; exact hb i hi
end ML
