/-! WHAT TOKENS ARE LIKE -/
set_option maxRecDepth 100000
/-- signs that are no marks -/
def snL : List Int := [43, 45, 42, 47, 37, 38, 33, 126, 61, 60, 62, 301, 302, 303]
/-- one token by itself -/
def TokOK (e : TokE) : Prop := (0 ≤ e.2.1 ∧ e.2.1 ≤ 480) ∧ (e.1 = 0 ∨ e.1 = 6 ∨ (e.1 = 1 ∧ 0 ≤ e.2.2.1 ∧ e.2.2.1 < 41 ∧ e.2.2.2 = KWL.getD e.2.2.1.toNat 0) ∨ (e.1 = 2 ∧ e.2.2.1 = -1 ∧ 65 ≤ e.2.2.2 ∧ e.2.2.2 < 9223372036854775808 ∧ e.2.2.2 ∉ KWL) ∨ (e.1 = 3 ∧ 0 < e.2.2.2 ∧ e.2.2.2 < 9223372036854775808) ∨ (e.1 = 4 ∧ 0 ≤ e.2.2.1 ∧ e.2.2.1 ≤ 2147483647) ∨ (e.1 = 5 ∧ (e.2.2.1 ∈ mkL ∨ e.2.2.1 ∈ snL)))
theorem kix_get {w : Int} : ∀ (l : List Int) (i : Int), 0 ≤ i → w ∈ l → i ≤ kix w i l ∧ kix w i l < i + l.length ∧ l.getD (kix w i l - i).toNat 0 = w
  | [], _, _, h => absurd h (by simp)
  | x :: l, i, hi, h => by
    unfold kix
    by_cases e : x = w
    · rw [if_pos e]
      refine ⟨by omega, by simp only [List.length_cons]; omega, ?_⟩
      rw [show (i - i).toNat = 0 by omega]
      exact e
    · rw [if_neg e]
      have hm : w ∈ l := by
        rcases List.mem_cons.mp h with z | z
        · exact absurd z.symm e
        · exact z
      obtain ⟨a, b, c⟩ := kix_get l (i + 1) (by omega) hm
      refine ⟨by omega, by simp only [List.length_cons]; omega, ?_⟩
      rw [show (kix w (i + 1) l - i).toNat = (kix w (i + 1) l - (i + 1)).toNat + 1 by omega]
      exact c
theorem kix_neg {w : Int} : ∀ (l : List Int) (i : Int), w ∉ l → kix w i l = -1
  | [], _, _ => rfl
  | x :: l, i, h => by
    unfold kix
    rw [if_neg (fun z => h (by rw [z]; simp))]
    exact kix_neg l (i + 1) (fun z => h (by simp [z]))
theorem KWL_big : ∀ w ∈ KWL, 256 ≤ w := by decide
section LO
variable {T : Int → Int} {L p : Int}
theorem pk_pos {f : Int → Int} {n : Nat} {p : Int} (hn : 0 < n) (h : ∀ i : Nat, i < n → 48 ≤ f (p + i) ∧ f (p + i) < 128) : f p ≤ pk f p n ∧ pk f p n < 9223372036854775808 ∨ 8 < n := by
  rcases Nat.lt_or_ge 8 n with z | z
  · exact Or.inr z
  left
  obtain ⟨k, rfl⟩ : ∃ k, n = k + 1 := ⟨n - 1, by omega⟩
  have r := pk_rng (f := f) (n := k + 1) (p := p) (fun i hi => by have := h i hi; omega)
  have r2 := pk_rng (f := f) (n := k) (p := p + 1) (fun i hi => by
    have := h (i + 1) (by omega)
    rw [show p + ((i + 1 : Nat) : Int) = p + 1 + i by omega] at this
    omega)
  have e8 : (256 : Int) ^ (k + 1) ≤ 18446744073709551616 := by
    have h8 : (256 : Nat) ^ (k + 1) ≤ 18446744073709551616 := Nat.le_trans (Nat.pow_le_pow_right (by decide) z) (by decide)
    have hc8 : ((256 ^ (k + 1) : Nat) : Int) = (256 : Int) ^ (k + 1) := Int.natCast_pow 256 (k + 1)
    rw [← hc8]
    omega
  refine ⟨?_, by omega⟩
  unfold pk
  omega
theorem lex_ok (h0 : 0 ≤ p) (h1 : p < L) (hL : L ≤ 480) (hb : ∀ j, 0 ≤ j → j < L → 1 ≤ T j ∧ T j < 256) : TokOK ((lexAt T L p).1, p, (lexAt T L p).2.1, (lexAt T L p).2.2.1) ∧ ((lexAt T L p).1 = 1 → p + 2 ≤ (lexAt T L p).2.2.2) := by
  unfold lexAt
  by_cases qG : isG (T p)
  · rw [if_pos qG]
    have hr : rl cG T L p = rl cG T L (p + 1) + 1 := rl_s ⟨h1, by unfold cG; simpa using qG⟩
    have hin := rl_in (c := cG) (T := T) (L := L) _ p rfl
    generalize rl cG T L p = n at *
    by_cases q : 8 < n
    · rw [if_pos q]
      exact ⟨⟨by simp only; omega, Or.inr (Or.inl rfl)⟩, fun z => absurd z (by simp)⟩
    · rw [if_neg q]
      have hlet : ∀ i : Nat, i < n → isG (T (p + i)) := fun i hi => by have := (hin i hi).2; unfold cG at this; simpa using this
      have hp := (pk_pos (f := T) (n := n) (p := p) (by omega) (fun i hi => by have := hlet i hi; omega)).resolve_right q
      by_cases m : pk T p n ∈ KWL
      · obtain ⟨a, b, c⟩ := kix_get KWL 0 (by omega) m
        rw [if_pos a]
        refine ⟨⟨by simp only; omega, Or.inr (Or.inr (Or.inl ⟨rfl, a, ?_, ?_⟩))⟩, fun _ => ?_⟩
        · have : KWL.length = 41 := wt_len.2
          simp only
          omega
        · simp only
          rw [show (kix (pk T p n) 0 KWL).toNat = (kix (pk T p n) 0 KWL - 0).toNat by omega]
          exact c.symm
        · show p + 2 ≤ p + (n : Int)
          have hw := KWL_big _ m
          rcases Nat.lt_or_ge 1 n with z | z
          · omega
          · have : n = 1 := by omega
            subst this
            have e : pk T p 1 = T p := by unfold pk; unfold pk; omega
            have := hb p h0 h1
            omega
      · have e := kix_neg KWL 0 m
        rw [e, if_neg (by decide)]
        exact ⟨⟨by simp only; omega, Or.inr (Or.inr (Or.inr (Or.inl ⟨rfl, rfl, by simp only; omega, hp.2, m⟩)))⟩, fun z => absurd z (by simp)⟩
  rw [if_neg qG]
  by_cases qS : isS (T p)
  · rw [if_pos qS]
    have hr : rl cS T L p = rl cS T L (p + 1) + 1 := rl_s ⟨h1, by unfold cS; simpa using Or.inl qS⟩
    have hin := rl_in (c := cS) (T := T) (L := L) _ p rfl
    generalize rl cS T L p = n at *
    by_cases q : 8 < n
    · rw [if_pos q]
      exact ⟨⟨by simp only; omega, Or.inr (Or.inl rfl)⟩, fun z => absurd z (by simp)⟩
    · rw [if_neg q]
      have hlet : ∀ i : Nat, i < n → 48 ≤ T (p + i) ∧ T (p + i) < 128 := fun i hi => by have := (hin i hi).2; unfold cS at this; have := of_decide_eq_true this; omega
      have hp := (pk_pos (f := T) (n := n) (p := p) (by omega) hlet).resolve_right q
      exact ⟨⟨by simp only; omega, Or.inr (Or.inr (Or.inr (Or.inr (Or.inl ⟨rfl, by simp only; omega, hp.2⟩))))⟩, fun z => absurd z (by simp)⟩
  rw [if_neg qS]
  by_cases qD : isD (T p)
  · rw [if_pos qD]
    have hin := rl_in (c := cD) (T := T) (L := L) _ p rfl
    generalize rl cD T L p = n at *
    by_cases q : n ≤ 10 ∧ dv T p n ≤ 2147483647
    · rw [if_pos q]
      have hd := dv_rng (T := T) (p := p) (n := n) (fun i hi => by have := (hin i hi).2; unfold cD at this; simpa using this)
      exact ⟨⟨by simp only; omega, Or.inr (Or.inr (Or.inr (Or.inr (Or.inr (Or.inl ⟨rfl, hd.1, q.2⟩)))))⟩, fun z => absurd z (by simp)⟩
    · rw [if_neg q]
      exact ⟨⟨by simp only; omega, Or.inr (Or.inl rfl)⟩, fun z => absurd z (by simp)⟩
  rw [if_neg qD]
  by_cases q : T p ∈ sgL
  · rw [if_pos q]
    refine ⟨⟨by simp only; omega, Or.inr (Or.inr (Or.inr (Or.inr (Or.inr (Or.inr ⟨rfl, ?_⟩)))))⟩, fun z => absurd z (by simp)⟩
    simp only
    by_cases q2 : isTwo T L p
    · rw [if_pos q2]
      rcases q2.2 with z | z | z | z <;> rw [z] <;> decide
    · rw [if_neg q2]
      have := sg_in.mp q
      unfold mkL snL
      simp
      omega
  · rw [if_neg q]
    exact ⟨⟨by simp only; omega, Or.inr (Or.inl rfl)⟩, fun z => absurd z (by simp)⟩
/-- the whole row of tokens, from place p on -/
def TLs (l : List TokE) (p : Int) : Prop := (0 < xc l ∧ xc l ≤ l.length) ∧ (∀ i : Nat, i < l.length → TokOK (tE l i) ∧ p ≤ (tE l i).2.1) ∧ (∀ i : Nat, i + 1 < xc l → (tE l i).1 ≠ 0 ∧ (tE l i).1 ≠ 6 ∧ (tE l i).2.1 + 1 ≤ (tE l (i + 1)).2.1 ∧ ((tE l i).1 = 1 → (tE l i).2.1 + 2 ≤ (tE l (i + 1)).2.1)) ∧ (((tE l (xc l - 1)).1 = 0 ∧ l.length = xc l) ∨ ((tE l (xc l - 1)).1 = 6 ∧ l.length = xc l + 1 ∧ (tE l (xc l)).1 = 0))
theorem toksOK (hL : L ≤ 480) (hb : ∀ j, 0 ≤ j → j < L → 1 ≤ T j ∧ T j < 256) : ∀ (k : Nat) (p : Int), 0 ≤ p → p ≤ L → (L - p).toNat < k → TLs (toks T L k p) p
  | 0, _, _, _, hk => by omega
  | k + 1, p, h0, h1, hk => by
    unfold toks
    by_cases q : p < L
    · rw [if_pos q]
      by_cases r : T p = 32
      · rw [if_pos r]
        obtain ⟨a, b, c, e⟩ := toksOK hL hb k (p + 1) (by omega) (by omega) (by omega)
        exact ⟨a, fun i hi => ⟨(b i hi).1, by have := (b i hi).2; omega⟩, c, e⟩
      · rw [if_neg r]
        have hx := lex_next q (by have := hb p h0 q; omega : 0 ≤ T p)
        have ho := lex_ok h0 q hL hb
        have hk0 := lex_k0 (T := T) (L := L) (p := p)
        generalize lexAt T L p = e at hx ho hk0
        by_cases u : e.1 = 6
        · rw [if_pos u]
          have ex : xc [(6, p, e.2.1, e.2.2.1), ((0, L, 0, 0) : TokE)] = 1 := rfl
          refine ⟨by rw [ex]; simp, fun i hi => ?_, fun i hi => by rw [ex] at hi; omega, Or.inr ?_⟩
          · have hi : i < 2 := by simpa using hi
            have : i = 0 ∨ i = 1 := by omega
            rcases this with rfl | rfl
            · exact ⟨⟨by show 0 ≤ p ∧ p ≤ 480; omega, Or.inr (Or.inl rfl)⟩, Int.le_refl _⟩
            · exact ⟨⟨by show 0 ≤ L ∧ L ≤ 480; omega, Or.inl rfl⟩, h1⟩
          · rw [ex]; exact ⟨rfl, rfl, rfl⟩
        · rw [if_neg u]
          obtain ⟨a, b, c, f⟩ := toksOK hL hb k e.2.2.2 (by omega) (by omega) (by omega)
          have ex : xc ((e.1, p, e.2.1, e.2.2.1) :: toks T L k e.2.2.2) = xc (toks T L k e.2.2.2) + 1 := if_neg u
          generalize toks T L k e.2.2.2 = l at a b c f ex
          have es : ∀ i, tE ((e.1, p, e.2.1, e.2.2.1) :: l) (i + 1) = tE l i := fun _ => rfl
          refine ⟨by rw [ex]; simp; omega, fun i hi => ?_, fun i hi => ?_, ?_⟩
          · rcases i with _ | i
            · exact ⟨ho.1, Int.le_refl _⟩
            · rw [es]
              have := b i (by simp at hi; omega)
              exact ⟨this.1, by omega⟩
          · rw [ex] at hi
            rcases i with _ | i
            · rw [es]
              have := (b 0 (by omega)).2
              exact ⟨hk0, u, by show p + 1 ≤ _; omega, fun z => by show p + 2 ≤ _; have := ho.2 z; omega⟩
            · rw [es, es]
              exact c i (by omega)
          · rw [ex]
            have e1 : xc l + 1 - 1 = (xc l - 1) + 1 := by omega
            rw [e1, es, es]
            rcases f with ⟨f1, f2⟩ | ⟨f1, f2, f3⟩
            · exact Or.inl ⟨f1, by simp [f2]⟩
            · exact Or.inr ⟨f1, by simp [f2], f3⟩
    · rw [if_neg q]
      have ex : xc [((0, L, 0, 0) : TokE)] = 1 := rfl
      refine ⟨by rw [ex]; simp, fun i hi => ?_, fun i hi => by rw [ex] at hi; omega, Or.inl ?_⟩
      · have : i = 0 := by simpa using hi
        subst this
        exact ⟨⟨by show 0 ≤ L ∧ L ≤ 480; omega, Or.inl rfl⟩, h1⟩
      · rw [ex]; exact ⟨rfl, rfl⟩
end LO
