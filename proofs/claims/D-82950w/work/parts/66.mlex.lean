/-! THE MODEL's TOKENS: the whole text -/
set_option maxRecDepth 100000
/-- tokens of a text from p on: kind, place, is, word; behind a bad one the end -/
def toks (T : Int → Int) (L : Int) : Nat → Int → List TokE
  | 0, _ => []
  | k + 1, p => if p < L then (if T p = 32 then toks T L k (p + 1) else if (lexAt T L p).1 = 6 then [(6, p, (lexAt T L p).2.1, (lexAt T L p).2.2.1), (0, L, 0, 0)] else ((lexAt T L p).1, p, (lexAt T L p).2.1, (lexAt T L p).2.2.1) :: toks T L k (lexAt T L p).2.2.2) else [(0, L, 0, 0)]
def tokS : MS → List TokE → MS
  | s, [] => s
  | s, e :: l => tokS (tk1 s e.1 e.2.1 e.2.2.1 e.2.2.2) l
/-- where a token ends -/
theorem lex_next {T : Int → Int} {L p : Int} (h : p < L) (hb : 0 ≤ T p) : p + 1 ≤ (lexAt T L p).2.2.2 ∧ (lexAt T L p).2.2.2 ≤ L := by
  unfold lexAt
  have hG := rl_le (c := cG) (T := T) (L := L) _ p rfl (by omega)
  have hS := rl_le (c := cS) (T := T) (L := L) _ p rfl (by omega)
  have hD := rl_le (c := cD) (T := T) (L := L) _ p rfl (by omega)
  by_cases qG : isG (T p)
  · have hr : rl cG T L p = rl cG T L (p + 1) + 1 := rl_s ⟨h, by unfold cG; simpa using qG⟩
    rw [if_pos qG]
    split <;> (show p + 1 ≤ p + (rl cG T L p : Int) ∧ p + (rl cG T L p : Int) ≤ L; omega)
  rw [if_neg qG]
  by_cases qS : isS (T p)
  · have hr : rl cS T L p = rl cS T L (p + 1) + 1 := rl_s ⟨h, by unfold cS; simpa using Or.inl qS⟩
    rw [if_pos qS]
    split <;> (show p + 1 ≤ p + (rl cS T L p : Int) ∧ p + (rl cS T L p : Int) ≤ L; omega)
  rw [if_neg qS]
  by_cases qD : isD (T p)
  · have hr : rl cD T L p = rl cD T L (p + 1) + 1 := rl_s ⟨h, by unfold cD; simpa using qD⟩
    rw [if_pos qD]
    split <;> (show p + 1 ≤ p + (rl cD T L p : Int) ∧ p + (rl cD T L p : Int) ≤ L; omega)
  rw [if_neg qD]
  show p + 1 ≤ (if isTwo T L p then p + 2 else p + 1) ∧ (if isTwo T L p then p + 2 else p + 1) ≤ L
  by_cases q2 : isTwo T L p
  · rw [if_pos q2]; have := q2.1.1; omega
  · rw [if_neg q2]; omega
theorem toks_len {T : Int → Int} {L : Int} (hb : ∀ j, 0 ≤ j → j < L → 0 ≤ T j) : ∀ (k : Nat) (p : Int), 0 ≤ p → p ≤ L → (toks T L k p).length ≤ (L - p).toNat + 1
  | 0, _, _, _ => by unfold toks; simp
  | k + 1, p, h0, h1 => by
    unfold toks
    by_cases q : p < L
    · rw [if_pos q]
      by_cases r : T p = 32
      · rw [if_pos r]
        have := toks_len hb k (p + 1) (by omega) (by omega)
        omega
      · rw [if_neg r]
        have hx := lex_next q (hb p h0 q)
        by_cases u : (lexAt T L p).1 = 6
        · rw [if_pos u]; simp; omega
        · rw [if_neg u]
          have := toks_len hb k (lexAt T L p).2.2.2 (by omega) (by omega)
          simp only [List.length_cons]
          omega
    · rw [if_neg q]; simp
section TS
variable {s : MS}
theorem tk1_rd (e : TokE) : (∀ f, f ≠ 1722504876 → fI (tk1 s e.1 e.2.1 e.2.2.1 e.2.2.2) f = fI s f) ∧ fI (tk1 s e.1 e.2.1 e.2.2.1 e.2.2.2) 1722504876 = fI s 1722504876 + 1 ∧ (∀ f, fJ (tk1 s e.1 e.2.1 e.2.2.1 e.2.2.2) f = fJ s f) ∧ (∀ k j, (k ≠ 2 ∧ k ≠ 3 ∧ k ≠ 4 ∨ j ≠ fI s 1722504876) → aI (tk1 s e.1 e.2.1 e.2.2.1 e.2.2.2) k j = aI s k j) ∧ (∀ k j, (k ≠ 5 ∨ j ≠ fI s 1722504876) → aJ (tk1 s e.1 e.2.1 e.2.2.1 e.2.2.2) k j = aJ s k j) ∧ aI (tk1 s e.1 e.2.1 e.2.2.1 e.2.2.2) 2 (fI s 1722504876) = e.1 ∧ aI (tk1 s e.1 e.2.1 e.2.2.1 e.2.2.2) 3 (fI s 1722504876) = e.2.1 ∧ aI (tk1 s e.1 e.2.1 e.2.2.1 e.2.2.2) 4 (fI s 1722504876) = e.2.2.1 ∧ aJ (tk1 s e.1 e.2.1 e.2.2.1 e.2.2.2) 5 (fI s 1722504876) = e.2.2.2 := by
  unfold tk1
  refine ⟨fun f hf => ?_, ?_, fun f => rfl, fun k j h => ?_, fun k j h => ?_, ?_, ?_, ?_, ?_⟩
  · simp only [fI_uI, fI_vI, fI_vJ, if_neg hf]
  · simp only [fI_uI, if_true]
  · simp only [aI_uI, aI_vJ, aI_vI]
    rw [if_neg (by omega), if_neg (by omega), if_neg (by omega)]
  · simp only [aJ_uI, aJ_vJ, aJ_vI]
    rw [if_neg (by omega)]
  · simp [aI_uI, aI_vJ, aI_vI]
  · simp [aI_uI, aI_vJ, aI_vI]
  · simp [aI_uI, aI_vJ, aI_vI]
  · simp [aJ_uI, aJ_vJ, aJ_vI]
/-- what is read of a row of tokens -/
def TokA (s : MS) (n : Int) (l : List TokE) : Prop := ∀ i : Nat, i < l.length → aI s 2 (n + i) = (l.getD i (0, 0, 0, 0)).1 ∧ aI s 3 (n + i) = (l.getD i (0, 0, 0, 0)).2.1 ∧ aI s 4 (n + i) = (l.getD i (0, 0, 0, 0)).2.2.1 ∧ aJ s 5 (n + i) = (l.getD i (0, 0, 0, 0)).2.2.2
theorem tokS_rd : ∀ (l : List TokE) (s : MS), (∀ f, f ≠ 1722504876 → fI (tokS s l) f = fI s f) ∧ fI (tokS s l) 1722504876 = fI s 1722504876 + l.length ∧ (∀ f, fJ (tokS s l) f = fJ s f) ∧ (∀ k j, (k ≠ 2 ∧ k ≠ 3 ∧ k ≠ 4 ∨ j < fI s 1722504876) → aI (tokS s l) k j = aI s k j) ∧ (∀ k j, (k ≠ 5 ∨ j < fI s 1722504876) → aJ (tokS s l) k j = aJ s k j) ∧ TokA (tokS s l) (fI s 1722504876) l
  | [], s => ⟨fun _ _ => rfl, by simp [tokS], fun _ => rfl, fun _ _ _ => rfl, fun _ _ _ => rfl, fun i hi => absurd hi (by simp)⟩
  | e :: l, s => by
    obtain ⟨a1, a2, a3, a4, a5, a6, a7, a8, a9⟩ := tk1_rd (s := s) e
    obtain ⟨c1, c2, c3, c4, c5, c6⟩ := tokS_rd l (tk1 s e.1 e.2.1 e.2.2.1 e.2.2.2)
    refine ⟨fun f hf => ?_, ?_, fun f => ?_, fun k j h => ?_, fun k j h => ?_, fun i hi => ?_⟩
    · unfold tokS; rw [c1 f hf, a1 f hf]
    · unfold tokS; rw [c2, a2]; simp only [List.length_cons]; omega
    · unfold tokS; rw [c3, a3]
    · unfold tokS; rw [c4 k j (by rw [a2]; omega), a4 k j (by omega)]
    · unfold tokS; rw [c5 k j (by rw [a2]; omega), a5 k j (by omega)]
    · unfold tokS
      rcases i with _ | i
      · rw [show fI s 1722504876 + ((0 : Nat) : Int) = fI s 1722504876 by omega, c4 2 _ (by rw [a2]; omega), c4 3 _ (by rw [a2]; omega), c4 4 _ (by rw [a2]; omega), c5 5 _ (by rw [a2]; omega)]
        exact ⟨a6, a7, a8, a9⟩
      · have := c6 i (by simp at hi; omega)
        rw [a2, show fI s 1722504876 + 1 + (i : Int) = fI s 1722504876 + ((i + 1 : Nat) : Int) by omega] at this
        exact this
end TS
section M2
variable {b : PH} {m : Nat}
theorem lp_T (d : Nat) (B : MB b m) (C : ConH b) : ∀ (k : Nat) (s : MS) (p : Int), TB s → 0 ≤ p → p ≤ fI s 1688950444 → (fI s 1688950444 - p).toNat < k → 0 ≤ fI s 1722504876 → fI s 1722504876 ≤ p → (0 < fI s 1722504876 → aI s 2 (fI s 1722504876 - 1) ≠ 6) → FA (F (d + 2)) 37837489 7 [vR m, vI p] [] (MH b m s) = some (.inl none, MH b m (tokS s (toks (aI s 1) (fI s 1688950444) k p))) := by
  intro k
  induction k with
  | zero => intro s p t h0 h1 hk; omega
  | succ k ih =>
    intro s p t h0 h1 hk n0 n1 nb
    have t1 := t.1
    rw [k_X10_tokenize_7 _ _ _ _ _ B]
    conv => rhs; unfold toks
    by_cases q : p < fI s 1688950444
    · rw [if_pos q, if_pos q]
      have e1 : FA (F (d + 2)) 37837489 15 [vR m, vI p] [] (MH b m s) = FA (F (d + 2)) 37837489 38 [vR m, vI p] [] (MH b m s) := by
        rw [k_X10_tokenize_15 _ _ _ _ _ B]
        by_cases z : fI s 1722504876 = 0
        · rw [if_pos z]
        · rw [if_neg z, k_X10_tokenize_22 _ _ _ _ _ B (by rw [w32_id (by omega) (by omega)]; constructor <;> omega), w32_id (by omega) (by omega), if_neg (nb (by omega))]
      rw [e1, k_X10_tokenize_38 _ _ _ _ _ B ⟨h0, by omega⟩]
      by_cases r : aI s 1 p = 32
      · rw [if_pos r, if_pos r, k_X10_tokenize_49 _ _ _ _ _ B, w32_id (by omega) (by omega)]
        exact ih s (p + 1) t (by omega) (by omega) (by omega) n0 (by omega) nb
      · rw [if_neg r, if_neg r, k_X10_tokenize_55 _ _ _ _ _ B, f_oneToken d B t C h0 q ⟨n0, by omega⟩, bnd_v, pu_s, k_X10_tokenize_60 _ _ _ _ _ _ B]
        have hx := lex_next q (by have := t.2 p h0 q; omega : 0 ≤ aI s 1 p)
        generalize lexAt (aI s 1) (fI s 1688950444) p = e at hx
        obtain ⟨a1, a2, a3, a4, a5, a6, a7, a8, a9⟩ := tk1_rd (s := s) (e.1, p, e.2.1, e.2.2.1)
        simp only at a1 a2 a3 a4 a5 a6 a7 a8 a9
        have hL : fI (tk1 s e.1 p e.2.1 e.2.2.1) 1688950444 = fI s 1688950444 := a1 _ (by decide)
        have hT : aI (tk1 s e.1 p e.2.1 e.2.2.1) 1 = aI s 1 := funext fun j => a4 1 j (by omega)
        have t' : TB (tk1 s e.1 p e.2.1 e.2.2.1) := by
          unfold TB
          rw [hL, hT]
          exact t
        by_cases u : e.1 = 6
        · rw [if_pos u]
          have e2 : FA (F (d + 2)) 37837489 7 [vR m, vI e.2.2.2] [] (MH b m (tk1 s e.1 p e.2.1 e.2.2.1)) = FA (F (d + 2)) 37837489 64 [vR m, vI e.2.2.2] [] (MH b m (tk1 s e.1 p e.2.1 e.2.2.1)) := by
            rw [k_X10_tokenize_7 _ _ _ _ _ B]
            by_cases z : e.2.2.2 < fI (tk1 s e.1 p e.2.1 e.2.2.1) 1688950444
            · have e3 : fI (tk1 s e.1 p e.2.1 e.2.2.1) 1722504876 - 1 = fI s 1722504876 := by rw [a2]; omega
              rw [if_pos z, k_X10_tokenize_15 _ _ _ _ _ B, if_neg (by rw [a2]; omega), k_X10_tokenize_22 _ _ _ _ _ B (by rw [e3, w32_id (by omega) (by omega)]; constructor <;> omega), e3, w32_id (by omega) (by omega), if_pos (by rw [a6]; exact u)]
            · rw [if_neg z]
          rw [e2, k_X10_tokenize_64 _ _ _ _ _ B, f_token (d + 1) B (by rw [a2]; constructor <;> omega), bnd_v, pu_n, k_X10_tokenize_75 _ _ _ _ _ B, hL, u]
          rfl
        · rw [if_neg u, ih _ e.2.2.2 t' (by omega) (by rw [hL]; omega) (by rw [hL]; omega) (by rw [a2]; omega) (by rw [a2]; omega) (fun _ => by
            rw [a2, show fI s 1722504876 + 1 - 1 = fI s 1722504876 by omega]
            show aI (tk1 s e.1 p e.2.1 e.2.2.1) 2 _ ≠ 6
            rw [a6]; exact u), hL, hT]
          rfl
    · rw [if_neg q, if_neg q, k_X10_tokenize_64 _ _ _ _ _ B, f_token (d + 1) B ⟨n0, by omega⟩, bnd_v, pu_n, k_X10_tokenize_75 _ _ _ _ _ B]
      rfl
/-- the tokens of a text -/
def TOK (s : MS) : List TokE := toks (aI s 1) (fI s 1688950444) 482 0
theorem f_tokenize (d : Nat) (B : MB b m) (C : ConH b) {s : MS} (t : TB s) : F (d + 3) 37837489 [vR m] (MH b m s) = some (.inl none, MH b m (tokS (uI s 1722504876 0) (TOK s))) := by
  rw [e_X10_tokenize, k_X10_tokenize_0 _ _ _ _ _ B]
  have := lp_T d B C 482 (uI s 1722504876 0) 0 (by unfold TB; exact t) (by omega) (by show (0 : Int) ≤ fI s 1688950444; exact t.1.1) (by show (fI s 1688950444 - 0).toNat < 482; have := t.1; omega) (by rw [fI_uI, if_pos rfl]; omega) (by rw [fI_uI, if_pos rfl]; omega) (fun z => by
    have e : fI (uI s 1722504876 0) 1722504876 = 0 := by rw [fI_uI, if_pos rfl]
    omega)
  rw [this]
  rfl
end M2
