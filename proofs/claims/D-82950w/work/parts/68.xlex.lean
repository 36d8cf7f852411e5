/-! x's TOKENS: the whole text -/
set_option maxRecDepth 100000
/-- how many tokens x has of the model's -/
def xc : List TokE → Nat
  | [] => 0
  | e :: l => if e.1 = 6 then 1 else xc l + 1
theorem xc_le : ∀ l : List TokE, xc l ≤ l.length
  | [] => Nat.le_refl _
  | e :: l => by
    unfold xc
    have := xc_le l
    split <;> (simp only [List.length_cons]; omega)
abbrev tE (l : List TokE) (i : Nat) : TokE := l.getD i (0, 0, 0, 0)
/-- x's rows hold these tokens from n on -/
def XT (h : PH) (K : Int → Nat) (P W : Int → Int) (n : Int) (l : List TokE) : Prop := ∀ i : Nat, i < xc l → K (n + i) = gR h (xkF (tE l i).1 (tE l i).2.2.1) 0 ∧ P (n + i) = (tE l i).2.1 ∧ W (n + i) = xwo (tE l i).1 (tE l i).2.2.1 (tE l i).2.2.2
section XR
variable {h : PH} {lx kp kd pl wo tx : Nat} {T : Int → Int} {L : Int}
theorem LH_id {n : Int} : LH h lx kd pl wo (eR h kd) (eI h pl) (eJ h wo) n = pI h 344263188 lx n := by
  have e1 : (fun r j => if r = pl then eI h pl j else eI h r j) = eI h := by
    funext r j
    by_cases z : r = pl
    · rw [if_pos z, z]
    · rw [if_neg z]
  have e2 : (fun r j => if r = wo then eJ h wo j else eJ h r j) = eJ h := by
    funext r j
    by_cases z : r = wo
    · rw [if_pos z, z]
    · rw [if_neg z]
  have e3 : (fun r j => if r = kd then eR h kd j else eR h r j) = eR h := by
    funext r j
    by_cases z : r = kd
    · rw [if_pos z, z]
    · rw [if_neg z]
  unfold LH
  rw [e1, e2, e3]
  rfl
theorem xkF_0 (is : Int) : xkF 0 is = 3598712834 := rfl
theorem xkF_6 (is : Int) : xkF 6 is = 3607101442 := rfl
theorem xkF_n {k is : Int} (h0 : k ≠ 0) (h6 : k ≠ 6) : xkF k is ≠ 3598712834 ∧ xkF k is ≠ 3607101442 := by
  unfold xkF
  rw [if_neg h0, if_neg h6]
  repeat' split
  all_goals decide
theorem lex_k0 {p : Int} : (lexAt T L p).1 ≠ 0 := by
  unfold lexAt
  repeat' split
  all_goals simp
/-- stops at an end or a wrong one -/
theorem rd_stop (cf : Nat → List PV → PH → Rs) (B : LexB h lx kp kd pl wo tx T L) {K : Int → Nat} {P W : Int → Int} {n p q a4 : Int} (hn0 : 0 ≤ n) (hn1 : n < 482) (hK : K n = gR h 3598712834 0 ∨ K n = gR h 3607101442 0) : FA cf 12068947 56 [vR lx, vR tx, vI L, vI p, vI a4] [vI q] (LH h lx kd pl wo K P W n) = some (.inl none, LH h lx kd pl wo K P W (n + 1)) := by
  have k1 := B.2.2.1.1
  have g : (inT 71 77 (hc (LH h lx kd pl wo K P W n) kd) ∨ inT 71 77 (kc (LH h lx kd pl wo K P W n) kd)) ∧ inA n (hl (LH h lx kd pl wo K P W n) kd) := ⟨Or.inl (by rw [hc_LH, B.2.2.1.2.1]; decide), by rw [hl_LH, B.2.2.1.2.2]; exact ⟨hn0, hn1⟩⟩
  have fin : FA cf 12068947 91 [vR lx, vR tx, vI L, vI q, vI a4] [] (LH h lx kd pl wo K P W n) = some (.inl none, LH h lx kd pl wo K P W (n + 1)) := by
    rw [c_X2_read_91, c_X2_read_92 _ _ _ _ _ _ _ _ B.g, gI_LHc, pI_LH, c_X2_read_20, if_pos rfl, c_X2_read_107, w32_id (by omega) (by omega)]
  rw [c_X2_read_56 _ _ _ _ _ _ _ _ B.g (by rw [gR_LH, k1, gI_LHc]; exact g)]
  simp only [gR_LH, k1, gI_LHc, eR_LHk]
  by_cases z : K n = gR h 3598712834 0
  · rw [if_pos z, fin]
  · rw [if_neg z, c_X2_read_72 _ _ _ _ _ _ _ B.g (by rw [gR_LH, k1, gI_LHc]; exact g)]
    simp only [gR_LH, k1, gI_LHc, eR_LHk]
    rw [if_pos (hK.resolve_left z), fin]
theorem rd_go (cf : Nat → List PV → PH → Rs) (B : LexB h lx kp kd pl wo tx T L) {K : Int → Nat} {P W : Int → Int} {n p q a4 : Int} (hn0 : 0 ≤ n) (hn1 : n < 482) (hK : K n ≠ gR h 3598712834 0) (hK2 : K n ≠ gR h 3607101442 0) : FA cf 12068947 56 [vR lx, vR tx, vI L, vI p, vI a4] [vI q] (LH h lx kd pl wo K P W n) = FA cf 12068947 25 [vR lx, vR tx, vI L, vI q, vI 1] [] (LH h lx kd pl wo K P W (n + 1)) := by
  have k1 := B.2.2.1.1
  have g : (inT 71 77 (hc (LH h lx kd pl wo K P W n) kd) ∨ inT 71 77 (kc (LH h lx kd pl wo K P W n) kd)) ∧ inA n (hl (LH h lx kd pl wo K P W n) kd) := ⟨Or.inl (by rw [hc_LH, B.2.2.1.2.1]; decide), by rw [hl_LH, B.2.2.1.2.2]; exact ⟨hn0, hn1⟩⟩
  rw [c_X2_read_56 _ _ _ _ _ _ _ _ B.g (by rw [gR_LH, k1, gI_LHc]; exact g)]
  simp only [gR_LH, k1, gI_LHc, eR_LHk]
  rw [if_neg hK, c_X2_read_72 _ _ _ _ _ _ _ B.g (by rw [gR_LH, k1, gI_LHc]; exact g)]
  simp only [gR_LH, k1, gI_LHc, eR_LHk]
  rw [if_neg hK2, c_X2_read_87, c_X2_read_92 _ _ _ _ _ _ _ _ B.g, gI_LHc, pI_LH, c_X2_read_20, if_neg (by decide), w32_id (by omega) (by omega)]
theorem rd_loop (d : Nat) (B : LexB h lx kp kd pl wo tx T L) : ∀ (k : Nat) (p : Int) (K : Int → Nat) (P W : Int → Int) (n : Int), 0 ≤ p → p ≤ L → (L - p).toNat < k → 0 ≤ n → n ≤ p → ∃ K' P' W', FA (F (d + 3)) 12068947 25 [vR lx, vR tx, vI L, vI p, vI 1] [] (LH h lx kd pl wo K P W n) = some (.inl none, LH h lx kd pl wo K' P' W' (n + xc (toks T L k p))) ∧ XT h K' P' W' n (toks T L k p) ∧ ∀ j, j < n → K' j = K j ∧ P' j = P j ∧ W' j = W j := by
  have hL0 : 0 ≤ L := B.2.2.2.2.2.1.2.2.2.2.1
  have hL : L ≤ 480 := B.2.2.2.2.2.1.2.2.2.2.2.1
  have hb := B.2.2.2.2.2.1.2.2.2.2.2.2
  have C : ConH h := B.2.2.2.2.2.2
  have p1 := B.2.2.2.1.1
  intro k
  induction k with
  | zero => intro p K P W n h0 h1 hk; omega
  | succ k ih =>
    intro p K P W n h0 h1 hk n0 n1
    have gp : (hc (LH h lx kd pl wo K P W n) pl) = 65 ∧ inA n (hl (LH h lx kd pl wo K P W n) pl) := ⟨B.2.2.2.1.2.1, by rw [hl_LH, B.2.2.2.1.2.2]; exact ⟨n0, by omega⟩⟩
    rw [c_X2_read_25 _ _ _ _ _ _ _ B.g, f_at (d + 2) B h0, bnd_v, pu_s, c_X2_read_30]
    unfold toks
    by_cases q : p < L
    · have ea : atX T L p = T p := if_pos q
      rw [ea, if_pos q]
      by_cases r : T p = 32
      · rw [if_pos r, if_pos r, c_X2_read_35, w32_id (by omega) (by omega)]
        exact ih (p + 1) K P W n (by omega) (by omega) (by omega) n0 (by omega)
      · rw [if_neg r, if_neg r, c_X2_read_41 _ _ _ _ _ _ _ B.g (by rw [gR_LH, p1, gI_LHc]; exact gp), gR_LH, p1, gI_LHc, qI_LH, f_xtoken d B n0 (by omega) h0 q, bnd_v, pu_s]
        have hx := lex_next q (by have := hb p h0 q; omega : 0 ≤ T p)
        have h0k := lex_k0 (T := T) (L := L) (p := p)
        generalize lexAt T L p = e at hx h0k
        by_cases u : e.1 = 6
        · rw [if_pos u, rd_stop _ B n0 (by omega) (Or.inr (by rw [ufn_s, u, xkF_6]))]
          refine ⟨_, _, _, by rw [if_pos u]; unfold xc; rw [if_pos rfl]; rfl, fun i hi => ?_, fun j hj => ?_⟩
          · rw [if_pos u] at hi ⊢
            unfold xc at hi
            rw [if_pos rfl] at hi
            have : i = 0 := by omega
            subst this
            rw [show n + ((0 : Nat) : Int) = n by omega, ufn_s, ufn_s, ufn_s, u]
            exact ⟨rfl, rfl, rfl⟩
          · rw [ufn_o (by omega), ufn_o (by omega), ufn_o (by omega)]; exact ⟨rfl, rfl, rfl⟩
        · have hkF := xkF_n (is := e.2.1) h0k u
          rw [if_neg u, rd_go _ B n0 (by omega) (by rw [ufn_s]; exact tk_ne C (xkF_in _ _) (by decide) hkF.1) (by rw [ufn_s]; exact tk_ne C (xkF_in _ _) (by decide) hkF.2)]
          obtain ⟨K', P', W', e1, e2, e3⟩ := ih e.2.2.2 (ufn K n (gR h (xkF e.1 e.2.1) 0)) (ufn P n p) (ufn W n (xwo e.1 e.2.1 e.2.2.1)) (n + 1) (by omega) (by omega) (by omega) (by omega) (by omega)
          refine ⟨K', P', W', ?_, fun i hi => ?_, fun j hj => ?_⟩
          · rw [e1, if_neg u]
            have : xc ((e.1, p, e.2.1, e.2.2.1) :: toks T L k e.2.2.2) = xc (toks T L k e.2.2.2) + 1 := if_neg u
            rw [this]
            have : n + 1 + (xc (toks T L k e.2.2.2) : Nat) = n + ((xc (toks T L k e.2.2.2) + 1 : Nat) : Int) := by omega
            rw [this]
          · rw [if_neg u] at hi ⊢
            unfold xc at hi
            rw [if_neg u] at hi
            rcases i with _ | i
            · obtain ⟨a1, a2, a3⟩ := e3 n (by omega)
              rw [show n + ((0 : Nat) : Int) = n by omega, a1, a2, a3, ufn_s, ufn_s, ufn_s]
              exact ⟨rfl, rfl, rfl⟩
            · have := e2 i (by omega)
              rw [show n + 1 + (i : Int) = n + ((i + 1 : Nat) : Int) by omega] at this
              exact this
          · obtain ⟨a1, a2, a3⟩ := e3 j (by omega)
            rw [a1, a2, a3, ufn_o (by omega), ufn_o (by omega), ufn_o (by omega)]
            exact ⟨rfl, rfl, rfl⟩
    · have ea : atX T L p = 0 := if_neg q
      have ep : p = L := by omega
      rw [ea, if_neg (by decide), if_neg q, c_X2_read_41 _ _ _ _ _ _ _ B.g (by rw [gR_LH, p1, gI_LHc]; exact gp), gR_LH, p1, gI_LHc, qI_LH, ep, f_xtokenE d B n0 (by omega) hL0, bnd_v, pu_s, rd_stop _ B n0 (by omega) (Or.inl (by rw [ufn_s]))]
      refine ⟨_, _, _, rfl, fun i hi => ?_, fun j hj => ?_⟩
      · have : i = 0 := by
          have : xc [(0, L, 0, 0)] = 1 := rfl
          omega
        subst this
        rw [show n + ((0 : Nat) : Int) = n by omega, ufn_s, ufn_s, ufn_s]
        exact ⟨rfl, rfl, rfl⟩
      · rw [ufn_o (by omega), ufn_o (by omega), ufn_o (by omega)]; exact ⟨rfl, rfl, rfl⟩
/-- what is fixed of the lexer, without the text -/
def LexB0 (h : PH) (lx kp kd pl wo : Nat) : Prop :=
  hc h lx = 5 ∧ (gR h 302320150 lx = kp ∧ hc h kp = 66 ∧ hl h kp = 48 ∧ kp ≠ wo ∧ gI h 310708756 lx = 41 ∧ ∀ k : Nat, k < 41 → eJ h kp k = KXL.getD k 0) ∧
  (gR h 319097366 lx = kd ∧ hc h kd = 73 ∧ hl h kd = 482) ∧ (gR h 327485974 lx = pl ∧ hc h pl = 65 ∧ hl h pl = 482) ∧ (gR h 335874582 lx = wo ∧ hc h wo = 66 ∧ hl h wo = 482)
theorem lx_keep (C : ConH h) (e : hc h lx = 5) {v : Nat} {L : Int} : ConH (pI (pR h 352651798 lx v) 361040404 lx L) := by
  have a : Kept h (pR h 352651798 lx v) := frm_pR (by rw [e]; rfl)
  have c : Kept (pR h 352651798 lx v) (pI (pR h 352651798 lx v) 361040404 lx L) := frm_pI (by show wC _ (hc h lx) = true; rw [e]; rfl)
  exact C.keep (Frm.tr a c)
theorem f_xread (d : Nat) (C : ConH h) (B : LexB0 h lx kp kd pl wo) (ht : hc h tx = 67 ∧ hl h tx = 480) (hL : 0 ≤ L ∧ L ≤ 480) (hT : ∀ j : Int, 0 ≤ j → j < L → eI h tx j = w8 (T j) ∧ 1 ≤ T j ∧ T j < 256) : ∃ K P W, F (d + 4) 12068947 [vR lx, vR tx, vI L] h = some (.inl none, LH (pI (pR h 352651798 lx tx) 361040404 lx L) lx kd pl wo K P W (xc (toks T L 482 0))) ∧ XT h K P W 0 (toks T L 482 0) := by
  have B1 : LexB (pI (pR h 352651798 lx tx) 361040404 lx L) lx kp kd pl wo tx T L := by
    obtain ⟨b1, ⟨c1, c2, c3, c4, c5, c6⟩, b3, b4, b5⟩ := B
    have gr : ∀ f r, f ≠ 352651798 → gR (pI (pR h 352651798 lx tx) 361040404 lx L) f r = gR h f r := fun f r hf => if_neg (fun z => hf z.1)
    refine ⟨b1, ⟨(gr _ _ (by decide)).trans c1, c2, c3, c4, ?_, c6⟩, ⟨(gr _ _ (by decide)).trans b3.1, b3.2⟩, ⟨(gr _ _ (by decide)).trans b4.1, b4.2⟩, ⟨(gr _ _ (by decide)).trans b5.1, b5.2⟩, ⟨if_pos ⟨rfl, rfl⟩, gI_pI, ht.1, ht.2, hL.1, hL.2, hT⟩, lx_keep C b1⟩
    rw [gI_pIo (fun z => absurd z.1 (by decide))]
    exact c5
  have e0 : pI (pI (pR h 352651798 lx tx) 361040404 lx L) 344263188 lx 0 = LH (pI (pR h 352651798 lx tx) 361040404 lx L) lx kd pl wo (eR h kd) (eI h pl) (eJ h wo) 0 := LH_id.symm
  obtain ⟨K, P, W, e1, e2, e3⟩ := rd_loop d B1 482 0 (eR h kd) (eI h pl) (eJ h wo) 0 (by omega) hL.1 (by omega) (by omega) (by omega)
  refine ⟨K, P, W, ?_, fun i hi => ?_⟩
  · rw [e_X2_read, c_X2_read_0 _ _ _ _ _ _ _ (i11 B.1), e0, c_X2_read_20, if_neg (by decide), e1]
    rw [show (0 : Int) + (xc (toks T L 482 0) : Nat) = (xc (toks T L 482 0) : Nat) by omega]
  · have := e2 i hi
    have hz : lx ≠ 0 := fun z => by have := B.1; rw [z, C.1.1] at this; exact absurd this (by decide)
    have e : gR (pI (pR h 352651798 lx tx) 361040404 lx L) (xkF (tE (toks T L 482 0) i).1 (tE (toks T L 482 0) i).2.2.1) 0 = gR h (xkF (tE (toks T L 482 0) i).1 (tE (toks T L 482 0) i).2.2.1) 0 := if_neg (fun z => hz z.2.symm)
    rw [e] at this
    exact this
end XR
