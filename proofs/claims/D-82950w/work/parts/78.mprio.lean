/-! THE MODEL's PARSER: priorities -/
set_option maxRecDepth 100000
/-- what PRIO tells of a word, from i on: the model's way -/
abbrev pcM (l : List TokE) (w : Int) (i : Nat) : Prop := (kd l i = 1 ∧ sI l i = 1) ∧ kd l (i + 1) = 2 ∧ wd l (i + 1) = w ∧ (kd l (i + 2) = 5 ∧ sI l (i + 2) = 61) ∧ kd l (i + 3) = 4
def pfM (l : List TokE) (w : Int) : Nat → Nat → Int
  | 0, _ => 5
  | n + 1, i => if pcM l w i then sI l (i + 3) else pfM l w n (i + 1)
def prM (l : List TokE) (k : Nat) : Int := if kd l k = 2 then pfM l (wd l k) (l.length - 3) 0 else psn (sI l k)
/-- every PRIO is as it should be -/
def PG (l : List TokE) : Prop := ∀ (i : Nat) (w : Int), i + 3 < xc l → pcX l w i → kd l (i + 2) = 5 ∧ sI l (i + 2) = 61
theorem pf_eq {l : List TokE} {w : Int} (G : PG l) (hl : TLs l 0) : ∀ (n i : Nat), i + n = xc l - 3 → ∀ n', n' = l.length - 3 - i → pfM l w n' i = pfX l w n i := by
  intro n
  induction n with
  | zero =>
    intro i e n' e'
    rcases hl.2.2.2 with ⟨g1, g2⟩ | ⟨g1, g2, g3⟩
    · have : n' = 0 := by omega
      subst this
      rfl
    · have h1 : n' = 0 ∨ n' = 1 := by omega
      rcases h1 with h1 | h1
      · subst h1; rfl
      · subst h1
        unfold pfM
        have h4 : kd l (i + 3) = 0 := by rw [show i + 3 = xc l by omega]; exact g3
        rw [if_neg (fun z => by have := z.2.2.2.2; rw [h4] at this; exact absurd this (by decide))]
        rfl
  | succ n ih =>
    intro i e n' e'
    obtain ⟨n2, rfl⟩ : ∃ n2, n' = n2 + 1 := ⟨n' - 1, by have := hl.1.2; omega⟩
    have ih' := ih (i + 1) (by omega) n2 (by omega)
    unfold pfM pfX
    by_cases z : pcX l w i
    · rw [if_pos ⟨z.1, z.2.1, z.2.2.1, G i w (by omega) z, z.2.2.2⟩, if_pos z]
    · rw [if_neg (fun y => z ⟨y.1, y.2.1, y.2.2.1, y.2.2.2.2⟩), if_neg z, ih']
theorem pr_eq {l : List TokE} {k : Nat} (G : PG l) (hl : TLs l 0) : prM l k = prX l k := by
  unfold prM prX
  by_cases q : kd l k = 2
  · rw [if_pos q, if_pos q]
    exact pf_eq G hl (xc l - 3) 0 (by omega) _ (by omega)
  · rw [if_neg q, if_neg q]
section MP
variable {b : PH} {m : Nat} {s : MS} {l : List TokE} {t k : Nat}
theorem mf_priority (d : Nat) (B : MB b m) (T : TM s l) (hk : k < l.length) (hq : isDy l k) : F (d + 1) 53303986 [vR m, vI k] (MH b m s) = some (.inl (some (vI (prM l k))), MH b m s) := by
  have hb := T.in' hk
  obtain ⟨e1, e2, e3, e4⟩ := T.at' hk
  have hl := T.2.1
  have ht := T.1
  rw [e_X10_priority, k_X10_priority_0 _ _ _ _ _ _ B hb, e1]
  unfold prM
  by_cases q : kd l k = 2
  · clear hq
    rw [if_pos q, if_pos q, k_X10_priority_10 _ _ _ _ _ _ B]
    have loop : ∀ n i : Nat, n = l.length - 3 - i → i ≤ l.length → FA (F d) 53303986 12 [vR m, vI k, vI i] [] (MH b m s) = some (.inl (some (vI (pfM l (wd l k) n i))), MH b m s) := by
      intro n
      induction n with
      | zero =>
        intro i e hi
        rw [k_X10_priority_12 _ _ _ _ _ _ B, ht, w32_id (by omega) (by omega), if_neg (by omega), k_X10_priority_124 _ _ _ _ _ _ B]
        rfl
      | succ n ih =>
        intro i e hi
        have i6 : i < 1000000 := by omega
        have a3 : (-2147483648 : Int) ≤ (i : Int) + 3 := by omega
        have b3 : (i : Int) + 3 < 2147483648 := by omega
        have a2 : (-2147483648 : Int) ≤ (i : Int) + 2 := by omega
        have b2 : (i : Int) + 2 < 2147483648 := by omega
        have c3 : (i : Int) + 3 = ((i + 3 : Nat) : Int) := by omega
        have c2 : (i : Int) + 2 = ((i + 2 : Nat) : Int) := by omega
        have g0 := T.in' (k := i) (by omega)
        have g1 := T.in' (k := i + 1) (by omega)
        have g2 := T.in' (k := i + 2) (by omega)
        have g3 := T.in' (k := i + 3) (by omega)
        obtain ⟨f01, f02, f03, f04⟩ := T.at' (k := i) (by omega)
        obtain ⟨f11, f12, f13, f14⟩ := T.at' (k := i + 1) (by omega)
        obtain ⟨f21, f22, f23, f24⟩ := T.at' (k := i + 2) (by omega)
        obtain ⟨f31, f32, f33, f34⟩ := T.at' (k := i + 3) (by omega)
        have ih := ih (i + 1) (by omega) (by omega)
        have no : ¬ pcM l (wd l k) i → FA (F d) 53303986 118 [vR m, vI k, vI i] [] (MH b m s) = some (.inl (some (vI (pfM l (wd l k) (n + 1) i))), MH b m s) := by
          intro z
          rw [k_X10_priority_118 _ _ _ _ _ _ B, w32_1 i6, ih]
          conv => rhs; unfold pfM
          rw [if_neg z]
        rw [k_X10_priority_12 _ _ _ _ _ _ B, ht, w32_id a3 b3, if_pos (by omega), k_X10_priority_22 _ _ _ _ _ _ B g0, f01]
        by_cases y1 : kd l i = 1
        · rw [if_pos y1, k_X10_priority_32 _ _ _ _ _ _ B g0, f03]
          by_cases y2 : sI l i = 1
          · rw [if_pos y2, k_X10_priority_42 _ _ _ _ _ _ B (by rw [w32_1 i6]; exact g1), w32_1 i6, f11]
            by_cases y3 : kd l (i + 1) = 2
            · rw [if_pos y3, k_X10_priority_54 _ _ _ _ _ _ B (by rw [w32_1 i6]; exact g1) hb, w32_1 i6, f14, e4]
              by_cases y4 : wd l (i + 1) = wd l k
              · rw [if_pos ((lcm_eq _ _).mpr y4), k_X10_priority_72 _ _ _ _ _ _ B (by rw [w32_id a2 b2, c2]; exact g2), w32_id a2 b2, c2, f21]
                by_cases y5 : kd l (i + 2) = 5
                · rw [if_pos y5, k_X10_priority_84 _ _ _ _ _ _ B (by rw [w32_id a2 b2, c2]; exact g2), w32_id a2 b2, c2, f23]
                  by_cases y6 : sI l (i + 2) = 61
                  · rw [if_pos y6, k_X10_priority_97 _ _ _ _ _ _ B (by rw [w32_id a3 b3, c3]; exact g3), w32_id a3 b3, c3, f31]
                    by_cases y7 : kd l (i + 3) = 4
                    · rw [if_pos y7, k_X10_priority_109 _ _ _ _ _ _ B (by rw [w32_id a3 b3, c3]; exact g3), w32_id a3 b3, c3, f33]
                      unfold pfM
                      rw [if_pos ⟨⟨y1, y2⟩, y3, y4, ⟨y5, y6⟩, y7⟩]
                    · rw [if_neg y7, no (fun z => y7 z.2.2.2.2)]
                  · rw [if_neg y6, no (fun z => y6 z.2.2.2.1.2)]
                · rw [if_neg y5, no (fun z => y5 z.2.2.2.1.1)]
              · rw [if_neg (fun z => y4 ((lcm_eq _ _).mp z)), no (fun z => y4 z.2.2.1)]
            · rw [if_neg y3, no (fun z => y3 z.2.1)]
          · rw [if_neg y2, no (fun z => y2 z.1.2)]
        · rw [if_neg y1, no (fun z => y1 z.1.1)]
    exact loop (l.length - 3) 0 (by omega) (by omega)
  · have q5 : sI l k ∈ snL ∧ sI l k ≠ 126 := by
      rcases hq with ⟨h1 | h1, h2 | h2⟩
      · exact absurd h2 q
      · exact ⟨h1.2, h2⟩
      · exact absurd h2 q
      · exact absurd h1.1 q
    clear hq
    rw [if_neg q, if_neg q, k_X10_priority_126 _ _ _ _ _ _ B hb, e3]
    have := sn_in.mp q5.1
    have q6 := q5.2
    generalize sI l k = c at *
    rcases this with z | z | z | z | z | z | z | z | z | z | z | z | z | z <;> subst z <;> first | exact absurd rfl q6 | (simp only [if_true, if_false, Int.reduceEq]; first | rw [k_X10_priority_224 _ _ _ _ _ _ B] | rw [k_X10_priority_226 _ _ _ _ _ _ B] | rw [k_X10_priority_228 _ _ _ _ _ _ B] | rw [k_X10_priority_230 _ _ _ _ _ _ B] | rw [k_X10_priority_232 _ _ _ _ _ _ B] | rw [k_X10_priority_235 _ _ _ _ _ _ B]) <;> rfl
end MP
