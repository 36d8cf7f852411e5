/-! LISTS: what ArrayList's methods do -/
set_option maxRecDepth 100000
theorem ishr_1 {x : Int} (h0 : 0 ≤ x) (h1 : x < 2147483648) : ishr x 1 = x / 2 := by
  have e : ishr x 1 = ((BitVec.ofInt 32 x).sshiftRight 1).toInt := rfl
  rw [e, BitVec.toInt_sshiftRight, BitVec.toInt_ofInt, Int.bmod_def, Int.shiftRight_eq_div_pow]
  have : x % 4294967296 = x := by omega
  simp only [Nat.reducePow]
  omega
section LI
variable {h h1 : PH} {r v : Nat} {l : List Nat} {W : Nat → Prop} {u : Nat}
theorem Ev.eR' {a w : Nat} {i : Int} (e : Ev W u h h1) (ha : ∀ q, q < hn h → ¬ W q → hc h q ≠ 71 → q ≠ a) (ht : mdA (hc h1 a) = true) (h71 : ∀ q, q < hn h → ¬ W q → hc h q = 48 → gR h eD q ≠ a) : Ev W u h (qR h1 a i w) := by
  obtain ⟨a1, a2, ⟨a3, a3'⟩, a4, a5⟩ := e
  refine ⟨a1, fun q hq hw => ?_, ⟨a3.keep (frm_qR ht), a3'⟩, a4, a5⟩
  have o := a2 q hq hw
  refine ⟨fun z => ?_, fun z j => (if_neg (fun y => h71 q hq hw z y.1)).trans (o.2 z j)⟩
  have s := o.1 z
  exact ⟨s.1, s.2.1, s.2.2.1, s.2.2.2.1, s.2.2.2.2.1, s.2.2.2.2.2.1, s.2.2.2.2.2.2.1, fun g => (if_neg (fun y => ha q hq hw z y.1)).trans (s.2.2.2.2.2.2.2 g)⟩
/-- a list gets an array -/
theorem Ev.cD {w : Nat} (a : Ev W u h h1) (hr : W r ∨ hn h ≤ r) (ht : hc h1 r = 48) (hw : w < hn h1 ∧ ((hc h1 w = 71 ∧ ∀ r', hc h1 r' = 48 → gR h1 eD r' = w → r' = r) ∨ (kc h1 w = 72 ∧ hl h1 w = 0))) : Ev W u h (pR h1 eD r w) := by
  obtain ⟨a1, a2, ⟨a3, a3'⟩, a4, a5⟩ := a
  have r0 : r ≠ 0 := fun z => by rw [z, a3.1.1] at ht; exact absurd ht (by decide)
  have hk : ∀ q, kc (pR h1 eD r w) q = kc h1 q := fun q => if_neg (fun z => r0 z.2.symm)
  refine ⟨a1, fun q hq hwq => ?_, ⟨a3.keep (frm_pR (by rw [ht]; rfl)), fun q hq => ?_⟩, a4, a5⟩
  · have o := a2 q hq hwq
    have hne : q ≠ r := fun z => by
      rcases hr with y | y
      · exact hwq (z ▸ y)
      · omega
    refine ⟨fun z => ?_, o.2⟩
    have s := o.1 z
    exact ⟨s.1, s.2.1, s.2.2.1, s.2.2.2.1, fun g => (if_neg (fun z => hne z.2)).trans (s.2.2.2.2.1 g), s.2.2.2.2.2⟩
  · have hq : hc h1 q = 48 := hq
    by_cases z : q = r
    · subst z
      have e : gR (pR h1 eD q w) eD q = w := if_pos ⟨rfl, rfl⟩
      rw [e]
      refine Or.inr ⟨hw.1, ?_⟩
      rw [hk]
      rcases hw.2 with ⟨y1, y2⟩ | y
      · refine Or.inl ⟨y1, fun r' hr' e' => ?_⟩
        by_cases x : r' = q
        · exact x
        · have e2 : gR (pR h1 eD q w) eD r' = gR h1 eD r' := if_neg (fun z => x z.2)
          rw [e2] at e'
          exact y2 r' hr' e'
      · exact Or.inr y
    · have e : gR (pR h1 eD r w) eD q = gR h1 eD q := if_neg (fun y => z y.2)
      rw [e]
      rcases a3' q hq with y | ⟨y0, y⟩
      · exact Or.inl y
      · refine Or.inr ⟨y0, ?_⟩
        rw [hk]
        rcases y with ⟨y1, y2⟩ | y
        · refine Or.inl ⟨y1, fun r' hr' e' => ?_⟩
          by_cases x : r' = r
          · subst x
            have e2 : gR (pR h1 eD r' w) eD r' = w := if_pos ⟨rfl, rfl⟩
            rw [e2] at e'
            rcases hw.2 with ⟨x1, x2⟩ | ⟨x1, x2⟩
            · exact absurd (x2 q hq e'.symm) z
            · rw [← e'] at y1
              have := (a3.1.2.2.2 w (by rw [x1]; decide)).2
              rw [y1] at this
              exact absurd this (by decide)
          · have e2 : gR (pR h1 eD r w) eD r' = gR h1 eD r' := if_neg (fun z => x z.2)
            rw [e2] at e'
            exact y2 r' hr' e'
        · exact Or.inr y
theorem Ev.mC {a b : Nat} {i j n : Int} (I : HI h) (e : Ev W u h h1) (hb : hn h ≤ b) (ht : mdA (hc h1 b) = true) : Ev W u h (aC h1 a i b j n) := by
  obtain ⟨a1, a2, ⟨a3, a3'⟩, a4, a5⟩ := e
  refine ⟨a1, fun q hq hw => ?_, ⟨a3.keep (frm_aC Frm.rf (Or.inr ht)), a3'⟩, a4, a5⟩
  have o := a2 q hq hw
  have hne : q ≠ b := by omega
  refine ⟨fun z => ?_, fun z j' => ?_⟩
  · have s := o.1 z
    exact ⟨s.1, s.2.1, s.2.2.1, s.2.2.2.1, s.2.2.2.2.1, fun g => (if_neg (fun y => hne y.1)).trans (s.2.2.2.2.2.1 g), fun g => (if_neg (fun y => hne y.1)).trans (s.2.2.2.2.2.2.1 g), fun g => (if_neg (fun y => hne y.1)).trans (s.2.2.2.2.2.2.2 g)⟩
  · have hlt : gR h eD q ≠ b := by
      have := I.1.1.2.1
      rcases I.2 q z with x | ⟨x, -⟩ <;> omega
    exact (if_neg (fun y => hlt y.1)).trans (o.2 z j')
theorem f_absinit (d : Nat) (hr : hc h r = 48) : F (d + 2) 169181953 [vR r] h = some (.inl none, pI h eM r 0) := by
  rw [e_J5_init, c_J5_init_0 _ _ _ (i11 hr), e_J4_init, c_J4_init_0 _ _ _ (by omega), bnd_v, pu_n, c_J5_init_4 _ _ _ (i11 hr)]
theorem f_ainit0 (d : Nat) (hr : hc h r = 48) : F (d + 3) 164725505 [vR r] h = some (.inl none, pR (pI h eM r 0) eD r (gR h 4034920450 0)) := by
  rw [e_J6_init, c_J6_init_0 _ _ _ (i11 hr), f_absinit d hr, bnd_v, pu_n, c_J6_init_4 _ _ _ (i11 (show hc (pI h eM r 0) r = 48 from hr))]
  rfl
theorem f_ainitE (d : Nat) (hr : hc h r = 48) : F (d + 3) 164987650 [vR r, vI 0] h = some (.inl none, pR (pI h eM r 0) eD r (gR h 4043309058 0)) := by
  rw [e_J6_init_2, c_J6_init_2_0 _ _ _ _ (i11 hr), f_absinit d hr, bnd_v, pu_n, c_J6_init_2_4, if_neg (by decide), c_J6_init_2_19, if_pos rfl, c_J6_init_2_23 _ _ _ _ (i11 (show hc (pI h eM r 0) r = 48 from hr)), c_J6_init_2_60]
  rfl
theorem f_ainitN (d : Nat) (hr : hc h r = 48) (hlt : r < hn h) {n : Int} (hn0 : 0 < n) (rm : rmA h n) : F (d + 3) 164987650 [vR r, vI n] h = some (.inl none, pR (nA (pI h eM r 0) 71 n) eD r (hn h)) := by
  rw [e_J6_init_2, c_J6_init_2_0 _ _ _ _ (i11 hr), f_absinit d hr, bnd_v, pu_n, c_J6_init_2_4, if_pos hn0, c_J6_init_2_8 _ _ _ _ (show rmA (pI h eM r 0) n from rm) (by rw [hc_nA', if_neg (by show r ≠ hn h; omega)]; exact i11 hr), c_J6_init_2_60]
  rfl
/-- the list is empty -/
theorem al_nil (hr : hc h r = 48) (hs0 : gI h eS r = 0) (ha : hc h (gR h eD r) = 71 ∧ 0 ≤ hl h (gR h eD r) ∨ kc h (gR h eD r) = 72 ∧ hl h (gR h eD r) = 0) : AL h r [] := by
  refine ⟨hr, hs0, ?_, ?_, fun j hj => absurd hj (by simp), fun v hv => absurd hv (by simp), by simp⟩
  · rcases ha with z | z
    · exact Or.inl z.1
    · exact Or.inr z
  · show (0 : Int) ≤ hl h (gR h eD r)
    rcases ha with z | z
    · exact z.2
    · omega
/-- there is room behind the list's last -/
theorem f_grow (d : Nat) (I : HI h) (A : AL h r l) (hfull : hl h (gR h eD r) = l.length) (rm : Room (l.length / 32 + 2) h) (hlen : l.length < 100000) : ∃ h1, F (d + 4) 166298369 [vR r] h = some (.inl (some (vR (hn h))), h1) ∧ Ev (· = r) (l.length / 32 + 2) h h1 ∧ AL h1 r l ∧ gR h1 eD r = hn h ∧ hc h1 (hn h) = 71 ∧ (l.length : Int) < hl h1 (hn h) ∧ (hs h1 : Int) = hs h + hl h1 (hn h) ∧ hk h1 = hk h + 1 ∧ hl h1 (hn h) ≤ 4 * (hl h1 (hn h) - l.length) ∧ hl h1 (hn h) ≤ 2 * l.length + 10 := by
  have C := I.1
  have hr48 := A.1
  have hrlt := A.lt C
  have hsz := A.2.1
  have hcap : l.length ≤ 100000 := A.2.2.2.2.2.2
  have halt := A.alt C
  rw [e_J6_grow, c_J6_grow_0 _ _ _ (i11 hr48), e_J6_grow_2, c_J6_grow_2_0 _ _ _ _ _ _ (i11 hr48) A.arr2]
  have hsz' : gI h 3543163072 r = l.length := hsz
  have hfull' : hl h (gR h 3534774466 r) = l.length := hfull
  rw [hsz', hfull', w32_id (by omega) (by omega)]
  have key : ∀ n : Int, (l.length : Int) < n → n ≤ 2 * l.length + 10 → n ≤ 4 * (n - l.length) → ∀ g : PH, (g = nA h 71 n ∧ l = [] ∨ g = aC (nA h 71 n) (gR h eD r) 0 (hn h) 0 l.length) → Ev (· = r) (l.length / 32 + 2) h (pR g eD r (hn h)) ∧ AL (pR g eD r (hn h)) r l ∧ gR (pR g eD r (hn h)) eD r = hn h ∧ hc (pR g eD r (hn h)) (hn h) = 71 ∧ (l.length : Int) < hl (pR g eD r (hn h)) (hn h) ∧ (hs (pR g eD r (hn h)) : Int) = hs h + hl (pR g eD r (hn h)) (hn h) ∧ hk (pR g eD r (hn h)) = hk h + 1 ∧ hl (pR g eD r (hn h)) (hn h) ≤ 4 * (hl (pR g eD r (hn h)) (hn h) - l.length) ∧ hl (pR g eD r (hn h)) (hn h) ≤ 2 * l.length + 10 := by
    intro n n1 n2 n4 g hg
    have hsg : (hs g : Int) = hs h + n := by
      rcases hg with ⟨z, -⟩ | z <;> rw [z] <;> show ((hs h + n.toNat : Nat) : Int) = _ <;> omega
    have hkg : hk g = hk h + 1 := by rcases hg with ⟨z, -⟩ | z <;> rw [z] <;> rfl
    have e0 : Ev (· = r) (l.length / 32 + 2) h (nA h 71 n) := by
      have := (Ev.rf (W := (· = r)) I).mA (t := 71) (n := n) (c := l.length / 32 + 2) (by omega) (by omega) (by omega)
      rw [Nat.zero_add] at this
      exact this
    have hcg : ∀ q, hc g q = hc (nA h 71 n) q := fun q => by rcases hg with ⟨z, -⟩ | z <;> rw [z] <;> rfl
    have hlg : ∀ q, hl g q = hl (nA h 71 n) q := fun q => by rcases hg with ⟨z, -⟩ | z <;> rw [z] <;> rfl
    have hrg : ∀ f q, gR g f q = gR h f q := fun f q => by rcases hg with ⟨z, -⟩ | z <;> rw [z] <;> rfl
    have hng : hn g = hn h + 1 := by rcases hg with ⟨z, -⟩ | z <;> rw [z] <;> rfl
    have hig : ∀ f q, gI g f q = gI h f q := fun f q => by rcases hg with ⟨z, -⟩ | z <;> rw [z] <;> rfl
    have e1 : Ev (· = r) (l.length / 32 + 2) h g := by
      rcases hg with ⟨z, -⟩ | z
      · rw [z]; exact e0
      · rw [z]; exact e0.mC I (Nat.le_refl _) (by rw [hc_nA', if_pos rfl]; rfl)
    have c71 : hc g (hn h) = 71 := by rw [hcg, hc_nA', if_pos rfl]
    have c48 : hc g r = 48 := by rw [hcg, hc_nA', if_neg (by omega)]; exact hr48
    have e2 : Ev (· = r) (l.length / 32 + 2) h (pR g eD r (hn h)) := e1.cD (Or.inl rfl) c48 ⟨by rw [hng]; omega, Or.inl ⟨c71, fun r' hr' e' => by
      rw [hrg] at e'
      have h48 : hc h r' = 48 := by
        rw [hcg, hc_nA'] at hr'
        by_cases z : r' = hn h
        · rw [if_pos z] at hr'; exact absurd hr' (by decide)
        · rw [if_neg z] at hr'; exact hr'
      have := C.1.2.1
      rcases I.2 r' h48 with x | ⟨x, -⟩ <;> omega⟩⟩
    have eg : gR (pR g eD r (hn h)) eD r = hn h := if_pos ⟨rfl, rfl⟩
    have hlf : hl g (hn h) = n := by rw [hlg, hl_nA', if_pos rfl]
    refine ⟨e2, ?_, eg, c71, by show _ < hl g (hn h); rw [hlf]; exact n1, by show (hs g : Int) = hs h + hl g (hn h); rw [hlf]; exact hsg, hkg, by show hl g (hn h) ≤ 4 * (hl g (hn h) - l.length); rw [hlf]; exact n4, by show hl g (hn h) ≤ _; rw [hlf]; exact n2⟩
    refine ⟨c48, by rw [show gI (pR g eD r (hn h)) 3543163072 r = gI g eS r from rfl, hig]; exact hsz, ?_, ?_, fun j hj => ?_, fun w hw => ?_, hcap⟩
    · left; show hc g (gR (pR g eD r (hn h)) eD r) = 71; rw [eg]; exact c71
    · show _ ≤ hl g (gR (pR g eD r (hn h)) eD r); rw [eg, hlf]; omega
    · show eR g (gR (pR g eD r (hn h)) eD r) j = _
      rw [eg]
      rcases hg with ⟨-, z⟩ | z
      · rw [z] at hj; exact absurd hj (by simp)
      · rw [z]
        have : eR (aC (nA h 71 n) (gR h eD r) 0 (hn h) 0 l.length) (hn h) j = eR (nA h 71 n) (gR h eD r) (0 + ((j : Int) - 0)) := if_pos ⟨rfl, by omega, by omega⟩
        rw [this, sR_nA, if_neg (by omega), show (0 : Int) + ((j : Int) - 0) = j by omega]
        exact A.2.2.2.2.1 j hj
    · exact okE_up e2.1 C.1.2.2.1 (A.2.2.2.2.2.1 w hw)
  have rmn : ∀ n : Int, 0 ≤ n → n ≤ 2 * l.length + 10 → rmA h n := fun n n0 n1 => by
    have := rm
    unfold Room at this
    refine ⟨n0, by omega, by omega⟩
  have copy : ∀ n : Int, (l.length : Int) < n → n ≤ 2 * l.length + 10 → F (d + 2) 236191746 [vR (gR h eD r), vI n] h = some (.inl (some (vR (hn h))), aC (nA h 71 n) (gR h eD r) 0 (hn h) 0 l.length) := by
    intro n n1 n2
    show gd ((hc h (gR h eD r) = 71 ∨ kc h (gR h eD r) = 72) ∧ rmA h n ∧ okAll h (gR h eD r) 0 (if n < hl h (gR h eD r) then n else hl h (gR h eD r)).toNat) (some (Sum.inl (some (vR (hn h))), aC (nA h 71 n) (gR h eD r) 0 (hn h) 0 (if n < hl h (gR h eD r) then n else hl h (gR h eD r)))) = _
    rw [hfull, if_neg (by omega), gd_t]
    refine ⟨?_, rmn n (by omega) n2, okAll_iff.mpr fun k hk => ?_⟩
    · rcases A.2.2.1 with z | ⟨z, -⟩
      · exact Or.inl z
      · exact Or.inr z
    · have : eR h (gR h eD r) ((0 : Int) + k) = l.getD k 0 := by
        rw [show (0 : Int) + (k : Int) = k by omega]
        exact A.2.2.2.2.1 k (by omega)
      rw [this]
      have hk' : k < l.length := by omega
      rw [List.getD_eq_getElem?_getD, List.getElem?_eq_getElem hk']
      exact A.2.2.2.2.2.1 _ (List.getElem_mem hk')
  have newl : ∀ a c : Int, 0 ≤ a → a ≤ 100000 → 0 ≤ c → c ≤ 100000 → F (d + 2) 175374339 [vI a, vI 1, vI c] h = some (.inl (some (vI (a + (if 1 < c then c else 1)))), h) := by
    intro a c a0 a1 c0 c1
    rw [e_J13_newLength, c_J13_newLength_0, f_max, bnd_v, pu_s, c_J13_newLength_6, w32_id (by split <;> omega) (by split <;> omega), if_pos (by split <;> omega), c_J13_newLength_13, if_neg (by split <;> omega), c_J13_newLength_19]
  have fin20 : ∀ a2 : Int, a2 = l.length → ∃ h1, bnd (FA (F (d + 2)) 166560514 20 [vR r, vI ((l.length : Int) + 1), vI a2, vX] [] h) (fun v h' => FA (F (d + 3)) 166298369 10 [vR r] (pu v []) h') = some (.inl (some (vR (hn h))), h1) ∧ Ev (· = r) (l.length / 32 + 2) h h1 ∧ AL h1 r l ∧ gR h1 eD r = hn h ∧ hc h1 (hn h) = 71 ∧ (l.length : Int) < hl h1 (hn h) ∧ (hs h1 : Int) = hs h + hl h1 (hn h) ∧ hk h1 = hk h + 1 ∧ hl h1 (hn h) ≤ 4 * (hl h1 (hn h) - l.length) ∧ hl h1 (hn h) ≤ 2 * l.length + 10 := by
    intro a2 ea
    subst ea
    have e1 : w32 ((l.length : Int) + 1 - l.length) = 1 := by rw [w32_id (by omega) (by omega)]; omega
    rw [c_J6_grow_2_20, e1, ishr_1 (by omega) (by omega)]
    have e2 : ∃ n : Int, (l.length : Int) < n ∧ n ≤ 2 * l.length + 10 ∧ n ≤ 4 * (n - l.length) ∧ F (d + 2) 175374339 [vI l.length, vI 1, vI ((l.length : Int) / 2)] h = some (.inl (some (vI n)), h) := by
      refine ⟨_, ?_, ?_, ?_, newl l.length ((l.length : Int) / 2) (by omega) (by omega) (by omega) (by omega)⟩
      · split <;> omega
      · split <;> omega
      · split <;> omega
    obtain ⟨n, n1, n2, n4, e3⟩ := e2
    rw [e3, bnd_v, pu_s, c_J6_grow_2_30 _ _ _ _ _ _ _ (i11 hr48), copy n n1 n2, bnd_v, pu_s]
    have k := key n n1 n2 n4 _ (Or.inr rfl)
    have c48 : hc (aC (nA h 71 n) (gR h eD r) 0 (hn h) 0 l.length) r = 48 := by rw [hc_aC, hc_nA', if_neg (by omega)]; exact hr48
    rw [c_J6_grow_2_40 _ _ _ _ _ _ _ _ (i11 c48), bnd_v, pu_s, c_J6_grow_10]
    exact ⟨_, rfl, k⟩
  by_cases z : (0 : Int) < l.length
  · rw [if_pos z]
    exact fin20 _ rfl
  · have z0 : l.length = 0 := by omega
    rw [if_neg z, c_J6_grow_2_10 _ _ _ _ _ _ (i11 hr48)]
    by_cases y : gR h 3534774466 r = gR h 4034920450 0
    · rw [if_pos y, c_J6_grow_2_45, f_max, bnd_v, pu_s, if_neg (by omega)]
      have c48 : hc (nA h 71 10) r = 48 := by rw [hc_nA', if_neg (by omega)]; exact hr48
      rw [c_J6_grow_2_52 _ _ _ _ _ _ _ _ (rmn 10 (by omega) (by omega)) (i11 c48), bnd_v, pu_s, c_J6_grow_10]
      exact ⟨_, rfl, key 10 (by omega) (by omega) (by omega) _ (Or.inl ⟨rfl, List.eq_nil_of_length_eq_zero z0⟩)⟩
    · rw [if_neg y]
      exact fin20 _ rfl
theorem ne_arr (I : HI h) (hr : hc h r = 48) {a : Nat} (ha : a = gR h eD r ∧ hc h a = 71 ∨ hn h ≤ a) : ∀ q, q < hn h → ¬ (q = r) → hc h q = 48 → gR h eD q ≠ a := by
  intro q hq hne h48 e
  have := I.1.1.2.1
  rcases ha with ⟨ha, h71⟩ | ha
  · rcases I.2 r hr with x | ⟨x, ⟨x1, x2⟩ | ⟨x1, x2⟩⟩
    · rw [← ha] at x; rw [x, I.1.1.1] at h71; exact absurd h71 (by decide)
    · exact hne (x2 q h48 (by rw [e, ha]))
    · rw [← ha] at x1
      have := (I.1.1.2.2.2 a (by rw [x1]; decide)).2
      rw [h71] at this
      exact absurd this (by decide)
  · rcases I.2 q h48 with x | ⟨x, -⟩ <;> omega
theorem gd_app1 {l : List Nat} {v j : Nat} (hj : j < l.length) : (l ++ [v]).getD j 0 = l.getD j 0 := by
  rw [List.getD_eq_getElem?_getD, List.getD_eq_getElem?_getD, List.getElem?_append_left hj]
theorem gd_app2 {l : List Nat} {v : Nat} : (l ++ [v]).getD l.length 0 = v := by
  rw [List.getD_eq_getElem?_getD, List.getElem?_append_right (Nat.le_refl _)]
  simp
/-- something is put behind the last -/
theorem al_put (I : HI h) (hr : hc h r = 48) (hrl : r < hn h) (e : Ev (· = r) u h h1) (A : AL h1 r l) (ha : gR h1 eD r = gR h eD r ∧ hc h (gR h eD r) = 71 ∨ hn h ≤ gR h1 eD r) (h71 : hc h1 (gR h1 eD r) = 71) (hlt : (l.length : Int) < hl h1 (gR h1 eD r)) (hlen : l.length < 100000) (hv : okE h 71 v) : Ev (· = r) u h (pI (qR h1 (gR h1 eD r) l.length v) eS r ((l.length : Int) + 1)) ∧ AL (pI (qR h1 (gR h1 eD r) l.length v) eS r ((l.length : Int) + 1)) r (l ++ [v]) := by
  have C := I.1
  have e1 : Ev (· = r) u h (qR h1 (gR h1 eD r) l.length v) := by
    refine e.eR' (fun q hq hw h7 z => ?_) (by rw [h71]; rfl) (ne_arr I hr (by
      rcases ha with ⟨x, y⟩ | x
      · exact Or.inl ⟨x, by rw [x]; exact y⟩
      · exact Or.inr x))
    rcases ha with ⟨x, y⟩ | x
    · rw [z, x] at h7; exact h7 y
    · omega
  have e2 : Ev (· = r) u h (pI (qR h1 (gR h1 eD r) l.length v) eS r ((l.length : Int) + 1)) := e1.cI (Or.inl rfl) (by show mdT (hc h1 r) = true; rw [A.1]; rfl)
  refine ⟨e2, A.1, ?_, Or.inl h71, ?_, fun j hj => ?_, fun w hw => ?_, by simp; omega⟩
  · show (if eS = eS ∧ r = r then _ else _) = _
    rw [if_pos ⟨rfl, rfl⟩]
    simp
  · show ((l ++ [v]).length : Int) ≤ hl h1 (gR h1 eD r)
    simp
    omega
  · show (if gR h1 eD r = gR h1 eD r ∧ (j : Int) = (l.length : Int) then v else eR h1 (gR h1 eD r) j) = _
    simp at hj
    by_cases z : j = l.length
    · rw [if_pos ⟨rfl, by omega⟩, z, gd_app2]
    · rw [if_neg (fun y => z (by omega)), gd_app1 (by omega)]
      exact A.2.2.2.2.1 j (by omega)
  · rcases List.mem_append.mp hw with z | z
    · exact A.2.2.2.2.2.1 w z
    · have : w = v := by simpa using z
      rw [this]
      exact okE_up e2.1 C.1.2.2.1 hv
/-- how much a list's array holds -/
def cap (h : PH) (r : Nat) : Int := hl h (gR h eD r)
theorem f_addA (d : Nat) (I : HI h) (A : AL h r l) (hv : okE h 71 v) (hlen : l.length < 100000) (rm : Room (l.length / 32 + 2) h) : ∃ h1, F (d + 6) 165774082 [vR r, vR v] h = some (.inl (some (vI 1)), h1) ∧ Ev (· = r) (l.length / 32 + 2) h h1 ∧ AL h1 r (l ++ [v]) ∧ (hs h1 : Int) + 4 * cap h r ≤ hs h + 4 * cap h1 r ∧ (hk h1 : Int) + cap h r ≤ hk h + cap h1 r ∧ (cap h1 r = cap h r ∨ cap h1 r ≤ 2 * l.length + 10) := by
  have C := I.1
  have hr48 := A.1
  have hrl := A.lt C
  have hsz : gI h 3543163072 r = l.length := A.2.1
  generalize hx : w32 (gI h 3526385856 r + 1) = x
  have e0 : Ev (· = r) 0 h (pI h 3526385856 r x) := (Ev.rf I).cI (Or.inl rfl) (by rw [hr48]; rfl)
  have A0 : AL (pI h 3526385856 r x) r l := ⟨hr48, hsz, A.2.2⟩
  have I0 := e0.2.2.1
  have rm0 : Room (l.length / 32 + 2) (pI h 3526385856 r x) := rm
  rw [e_J6_add, c_J6_add_0 _ _ _ _ (i11 hr48), hx, hsz, e_J6_add_2, c_J6_add_2_0 _ _ _ _ _ _ (show inT 64 77 (hc (pI h 3526385856 r x) (gR h 3534774466 r)) ∨ inT 64 77 (kc (pI h 3526385856 r x) (gR h 3534774466 r)) from A0.arr2)]
  by_cases z : (l.length : Int) = hl (pI h 3526385856 r x) (gR h 3534774466 r)
  · obtain ⟨h1, g1, g2, g3, g4, g5, g6, g7, g8, g9, g10⟩ := f_grow d I0 A0 z.symm rm0 hlen
    have ev := e0.tr g2 (fun q _ y => y)
    rw [Nat.zero_add] at ev
    have k := al_put (v := v) I hr48 hrl ev g3 (Or.inr (by rw [g4]; exact Nat.le_refl _)) (by rw [g4]; exact g5) (by rw [g4]; exact g6) hlen hv
    rw [g4] at k
    have hok : okE h1 71 v := okE_up ev.1 C.1.2.2.1 hv
    have g1 : F (d + 4) 166298369 [vR r] (pI h 3526385856 r x) = some (.inl (some (vR (hn h))), h1) := g1
    rw [if_pos z, c_J6_add_2_6 _ _ _ _ _ _ (i11 (show hc (pI h 3526385856 r x) r = 48 from hr48)), g1, bnd_v, pu_s, c_J6_add_2_10, c_J6_add_2_11 _ _ _ _ _ _ (by
      have g5 : hc h1 (hn h) = 71 := g5
      have g6 : (l.length : Int) < hl h1 (hn h) := g6
      rw [g5]
      exact ⟨by decide, by decide, hok, by omega, g6⟩) (i11 g3.1), bnd_v, pu_n, c_J6_add_23, w32_id (by omega) (by omega)]
    refine ⟨_, rfl, k.1, k.2, ?_, ?_, Or.inr ?_⟩
    · show (hs h1 : Int) + 4 * hl h (gR h eD r) ≤ hs h + 4 * hl h1 (gR h1 eD r)
      have z : (l.length : Int) = hl h (gR h eD r) := z
      have g7 : (hs h1 : Int) = hs h + hl h1 (hn h) := g7
      have g9 : hl h1 (hn h) ≤ 4 * (hl h1 (hn h) - l.length) := g9
      have g4 : gR h1 eD r = hn h := g4
      rw [g4]
      omega
    · show (hk h1 : Int) + hl h (gR h eD r) ≤ hk h + hl h1 (gR h1 eD r)
      have z : (l.length : Int) = hl h (gR h eD r) := z
      have g8 : hk h1 = hk h + 1 := g8
      have g6 : (l.length : Int) < hl h1 (hn h) := g6
      have g4 : gR h1 eD r = hn h := g4
      rw [g4]
      omega
    · show hl h1 (gR h1 eD r) ≤ _
      have g4 : gR h1 eD r = hn h := g4
      rw [g4]
      exact g10
  · have h71 : hc h (gR h eD r) = 71 := by
      rcases A.2.2.1 with y | ⟨-, y⟩
      · exact y
      · exfalso
        have y : hl h (gR h eD r) = 0 := y
        have := A.2.2.2.1
        have z : ¬ (l.length : Int) = hl h (gR h eD r) := z
        have this : (l.length : Int) ≤ hl h (gR h eD r) := this
        omega
    have hlt : (l.length : Int) < hl h (gR h eD r) := by
      have this : (l.length : Int) ≤ hl h (gR h eD r) := A.2.2.2.1
      have z : ¬ (l.length : Int) = hl h (gR h eD r) := z
      omega
    have ev : Ev (· = r) (l.length / 32 + 2) h (pI h 3526385856 r x) := e0.mono (fun _ _ y => y) (by omega)
    have k := al_put (v := v) I hr48 hrl ev A0 (Or.inl ⟨rfl, h71⟩) h71 hlt hlen hv
    have h71' : hc (pI h 3526385856 r x) (gR h 3534774466 r) = 71 := h71
    rw [if_neg z, c_J6_add_2_11 _ _ _ _ _ _ (by
      rw [h71']
      exact ⟨by decide, by decide, hv, by omega, hlt⟩) (i11 (show hc (pI h 3526385856 r x) r = 48 from hr48)), bnd_v, pu_n, c_J6_add_23, w32_id (by omega) (by omega)]
    exact ⟨_, rfl, k.1, k.2, Int.le_refl _, Int.le_refl _, Or.inl rfl⟩
theorem f_add (d : Nat) (I : HI h) (A : AL h r l) (hv : okE h 71 v) (hlen : l.length < 100000) (rm : Room (l.length / 32 + 2) h) : ∃ h1, F (d + 6) 165774082 [vR r, vR v] h = some (.inl (some (vI 1)), h1) ∧ Ev (· = r) (l.length / 32 + 2) h h1 ∧ AL h1 r (l ++ [v]) := by
  obtain ⟨h1, a, b, c, -⟩ := f_addA d I A hv hlen rm
  exact ⟨h1, a, b, c⟩
/-- the last is taken away -/
theorem f_removeLast (d : Nat) (I : HI h) (A : AL h r (l ++ [v])) : ∃ h1, F (d + 3) 168133378 [vR r, vI l.length] h = some (.inl (some (vR v)), h1) ∧ Ev (· = r) 0 h h1 ∧ AL h1 r l := by
  have C := I.1
  have hr48 := A.1
  have hrl := A.lt C
  have hsz : gI h 3543163072 r = (l.length : Int) + 1 := by have := A.2.1; simpa using this
  have hcap : l.length + 1 ≤ 100000 := by have := A.2.2.2.2.2.2; simpa using this
  have hle : (l.length : Int) + 1 ≤ hl h (gR h eD r) := by have := A.2.2.2.1; simpa using this
  have h71 : hc h (gR h eD r) = 71 := by
    rcases A.2.2.1 with y | ⟨-, y⟩
    · exact y
    · exfalso
      have y : hl h (gR h eD r) = 0 := y
      omega
  have hel : eR h (gR h eD r) l.length = v := by
    have := A.2.2.2.2.1 l.length (by simp)
    rw [gd_app2] at this
    exact this
  have hel' : eR h (gR h 3534774466 r) l.length = v := hel
  generalize hx : w32 (gI h 3526385856 r + 1) = x
  have e0 : Ev (· = r) 0 h (pI h 3526385856 r x) := (Ev.rf I).cI (Or.inl rfl) (by rw [hr48]; rfl)
  have e1 : Ev (· = r) 0 h (pI (pI h 3526385856 r x) eS r l.length) := e0.cI (Or.inl rfl) (by show mdT (hc h r) = true; rw [hr48]; rfl)
  have e2 : Ev (· = r) 0 h (qR (pI (pI h 3526385856 r x) eS r l.length) (gR h eD r) l.length 0) := e1.eR' (fun q hq hw h7 z => by rw [z] at h7; exact h7 h71) (by show mdA (hc h (gR h eD r)) = true; rw [h71]; rfl) (ne_arr I hr48 (Or.inl ⟨rfl, h71⟩))
  rw [e_J6_remove, c_J6_remove_0 _ _ _ _ _ _ (i11 hr48), hsz, f_chk d h (by omega) (by omega), bnd_v, pu_s, c_J6_remove_8 _ _ _ _ _ _ _ (i11 hr48) ⟨A.arr, by omega, by have hle : (l.length : Int) + 1 ≤ hl h (gR h 3534774466 r) := hle; omega⟩, e_J6_fastRemove, c_J6_fastRemove_0 _ _ _ _ _ _ (i11 hr48), hsz, w32_id (x := (l.length : Int) + 1 - 1) (by omega) (by omega), if_neg (by omega), hx, show (l.length : Int) + 1 - 1 = l.length by omega, hel']
  have h71' : hc (pI h 3526385856 r x) (gR h 3534774466 r) = 71 := h71
  rw [c_J6_fastRemove_34 _ _ _ _ _ _ (i11 (show hc (pI h 3526385856 r x) r = 48 from hr48)) (by
    rw [h71']
    exact ⟨by decide, by decide, Or.inl rfl, by omega, by have hle : (l.length : Int) + 1 ≤ hl h (gR h 3534774466 r) := hle; show _ < hl h (gR h 3534774466 r); omega⟩), bnd_v, pu_n, c_J6_remove_24]
  refine ⟨_, rfl, e2, hr48, if_pos ⟨rfl, rfl⟩, Or.inl h71, ?_, fun j hj => ?_, fun w hw => A.2.2.2.2.2.1 w (by simp [hw]), by omega⟩
  · show (l.length : Int) ≤ hl h (gR h eD r)
    omega
  · show (if gR h eD r = gR h eD r ∧ (j : Int) = (l.length : Int) then 0 else eR h (gR h eD r) j) = _
    rw [if_neg (by omega)]
    have := A.2.2.2.2.1 j (by simp; omega)
    rw [gd_app1 hj] at this
    exact this
end LI
