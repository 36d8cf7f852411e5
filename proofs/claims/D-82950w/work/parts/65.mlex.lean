/-! THE MODEL's TOKENS: one of them, all of them -/
set_option maxRecDepth 100000
section M1
variable {b : PH} {m : Nat} {s : MS}
theorem sg_a (cf : Nat → List PV → PH → Rs) (B : MB b m) {a1 a2 a3 s0 : Int} {a4 a5 a6 : PV} : FA cf 38099634 301 [vR m, vI a1, vI a2, vI a3, a4, a5, a6] [vI s0] (MH b m s) = FA cf 38099634 335 [vR m, vI a1, vI a2, vI a3, a4, a5, a6] [vI (b01 (s0 = 61 ∧ (a2 = 58 ∨ a2 = 47 ∨ a2 = 60 ∨ a2 = 62)))] (MH b m s) := by
  rw [k_X10_oneToken_301 _ _ _ _ _ _ _ _ _ _ _ B]
  by_cases q : s0 = 61
  · rw [if_pos q, k_X10_oneToken_306 _ _ _ _ _ _ _ _ _ _ B]
    by_cases c1 : a2 = 58
    · rw [if_pos c1, k_X10_oneToken_330 _ _ _ _ _ _ _ _ _ _ B, b01_p ⟨q, Or.inl c1⟩]
    · rw [if_neg c1, k_X10_oneToken_312 _ _ _ _ _ _ _ _ _ _ B]
      by_cases c2 : a2 = 47
      · rw [if_pos c2, k_X10_oneToken_330 _ _ _ _ _ _ _ _ _ _ B, b01_p ⟨q, by omega⟩]
      · rw [if_neg c2, k_X10_oneToken_318 _ _ _ _ _ _ _ _ _ _ B]
        by_cases c3 : a2 = 60
        · rw [if_pos c3, k_X10_oneToken_330 _ _ _ _ _ _ _ _ _ _ B, b01_p ⟨q, by omega⟩]
        · rw [if_neg c3, k_X10_oneToken_324 _ _ _ _ _ _ _ _ _ _ B]
          by_cases c4 : a2 = 62
          · rw [if_pos c4, k_X10_oneToken_330 _ _ _ _ _ _ _ _ _ _ B, b01_p ⟨q, by omega⟩]
          · rw [if_neg c4, k_X10_oneToken_334 _ _ _ _ _ _ _ _ _ _ B, b01_n (by omega)]
  · rw [if_neg q, k_X10_oneToken_334 _ _ _ _ _ _ _ _ _ _ B, b01_n (by omega)]
theorem sg_in {c : Int} : c ∈ sgL ↔ c = 40 ∨ c = 41 ∨ c = 91 ∨ c = 93 ∨ c = 44 ∨ c = 59 ∨ c = 58 ∨ c = 43 ∨ c = 45 ∨ c = 42 ∨ c = 47 ∨ c = 37 ∨ c = 38 ∨ c = 33 ∨ c = 126 ∨ c = 61 ∨ c = 60 ∨ c = 62 := by unfold sgL; simp
theorem sg_b (cf : Nat → List PV → PH → Rs) (B : MB b m) {a1 a2 a3 s0 : Int} {a4 a5 a6 : PV} : FA cf 38099634 335 [vR m, vI a1, vI a2, vI a3, a4, a5, a6] [vI s0] (MH b m s) = FA cf 38099634 450 [vR m, vI a1, vI a2, vI a3, vI s0, a5, a6] [vI (b01 (a2 ∈ sgL))] (MH b m s) := by
  rw [k_X10_oneToken_335 _ _ _ _ _ _ _ _ _ _ _ B]
  by_cases c0 : a2 = 40
  · rw [if_pos c0, k_X10_oneToken_445 _ _ _ _ _ _ _ _ _ _ B, b01_p (sg_in.mpr (by omega))]
  rw [if_neg c0]
  rw [k_X10_oneToken_343 _ _ _ _ _ _ _ _ _ _ B]
  by_cases c1 : a2 = 41
  · rw [if_pos c1, k_X10_oneToken_445 _ _ _ _ _ _ _ _ _ _ B, b01_p (sg_in.mpr (by omega))]
  rw [if_neg c1]
  rw [k_X10_oneToken_349 _ _ _ _ _ _ _ _ _ _ B]
  by_cases c2 : a2 = 91
  · rw [if_pos c2, k_X10_oneToken_445 _ _ _ _ _ _ _ _ _ _ B, b01_p (sg_in.mpr (by omega))]
  rw [if_neg c2]
  rw [k_X10_oneToken_355 _ _ _ _ _ _ _ _ _ _ B]
  by_cases c3 : a2 = 93
  · rw [if_pos c3, k_X10_oneToken_445 _ _ _ _ _ _ _ _ _ _ B, b01_p (sg_in.mpr (by omega))]
  rw [if_neg c3]
  rw [k_X10_oneToken_361 _ _ _ _ _ _ _ _ _ _ B]
  by_cases c4 : a2 = 44
  · rw [if_pos c4, k_X10_oneToken_445 _ _ _ _ _ _ _ _ _ _ B, b01_p (sg_in.mpr (by omega))]
  rw [if_neg c4]
  rw [k_X10_oneToken_367 _ _ _ _ _ _ _ _ _ _ B]
  by_cases c5 : a2 = 59
  · rw [if_pos c5, k_X10_oneToken_445 _ _ _ _ _ _ _ _ _ _ B, b01_p (sg_in.mpr (by omega))]
  rw [if_neg c5]
  rw [k_X10_oneToken_373 _ _ _ _ _ _ _ _ _ _ B]
  by_cases c6 : a2 = 58
  · rw [if_pos c6, k_X10_oneToken_445 _ _ _ _ _ _ _ _ _ _ B, b01_p (sg_in.mpr (by omega))]
  rw [if_neg c6]
  rw [k_X10_oneToken_379 _ _ _ _ _ _ _ _ _ _ B]
  by_cases c7 : a2 = 43
  · rw [if_pos c7, k_X10_oneToken_445 _ _ _ _ _ _ _ _ _ _ B, b01_p (sg_in.mpr (by omega))]
  rw [if_neg c7]
  rw [k_X10_oneToken_385 _ _ _ _ _ _ _ _ _ _ B]
  by_cases c8 : a2 = 45
  · rw [if_pos c8, k_X10_oneToken_445 _ _ _ _ _ _ _ _ _ _ B, b01_p (sg_in.mpr (by omega))]
  rw [if_neg c8]
  rw [k_X10_oneToken_391 _ _ _ _ _ _ _ _ _ _ B]
  by_cases c9 : a2 = 42
  · rw [if_pos c9, k_X10_oneToken_445 _ _ _ _ _ _ _ _ _ _ B, b01_p (sg_in.mpr (by omega))]
  rw [if_neg c9]
  rw [k_X10_oneToken_397 _ _ _ _ _ _ _ _ _ _ B]
  by_cases c10 : a2 = 47
  · rw [if_pos c10, k_X10_oneToken_445 _ _ _ _ _ _ _ _ _ _ B, b01_p (sg_in.mpr (by omega))]
  rw [if_neg c10]
  rw [k_X10_oneToken_403 _ _ _ _ _ _ _ _ _ _ B]
  by_cases c11 : a2 = 37
  · rw [if_pos c11, k_X10_oneToken_445 _ _ _ _ _ _ _ _ _ _ B, b01_p (sg_in.mpr (by omega))]
  rw [if_neg c11]
  rw [k_X10_oneToken_409 _ _ _ _ _ _ _ _ _ _ B]
  by_cases c12 : a2 = 38
  · rw [if_pos c12, k_X10_oneToken_445 _ _ _ _ _ _ _ _ _ _ B, b01_p (sg_in.mpr (by omega))]
  rw [if_neg c12]
  rw [k_X10_oneToken_415 _ _ _ _ _ _ _ _ _ _ B]
  by_cases c13 : a2 = 33
  · rw [if_pos c13, k_X10_oneToken_445 _ _ _ _ _ _ _ _ _ _ B, b01_p (sg_in.mpr (by omega))]
  rw [if_neg c13]
  rw [k_X10_oneToken_421 _ _ _ _ _ _ _ _ _ _ B]
  by_cases c14 : a2 = 126
  · rw [if_pos c14, k_X10_oneToken_445 _ _ _ _ _ _ _ _ _ _ B, b01_p (sg_in.mpr (by omega))]
  rw [if_neg c14]
  rw [k_X10_oneToken_427 _ _ _ _ _ _ _ _ _ _ B]
  by_cases c15 : a2 = 61
  · rw [if_pos c15, k_X10_oneToken_445 _ _ _ _ _ _ _ _ _ _ B, b01_p (sg_in.mpr (by omega))]
  rw [if_neg c15]
  rw [k_X10_oneToken_433 _ _ _ _ _ _ _ _ _ _ B]
  by_cases c16 : a2 = 60
  · rw [if_pos c16, k_X10_oneToken_445 _ _ _ _ _ _ _ _ _ _ B, b01_p (sg_in.mpr (by omega))]
  rw [if_neg c16]
  rw [k_X10_oneToken_439 _ _ _ _ _ _ _ _ _ _ B]
  by_cases c17 : a2 = 62
  · rw [if_pos c17, k_X10_oneToken_445 _ _ _ _ _ _ _ _ _ _ B, b01_p (sg_in.mpr (by omega))]
  rw [if_neg c17]
  rw [k_X10_oneToken_449 _ _ _ _ _ _ _ _ _ _ B, b01_n (fun z => by have := sg_in.mp z; omega)]
theorem f_oneToken (d : Nat) (B : MB b m) (t : TB s) (C : ConH b) {p : Int} (h0 : 0 ≤ p) (h1 : p < fI s 1688950444) (hk : inA (fI s 1722504876) 490) : F (d + 2) 38099634 [vR m, vI p] (MH b m s) = some (.inl (some (vI (lexAt (aI s 1) (fI s 1688950444) p).2.2.2)), MH b m (tk1 s (lexAt (aI s 1) (fI s 1688950444) p).1 p (lexAt (aI s 1) (fI s 1688950444) p).2.1 (lexAt (aI s 1) (fI s 1688950444) p).2.2.1)) := by
  have t1 := t.1
  have hp := t.2 p h0 h1
  have hp1 : w32 (p + 1) = p + 1 := w32_id (by omega) (by omega)
  rw [e_X10_oneToken, k_X10_oneToken_0 _ _ _ _ _ _ _ _ _ _ B ⟨h0, by omega⟩, f_isGreat, bnd_v, pu_s, k_X10_oneToken_15 _ _ _ _ _ _ _ _ _ _ _ B, hp1]
  unfold lexAt
  generalize eT : aI s 1 = T
  generalize eL : fI s 1688950444 = L
  rw [eT] at hp
  rw [eL] at h1 t1
  by_cases qG : isG (T p)
  · have e1 := lp_G d B t (a1 := p) (a2 := T p) (a4 := vX) (a5 := vX) (a6 := vX) _ (p + 1) rfl (by omega) (by omega)
    rw [eT, eL] at e1
    have hr : rl cG T L p = rl cG T L (p + 1) + 1 := rl_s ⟨h1, by unfold cG; simpa using qG⟩
    have hle := rl_le (c := cG) (T := T) (L := L) _ p rfl (by omega)
    have hin := rl_in (c := cG) (T := T) (L := L) _ p rfl
    have e2 : p + 1 + (rl cG T L (p + 1) : Nat) = p + (rl cG T L p : Nat) := by omega
    rw [if_neg (fun z => b01_0.mp z qG), e1, e2, k_X10_oneToken_35 _ _ _ _ _ _ _ _ _ _ B]
    have e3 : w32 (p + (rl cG T L p : Nat) - p) = (rl cG T L p : Nat) := by rw [w32_id (by omega) (by omega)]; omega
    rw [e3, if_pos qG]
    generalize rl cG T L p = n at *
    by_cases q8 : 8 < n
    · rw [if_pos (by omega), k_X10_oneToken_43 _ _ _ _ _ _ _ _ _ _ B, k_X10_oneToken_55 _ _ _ _ _ _ _ _ _ _ _ B, e3, if_pos (by omega), k_X10_oneToken_65 _ _ _ _ _ _ _ _ _ _ B, f_token d B hk, bnd_v, pu_n, k_X10_oneToken_74 _ _ _ _ _ _ _ _ _ _ B, k_X10_oneToken_100 _ _ _ _ _ _ _ _ _ _ B, if_pos q8]
    · obtain ⟨wk, K⟩ := kwh B C (s := s) (p := p) (n := n) h0 (by omega) (fun i hi => by rw [eT]; have := (hin i hi).2; unfold cG at this; simpa using this)
      have e4 := f_keptWord d K (by omega)
      have e5 : pk (eI (MH b m s) (m + 1)) p n = pk T p n := by
        rw [← eT]
        exact pk_cong (fun i hi => eI_MH (by decide) (by decide))
      have e6 := f_packed d B (s := s) (p := p) (n := n) h0 (by omega) (by omega) (fun i hi => by rw [eT]; have := (hin i hi).2; unfold cG at this; have := of_decide_eq_true this; omega)
      rw [e5] at e4
      rw [eT] at e6
      rw [if_neg (by omega), k_X10_oneToken_47 _ _ _ _ _ _ _ _ _ _ B, e3, e4, bnd_v, pu_s, k_X10_oneToken_55 _ _ _ _ _ _ _ _ _ _ _ B, e3, if_neg (by omega), k_X10_oneToken_77 _ _ _ _ _ _ _ _ _ _ B, if_neg q8]
      generalize kix (pk T p n) 0 KWL = w
      by_cases qw : w < 0
      · rw [if_pos qw, k_X10_oneToken_87 _ _ _ _ _ _ _ _ _ _ B, k_X10_oneToken_88 _ _ _ _ _ _ _ _ _ _ _ B, e6, bnd_v, pu_s, k_X10_oneToken_97 _ _ _ _ _ _ _ _ _ _ _ _ _ _ B, f_token d B hk, bnd_v, pu_n, k_X10_oneToken_100 _ _ _ _ _ _ _ _ _ _ B, if_neg (by omega)]
      · rw [if_neg qw, k_X10_oneToken_83 _ _ _ _ _ _ _ _ _ _ B, k_X10_oneToken_88 _ _ _ _ _ _ _ _ _ _ _ B, e6, bnd_v, pu_s, k_X10_oneToken_97 _ _ _ _ _ _ _ _ _ _ _ _ _ _ B, f_token d B hk, bnd_v, pu_n, k_X10_oneToken_100 _ _ _ _ _ _ _ _ _ _ B, if_pos (by omega)]
  rw [if_pos (b01_0.mpr qG), k_X10_oneToken_102 _ _ _ _ _ _ _ _ _ _ B, f_isSmallC, bnd_v, pu_s, k_X10_oneToken_106 _ _ _ _ _ _ _ _ _ _ _ B, if_neg qG]
  by_cases qS : isS (T p)
  · have e1 := lp_S d B t (a1 := p) (a2 := T p) (a4 := vX) (a5 := vX) (a6 := vX) _ (p + 1) rfl (by omega) (by omega)
    rw [eT, eL] at e1
    have hr : rl cS T L p = rl cS T L (p + 1) + 1 := rl_s ⟨h1, by unfold cS; simpa using Or.inl qS⟩
    have hle := rl_le (c := cS) (T := T) (L := L) _ p rfl (by omega)
    have hin := rl_in (c := cS) (T := T) (L := L) _ p rfl
    have e2 : p + 1 + (rl cS T L (p + 1) : Nat) = p + (rl cS T L p : Nat) := by omega
    rw [if_neg (fun z => b01_0.mp z qS), e1, e2, k_X10_oneToken_137 _ _ _ _ _ _ _ _ _ _ B]
    have e3 : w32 (p + (rl cS T L p : Nat) - p) = (rl cS T L p : Nat) := by rw [w32_id (by omega) (by omega)]; omega
    rw [e3, if_pos qS]
    generalize rl cS T L p = n at *
    by_cases q8 : 8 < n
    · rw [if_pos (by omega), k_X10_oneToken_146 _ _ _ _ _ _ _ _ _ _ B, k_X10_oneToken_152 _ _ _ _ _ _ _ _ _ _ _ B, e3, if_pos (by omega), k_X10_oneToken_162 _ _ _ _ _ _ _ _ _ _ _ _ _ B, k_X10_oneToken_172 _ _ _ _ _ _ _ _ _ _ _ _ _ _ B, f_token d B hk, bnd_v, pu_n, k_X10_oneToken_175 _ _ _ _ _ _ _ _ _ _ B, if_pos q8]
    · have e6 := f_packed d B (s := s) (p := p) (n := n) h0 (by omega) (by omega) (fun i hi => by rw [eT]; have := (hin i hi).2; unfold cS at this; have := of_decide_eq_true this; omega)
      rw [eT] at e6
      rw [if_neg (by omega), k_X10_oneToken_151 _ _ _ _ _ _ _ _ _ _ B, k_X10_oneToken_152 _ _ _ _ _ _ _ _ _ _ _ B, e3, if_neg (by omega), k_X10_oneToken_166 _ _ _ _ _ _ _ _ _ _ _ _ _ B, e6, bnd_v, pu_s, k_X10_oneToken_172 _ _ _ _ _ _ _ _ _ _ _ _ _ _ B, f_token d B hk, bnd_v, pu_n, k_X10_oneToken_175 _ _ _ _ _ _ _ _ _ _ B, if_neg q8]
  rw [if_pos (b01_0.mpr qS), k_X10_oneToken_177 _ _ _ _ _ _ _ _ _ _ B, f_isDigit, bnd_v, pu_s, k_X10_oneToken_181 _ _ _ _ _ _ _ _ _ _ _ B, if_neg qS]
  by_cases qD : isD (T p)
  · have e0 : w32 (T p - 48) = dv T p 1 := by
      unfold dv; unfold dv
      rw [w32_id (by omega) (by omega), show p + ((0 : Nat) : Int) = p by omega]
      omega
    obtain ⟨v', e1, e1v⟩ := lp_D d B t (p0 := p) (a2 := T p) (a6 := vX) h0 _ 1 (w32 (T p - 48)) rfl (by omega) (fun j hj => by
      have : j = 0 := by omega
      subst this
      rw [eT, show p + ((0 : Nat) : Int) = p by omega]; exact qD) (fun _ => by rw [eT]; exact e0)
    rw [eT, eL] at e1 e1v
    have hr : rl cD T L p = rl cD T L (p + 1) + 1 := rl_s ⟨h1, by unfold cD; simpa using qD⟩
    have hle := rl_le (c := cD) (T := T) (L := L) _ p rfl (by omega)
    have e2 : 1 + rl cD T L (p + ((1 : Nat) : Int)) = rl cD T L p := by rw [hr, show p + ((1 : Nat) : Int) = p + 1 by omega]; omega
    rw [e2] at e1 e1v
    have e1 : FA (F (d + 1)) 38099634 191 [vR m, vI p, vI (T p), vI (p + 1), vJ (w32 (T p - 48)), vX, vX] [] (MH b m s) = _ := e1
    have e3 : w32 (p + (rl cD T L p : Nat) - p) = (rl cD T L p : Nat) := by rw [w32_id (by omega) (by omega)]; omega
    rw [if_neg (fun z => b01_0.mp z qD), k_X10_oneToken_184 _ _ _ _ _ _ _ _ _ _ B, e1, k_X10_oneToken_241 _ _ _ _ _ _ _ _ _ B, e3, if_pos qD]
    have hin := rl_in (c := cD) (T := T) (L := L) _ p rfl
    generalize rl cD T L p = n at *
    have fin : ∀ (g : Prop) [Decidable g], (g → v' = dv T p n ∧ n ≤ 10 ∧ v' ≤ 2147483647) → (¬ g → ¬ (n ≤ 10 ∧ dv T p n ≤ 2147483647)) → FA (F (d + 1)) 38099634 263 [vR m, vI p, vI (T p), vI (p + n), vJ v', vX, vX] [vI (b01 g)] (MH b m s) = some (.inl (some (vI (if n ≤ 10 ∧ dv T p n ≤ 2147483647 then (4, dv T p n, 0, p + n) else ((6, 0, 0, p + n) : TokE)).2.2.2)), MH b m (tk1 s (if n ≤ 10 ∧ dv T p n ≤ 2147483647 then (4, dv T p n, 0, p + n) else ((6, 0, 0, p + n) : TokE)).1 p (if n ≤ 10 ∧ dv T p n ≤ 2147483647 then (4, dv T p n, 0, p + n) else ((6, 0, 0, p + n) : TokE)).2.1 (if n ≤ 10 ∧ dv T p n ≤ 2147483647 then (4, dv T p n, 0, p + n) else ((6, 0, 0, p + n) : TokE)).2.2.1)) := by
      intro g _ g1 g2
      rw [k_X10_oneToken_263 _ _ _ _ _ _ _ _ _ _ B]
      by_cases q : g
      · obtain ⟨v1, v2, v3⟩ := g1 q
        have v0 := (dv_rng (T := T) (p := p) (n := n) (fun i hi => by have := (hin i hi).2; unfold cD at this; simpa using this)).1
        rw [if_neg (fun z => b01_0.mp z q), k_X10_oneToken_271 _ _ _ _ _ _ _ _ _ B, k_X10_oneToken_277 _ _ _ _ _ _ _ _ _ _ B, if_neg (fun z => b01_0.mp z q), k_X10_oneToken_283 _ _ _ _ _ _ _ _ _ _ _ B, k_X10_oneToken_290 _ _ _ _ _ _ _ _ _ _ _ _ B, f_token d B hk, bnd_v, pu_n, k_X10_oneToken_294 _ _ _ _ _ _ _ _ _ B, if_pos ⟨v2, by omega⟩, w32_id (by omega) (by omega), v1]
      · rw [if_pos (b01_0.mpr q), k_X10_oneToken_275 _ _ _ _ _ _ _ _ _ B, k_X10_oneToken_277 _ _ _ _ _ _ _ _ _ _ B, if_pos (b01_0.mpr q), k_X10_oneToken_289 _ _ _ _ _ _ _ _ _ _ _ B, k_X10_oneToken_290 _ _ _ _ _ _ _ _ _ _ _ _ B, f_token d B hk, bnd_v, pu_n, k_X10_oneToken_294 _ _ _ _ _ _ _ _ _ B, if_neg (g2 q)]
    by_cases q8 : 10 < n
    · rw [if_pos (by omega), k_X10_oneToken_262 _ _ _ _ _ _ _ _ _ B]
      have := fin False (fun z => z.elim) (fun _ z => by omega)
      rw [b01_n (fun z => z)] at this
      exact this
    · rw [if_neg (by omega), k_X10_oneToken_249 _ _ _ _ _ _ _ _ _ B]
      have hv := e1v (by omega)
      by_cases q9 : 2147483647 < v'
      · rw [if_pos ((lcm_gt _ _).mpr q9), k_X10_oneToken_262 _ _ _ _ _ _ _ _ _ B]
        have := fin False (fun z => z.elim) (fun _ z => by omega)
        rw [b01_n (fun z => z)] at this
        exact this
      · rw [if_neg (fun z => q9 ((lcm_gt _ _).mp z)), k_X10_oneToken_258 _ _ _ _ _ _ _ _ _ B]
        have := fin True (fun _ => ⟨hv, by omega, by omega⟩) (fun z => absurd trivial z)
        rw [b01_p trivial] at this
        exact this
  rw [if_pos (b01_0.mpr qD), k_X10_oneToken_296 _ _ _ _ _ _ _ _ _ _ B, f_byteAt d B t (by omega), bnd_v, pu_s, sg_a _ B, sg_b _ B, k_X10_oneToken_450 _ _ _ _ _ _ _ _ _ _ _ B, if_neg qD, eT, eL]
  have key : ((if p + 1 < L then T (p + 1) else -1) = 61 ∧ (T p = 58 ∨ T p = 47 ∨ T p = 60 ∨ T p = 62)) ↔ isTwo T L p := by
    by_cases z : p + 1 < L
    · rw [if_pos z]; exact ⟨fun q => ⟨⟨z, q.1⟩, q.2⟩, fun q => ⟨q.1.2, q.2⟩⟩
    · rw [if_neg z]; exact ⟨fun q => absurd q.1 (by decide), fun q => absurd q.1.1 z⟩
  have fin : ∀ (u : Int) (nx : Int) (a4 : Int), (∀ h', FA (F (d + 1)) 38099634 528 [vR m, vI p, vI (T p), vI (p + 1), vI a4, vI (b01 (T p ∈ sgL)), vI u] [] h' = some (.inl (some (vI nx)), h')) → FA (F (d + 1)) 38099634 500 [vR m, vI p, vI (T p), vI (p + 1), vI a4, vI (b01 (T p ∈ sgL)), vX] [vI u] (MH b m s) = some (.inl (some (vI nx)), MH b m (tk1 s (if T p ∈ sgL then 5 else 6) p u (lor (lshl u 56) 1))) := by
    intro u nx a4 hf
    rw [k_X10_oneToken_500 _ _ _ _ _ _ _ _ _ _ _ B]
    by_cases q : T p ∈ sgL
    · rw [if_neg (fun z => b01_0.mp z q), k_X10_oneToken_508 _ _ _ _ _ _ _ _ _ _ B, k_X10_oneToken_514 _ _ _ _ _ _ _ _ _ _ _ B, f_token d B hk, bnd_v, pu_n, hf, if_pos q]
    · rw [if_pos (b01_0.mpr q), k_X10_oneToken_512 _ _ _ _ _ _ _ _ _ _ B, k_X10_oneToken_514 _ _ _ _ _ _ _ _ _ _ _ B, f_token d B hk, bnd_v, pu_n, hf, if_neg q]
  by_cases q2 : isTwo T L p
  · rw [b01_p (key.mpr q2), if_neg (by decide), k_X10_oneToken_461 _ _ _ _ _ _ _ _ _ _ B, if_pos q2, if_pos q2]
    have hf : ∀ (u : Int) h', hc h' m = 43 → FA (F (d + 1)) 38099634 528 [vR m, vI p, vI (T p), vI (p + 1), vI 1, vI (b01 (T p ∈ sgL)), vI u] [] h' = some (.inl (some (vI (p + 2))), h') := by
      intro u h' _
      rw [c_X10_oneToken_528, if_neg (by decide), c_X10_oneToken_533, c_X10_oneToken_540, w32_id (by omega) (by omega), show p + 1 + 1 = p + 2 by omega]
    have hf : ∀ (u : Int) h', FA (F (d + 1)) 38099634 528 [vR m, vI p, vI (T p), vI (p + 1), vI 1, vI (b01 (T p ∈ sgL)), vI u] [] h' = some (.inl (some (vI (p + 2))), h') := by
      intro u h'
      rw [c_X10_oneToken_528, if_neg (by decide), c_X10_oneToken_533, c_X10_oneToken_540, w32_id (by omega) (by omega), show p + 1 + 1 = p + 2 by omega]
    unfold two
    by_cases c1 : T p = 58
    · rw [if_pos c1, if_pos c1, k_X10_oneToken_467 _ _ _ _ _ _ _ _ _ _ B, fin 300 (p + 2) 1 (hf 300)]
    rw [if_neg c1, if_neg c1, k_X10_oneToken_473 _ _ _ _ _ _ _ _ _ _ B]
    by_cases c2 : T p = 47
    · rw [if_pos c2, if_pos c2, k_X10_oneToken_479 _ _ _ _ _ _ _ _ _ _ B, fin 301 (p + 2) 1 (hf 301)]
    rw [if_neg c2, if_neg c2, k_X10_oneToken_485 _ _ _ _ _ _ _ _ _ _ B]
    by_cases c3 : T p = 60
    · rw [if_pos c3, if_pos c3, k_X10_oneToken_491 _ _ _ _ _ _ _ _ _ _ B, fin 302 (p + 2) 1 (hf 302)]
    rw [if_neg c3, if_neg c3, k_X10_oneToken_497 _ _ _ _ _ _ _ _ _ _ B, fin 303 (p + 2) 1 (hf 303)]
  · rw [b01_n (fun z => q2 (key.mp z)), if_pos rfl, k_X10_oneToken_457 _ _ _ _ _ _ _ _ _ _ B, if_neg q2, if_neg q2]
    rw [fin (T p) (p + 1) 0 (fun h' => by rw [c_X10_oneToken_528, if_pos rfl, c_X10_oneToken_539, c_X10_oneToken_540])]
end M1
