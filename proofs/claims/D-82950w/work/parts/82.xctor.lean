/-! x's CONSTRUCTOR: the judge -/
set_option maxRecDepth 100000
section XJ
variable {h h1 : PH} {W : Nat → Prop} {u : Nat}
/-- one field of a new object is set -/
theorem set_f {g : PH} {k f v tg : Nat} (I : HI g) (hk : hc g k = tg) (md : mdT tg = true) (hf : f ≠ eD) : Ev (· = k) 0 g (pR g f k v) := (Ev.rf (W := (· = k)) I).cR (Or.inl rfl) (by rw [hk]; exact md) hf
theorem ne_lo {k c q : Nat} (h : k + c ≤ q) (hc : 0 < c) : ¬ (q = k) := by omega
theorem gt_nO {g g' : PH} {t n : Nat} (e : hn g' = hn g) : inT t t (hc (nO g t n) (hn g')) := by
  rw [hc_nO', e, if_pos rfl]
  exact ⟨Nat.le_refl _, Nat.le_refl _⟩
theorem ne0 (I : HI h) {k tg : Nat} (hk : hc h k = tg) (ht : tg ≠ 0) : ¬ (0 = k) := fun z => by rw [← z] at hk; have := I.1.1.1; omega
def JudgeAt (h : PH) (k : Nat) : Prop := (hc h k = 4 ∧ gR h 235145234 k = k + 1 ∧ gR h 243533842 k = k + 5 ∧ gR h 268699666 k = k + 7 ∧ gR h 277088274 k = k + 9 ∧ gR h 285476882 k = k + 11 ∧ gR h 293865490 k = k + 13) ∧ ModesAt h (k + 1) ∧ PathAt h (k + 5) ∧ PlainAt h (k + 7) 0 ∧ PlainAt h (k + 9) 1 ∧ PlainAt h (k + 11) 2 ∧ PlainAt h (k + 13) 3
theorem JudgeAt.ev {k : Nat} (M : JudgeAt h k) (a : Ev W u h h1) (C : ConH h) (w : ∀ q, k ≤ q → q < k + 15 → ¬ W q) (w0 : ¬ W 0) : JudgeAt h1 k := by
  obtain ⟨⟨m1, m2, m3, m4, m5, m6, m7⟩, n1, n2, n3, n4, n5, n6⟩ := M
  have l := n6.2.2.2.1.lt C
  have s := a.ob (q := k) (by omega) (w k (by omega) (by omega)) (by rw [m1]; decide)
  exact ⟨⟨s.1.trans m1, (s.2.2.2.2.1 _).trans m2, (s.2.2.2.2.1 _).trans m3, (s.2.2.2.2.1 _).trans m4, (s.2.2.2.2.1 _).trans m5, (s.2.2.2.2.1 _).trans m6, (s.2.2.2.2.1 _).trans m7⟩, n1.ev a C (fun q h1 h2 => w q (by omega) (by omega)) w0, n2.ev a C (fun q h1 h2 => w q (by omega) (by omega)), n3.ev a C (fun q h1 h2 => w q (by omega) (by omega)) w0, n4.ev a C (fun q h1 h2 => w q (by omega) (by omega)) w0, n5.ev a C (fun q h1 h2 => w q (by omega) (by omega)) w0, n6.ev a C (fun q h1 h2 => w q (by omega) (by omega)) w0⟩
theorem f_newJudge (d : Nat) (I : HI h) (rm : Room 22 h) : ∃ h1, F (d + 6) 14426177 [vR (hn h)] (nO h 4 8) = some (.inl none, h1) ∧ Ev W0 22 h h1 ∧ JudgeAt h1 (hn h) ∧ hn h1 = hn h + 15 := by
  generalize hk : hn h = k
  have e0 : Ev W0 1 h (nO h 4 8) := (Ev.rf I).mO (by decide) (by decide)
  have hf0 : Fresh (nO h 4 8) k 4 := hk ▸ fr_nO
  have hn0 : hn (nO h 4 8) = k + 1 := by rw [hn_nO, hk]
  have r0 := rm.ev (u := 1) (u' := 21) e0
  generalize nO h 4 8 = g0 at *
  have rmO' : ∀ {g : PH} {n m : Nat}, Room (m + 1) g → n ≤ 64 → rmO g n := fun {g n m} r hn => by unfold Room at r; exact ⟨by omega, by omega⟩
  have md4 : mdT 4 = true := rfl
  -- modes
  obtain ⟨g1, a1, a2, a3, a4⟩ := f_newModes (d + 1) e0.2.2.1 (r0.le (by decide))
  rw [hn0] at a1 a3 a4
  have E1 := e0.tr a2 (fun _ _ z => z)
  have s1 := a2.ob (q := k) (by omega) (fun z => z) (by rw [hf0.1]; decide)
  have r1 := r0.ev (u := 4) (u' := 17) a2
  have c1 : hc g1 k = 4 := s1.1.trans hf0.1
  have b1 := set_f (f := 235145234) (v := k + 1) a2.2.2.1 c1 md4 (by decide)
  have z1 := ne0 a2.2.2.1 c1 (by decide)
  have E1' : Ev W0 5 h (pR g1 235145234 k (k + 1)) := E1.cR (Or.inr (by omega)) (by rw [c1]; rfl) (by decide)
  -- path
  have r1' : Room 17 (pR g1 235145234 k (k + 1)) := r1
  obtain ⟨g2, p1, p2, p3, p4⟩ := f_newPath (d + 4) b1.2.2.1 (r1'.le (by decide))
  have hn1 : hn (pR g1 235145234 k (k + 1)) = k + 5 := a4
  rw [hn1] at p1 p3 p4
  have E2 := E1'.tr p2 (fun _ _ z => z)
  have c2 : hc g2 k = 4 := (p2.ob (q := k) (by omega) (fun z => z) (by rw [hc_pR, c1]; decide)).1.trans c1
  have r2 := r1'.ev (u := 9) (u' := 8) p2
  have b2 := set_f (f := 243533842) (v := k + 5) p2.2.2.1 c2 md4 (by decide)
  have E2' : Ev W0 14 h (pR g2 243533842 k (k + 5)) := E2.cR (Or.inr (by omega)) (by rw [c2]; rfl) (by decide)
  -- plain modes
  have r2' : Room 8 (pR g2 243533842 k (k + 5)) := r2
  obtain ⟨g3, q1, q2, q3, q4⟩ := f_newPlain (d + 1) b2.2.2.1 (r2'.le (by decide)) 0
  have hn2 : hn (pR g2 243533842 k (k + 5)) = k + 7 := p4
  rw [hn2] at q1 q3 q4
  have E3 := E2'.tr q2 (fun _ _ z => z)
  have c3 : hc g3 k = 4 := (q2.ob (q := k) (by omega) (fun z => z) (by rw [hc_pR, c2]; decide)).1.trans c2
  have r3 := r2'.ev (u := 2) (u' := 6) q2
  have b3 := set_f (f := 268699666) (v := k + 7) q2.2.2.1 c3 md4 (by decide)
  have E3' : Ev W0 16 h (pR g3 268699666 k (k + 7)) := E3.cR (Or.inr (by omega)) (by rw [c3]; rfl) (by decide)
  have r3' : Room 6 (pR g3 268699666 k (k + 7)) := r3
  obtain ⟨g4, t1, t2, t3, t4⟩ := f_newPlain (d + 1) b3.2.2.1 (r3'.le (by decide)) 1
  have hn3 : hn (pR g3 268699666 k (k + 7)) = k + 9 := q4
  rw [hn3] at t1 t3 t4
  have E4 := E3'.tr t2 (fun _ _ z => z)
  have c4 : hc g4 k = 4 := (t2.ob (q := k) (by omega) (fun z => z) (by rw [hc_pR, c3]; decide)).1.trans c3
  have r4 := r3'.ev (u := 2) (u' := 4) t2
  have b4 := set_f (f := 277088274) (v := k + 9) t2.2.2.1 c4 md4 (by decide)
  have E4' : Ev W0 18 h (pR g4 277088274 k (k + 9)) := E4.cR (Or.inr (by omega)) (by rw [c4]; rfl) (by decide)
  have r4' : Room 4 (pR g4 277088274 k (k + 9)) := r4
  obtain ⟨g5, v1, v2, v3, v4⟩ := f_newPlain (d + 1) b4.2.2.1 (r4'.le (by decide)) 2
  have hn4 : hn (pR g4 277088274 k (k + 9)) = k + 11 := t4
  rw [hn4] at v1 v3 v4
  have E5 := E4'.tr v2 (fun _ _ z => z)
  have c5 : hc g5 k = 4 := (v2.ob (q := k) (by omega) (fun z => z) (by rw [hc_pR, c4]; decide)).1.trans c4
  have r5 := r4'.ev (u := 2) (u' := 2) v2
  have b5 := set_f (f := 285476882) (v := k + 11) v2.2.2.1 c5 md4 (by decide)
  have E5' : Ev W0 20 h (pR g5 285476882 k (k + 11)) := E5.cR (Or.inr (by omega)) (by rw [c5]; rfl) (by decide)
  have r5' : Room 2 (pR g5 285476882 k (k + 11)) := r5
  obtain ⟨g6, w1, w2, w3, w4⟩ := f_newPlain (d + 1) b5.2.2.1 (r5'.le (by decide)) 3
  have hn5 : hn (pR g5 285476882 k (k + 11)) = k + 13 := v4
  rw [hn5] at w1 w3 w4
  have E6 := E5'.tr w2 (fun _ _ z => z)
  have c6 : hc g6 k = 4 := (w2.ob (q := k) (by omega) (fun z => z) (by rw [hc_pR, c5]; decide)).1.trans c5
  have b6 := set_f (f := 293865490) (v := k + 13) w2.2.2.1 c6 md4 (by decide)
  have E6' : Ev W0 22 h (pR g6 293865490 k (k + 13)) := E6.cR (Or.inr (by omega)) (by rw [c6]; rfl) (by decide)
  -- what stays
  have k0 : ¬ (0 = k) := z1
  have tail6 : Ev (· = k) 0 g6 (pR g6 293865490 k (k + 13)) := b6
  have tail5 : Ev (· = k) 2 g5 (pR g6 293865490 k (k + 13)) := (b5.tr (w2.mono (W' := (· = k)) (fun _ _ z => z.elim) (Nat.le_refl _)) (fun _ _ z => z)).tr tail6 (fun _ _ z => z)
  have tail4 : Ev (· = k) 4 g4 (pR g6 293865490 k (k + 13)) := (b4.tr (v2.mono (W' := (· = k)) (fun _ _ z => z.elim) (Nat.le_refl _)) (fun _ _ z => z)).tr tail5 (fun _ _ z => z)
  have tail3 : Ev (· = k) 6 g3 (pR g6 293865490 k (k + 13)) := (b3.tr (t2.mono (W' := (· = k)) (fun _ _ z => z.elim) (Nat.le_refl _)) (fun _ _ z => z)).tr tail4 (fun _ _ z => z)
  have tail2 : Ev (· = k) 8 g2 (pR g6 293865490 k (k + 13)) := (b2.tr (q2.mono (W' := (· = k)) (fun _ _ z => z.elim) (Nat.le_refl _)) (fun _ _ z => z)).tr tail3 (fun _ _ z => z)
  have tail1 : Ev (· = k) 17 g1 (pR g6 293865490 k (k + 13)) := (b1.tr (p2.mono (W' := (· = k)) (fun _ _ z => z.elim) (Nat.le_refl _)) (fun _ _ z => z)).tr tail2 (fun _ _ z => z)
  have x2 := (p2.ob (q := k) (by omega) (fun z => z) (by rw [hc_pR, c1]; decide)).2.2.2.2.1
  have x3 := (q2.ob (q := k) (by omega) (fun z => z) (by rw [hc_pR, c2]; decide)).2.2.2.2.1
  have x4 := (t2.ob (q := k) (by omega) (fun z => z) (by rw [hc_pR, c3]; decide)).2.2.2.2.1
  have x5 := (v2.ob (q := k) (by omega) (fun z => z) (by rw [hc_pR, c4]; decide)).2.2.2.2.1
  have x6 := (w2.ob (q := k) (by omega) (fun z => z) (by rw [hc_pR, c5]; decide)).2.2.2.2.1
  refine ⟨_, ?_, E6', ⟨⟨c6, ?_, ?_, ?_, ?_, ?_, if_pos ⟨rfl, rfl⟩⟩, ?_, ?_, ?_, ?_, ?_, ?_⟩, w4⟩
  · rw [e_X3_init, c_X3_init_0 _ _ _ (by rw [hf0.1]; decide) (rmO' r0 (by decide)) (gt_nO rfl), hn0, a1, bnd_v, pu_n,
      c_X3_init_12 _ _ (k + 1) k g1 (i11 c1) (rmO' r1 (by decide)) (gt_nO rfl), show hn g1 = k + 5 from a4, p1, bnd_v, pu_n,
      c_X3_init_23 _ _ (k + 5) k g2 (i11 c2) (rmO' r2 (by decide)) (gt_nO rfl), show hn g2 = k + 7 from p4, q1, bnd_v, pu_n,
      c_X3_init_35 _ _ (k + 7) k g3 (i11 c3) (rmO' r3 (by decide)) (gt_nO rfl), show hn g3 = k + 9 from q4, t1, bnd_v, pu_n,
      c_X3_init_47 _ _ (k + 9) k g4 (i11 c4) (rmO' r4 (by decide)) (gt_nO rfl), show hn g4 = k + 11 from t4, v1, bnd_v, pu_n,
      c_X3_init_59 _ _ (k + 11) k g5 (i11 c5) (rmO' r5 (by decide)) (gt_nO rfl), show hn g5 = k + 13 from v4, w1, bnd_v, pu_n,
      c_X3_init_71 _ _ _ _ _ (i11 c6)]
  · rw [rR_pR, if_neg (fun z => absurd z.1 (by decide)), x6 _, rR_pR, if_neg (fun z => absurd z.1 (by decide)), x5 _, rR_pR, if_neg (fun z => absurd z.1 (by decide)), x4 _, rR_pR, if_neg (fun z => absurd z.1 (by decide)), x3 _, rR_pR, if_neg (fun z => absurd z.1 (by decide)), x2 _, rR_pR, if_pos ⟨rfl, rfl⟩]
  · rw [rR_pR, if_neg (fun z => absurd z.1 (by decide)), x6 _, rR_pR, if_neg (fun z => absurd z.1 (by decide)), x5 _, rR_pR, if_neg (fun z => absurd z.1 (by decide)), x4 _, rR_pR, if_neg (fun z => absurd z.1 (by decide)), x3 _, rR_pR, if_pos ⟨rfl, rfl⟩]
  · rw [rR_pR, if_neg (fun z => absurd z.1 (by decide)), x6 _, rR_pR, if_neg (fun z => absurd z.1 (by decide)), x5 _, rR_pR, if_neg (fun z => absurd z.1 (by decide)), x4 _, rR_pR, if_pos ⟨rfl, rfl⟩]
  · rw [rR_pR, if_neg (fun z => absurd z.1 (by decide)), x6 _, rR_pR, if_neg (fun z => absurd z.1 (by decide)), x5 _, rR_pR, if_pos ⟨rfl, rfl⟩]
  · rw [rR_pR, if_neg (fun z => absurd z.1 (by decide)), x6 _, rR_pR, if_pos ⟨rfl, rfl⟩]
  · exact a3.ev tail1 a2.2.2.1.1 (fun q h1 h2 => ne_lo h1 (by decide)) k0
  · exact p3.ev tail2 p2.2.2.1.1 (fun q h1 h2 => ne_lo h1 (by decide))
  · exact q3.ev tail3 q2.2.2.1.1 (fun q h1 h2 => ne_lo h1 (by decide)) k0
  · exact t3.ev tail4 t2.2.2.1.1 (fun q h1 h2 => ne_lo h1 (by decide)) k0
  · exact v3.ev tail5 v2.2.2.1.1 (fun q h1 h2 => ne_lo h1 (by decide)) k0
  · exact w3.ev tail6 w2.2.2.1.1 (fun q h1 h2 => ne_lo h1 (by decide)) k0
end XJ
