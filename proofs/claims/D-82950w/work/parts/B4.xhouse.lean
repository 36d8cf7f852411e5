/-! x's CONSTRUCTOR: the house, whole -/
set_option maxRecDepth 100000
set_option maxHeartbeats 1000000
section XHq
variable {h g g2 : PH} {u : Nat}
theorem MachAt.ev {W : Nat → Prop} {k : Nat} (M : MachAt g k) (E : Ev W u g g2) (C : ConH g) (kl : k + 96 ≤ hn g) (w : ∀ q, k ≤ q → q < k + 96 → ¬ W q) (w0 : ¬ W 0) : MachAt g2 k := by
  obtain ⟨m1, m2, m3, m4, m5, ⟨m6, m7⟩, ⟨m8, m9⟩, ⟨m10, m11⟩, ⟨m12, m13⟩, ⟨m14, m15, m16⟩, ⟨m17, m18, m19⟩, ⟨m20, m21, m22⟩, ⟨m23, m24, m25⟩, ⟨m26, m27, m28⟩, ⟨m29, m30⟩, m31⟩ := M
  have S := E.ob (q := k) (by omega) (w k (by omega) (by omega)) (by rw [m1]; decide)
  have S8 := E.ob (q := k + 8) (by omega) (w _ (by omega) (by omega)) (by rw [m15]; decide)
  have hc' : ∀ q, q < hn g → hc g2 q = hc g q := E.1.2.2.2.1
  have hl' : ∀ q, q < hn g → hl g2 q = hl g q := E.1.2.2.2.2
  have R := S.2.2.2.2.1
  refine ⟨S.1.trans m1, fun f => (S.2.2.1 f).trans (m2 f), fun f => (S.2.2.2.1 f).trans (m3 f), (R _).trans m4, (R _).trans m5, ⟨(R _).trans m6, m7.ev E C (fun q y1 y2 => w q (by omega) (by omega)) w0⟩, ⟨(R _).trans m8, E.al C (w _ (by omega) (by omega)) w0 m9⟩, ⟨(R _).trans m10, E.al C (w _ (by omega) (by omega)) w0 m11⟩, ⟨(R _).trans m12, E.al C (w _ (by omega) (by omega)) w0 m13⟩, ⟨(R _).trans m14, (hc' _ (by omega)).trans m15, (hl' _ (by omega)).trans m16⟩, ⟨(R _).trans m17, (hc' _ (by omega)).trans m18, (hl' _ (by omega)).trans m19⟩, ⟨(R _).trans m20, (hc' _ (by omega)).trans m21, (hl' _ (by omega)).trans m22⟩, ⟨(R _).trans m23, (hc' _ (by omega)).trans m24, (hl' _ (by omega)).trans m25⟩, ⟨(R _).trans m26, (hc' _ (by omega)).trans m27, (hl' _ (by omega)).trans m28⟩, ⟨(R _).trans m29, (hc' _ (by omega)).trans m30⟩, fun i hi => ⟨(S8.2.2.2.2.2.2.2 _).trans (m31 i hi).1, (m31 i hi).2.ev E C (fun q y1 y2 => w q (by omega) (by omega))⟩⟩
/-- the house, as its constructor leaves it -/
def HouseAt (h : PH) (x : Nat) : Prop := hc h x = 1 ∧ ((∀ f, f ≠ 50397700 → gI h f x = 0) ∧ gI h 50397700 x = -1 ∧ ∀ f, gJ h f x = 0) ∧ (gR h 66054 x = x + 1 ∧ hc h (x + 1) = 67 ∧ hl h (x + 1) = 480) ∧ (gR h 16843270 x = x + 2 ∧ LexC h (x + 2) KXL) ∧ (gR h 25231878 x = x + 7 ∧ JudgeAt h (x + 7)) ∧ (gR h 33620486 x = x + 22 ∧ AL h (x + 22) []) ∧ (gR h 58786310 x = x + 24 ∧ MachAt h (x + 24)) ∧ (gR h 67174918 x = x + 120 ∧ MachAt h (x + 120)) ∧ (gR h 83952134 x = x + 216 ∧ AL h (x + 216) [])
theorem f_newHouse (d : Nat) (I : HI h) (rm : Room 2000 h) : ∃ h1, F (d + 10) 4196369 [vR (hn h)] (nO h 1 11) = some (.inl none, h1) ∧ Ev W0 1764 h h1 ∧ HouseAt h1 (hn h) ∧ hn h1 = hn h + 217 := by
  obtain ⟨gP, x0, E, ⟨c1, nP⟩, ⟨i0, j0⟩, ⟨r1, r2, r3⟩, ⟨t1, t2⟩, L, J, A⟩ := house1 d I rm
  have z0 : ¬ (0 = hn h) := by have := I.1.1.2.1; omega
  have lP : hn h < hn gP := by omega
  have eQ0 : Ev W0 59 h (pR gP 33620486 (hn h) (hn h + 22)) := E.cR (Or.inr (Nat.le_refl _)) (by rw [c1]; rfl) (by decide)
  have eQ : Ev W0 59 h (pI (pR gP 33620486 (hn h) (hn h + 22)) 50397700 (hn h) (-1)) := eQ0.cI (Or.inr (Nat.le_refl _)) (by show mdT (hc gP (hn h)) = true; rw [c1]; rfl)
  have eQ' : Ev (· = hn h) 0 gP (pI (pR gP 33620486 (hn h) (hn h + 22)) 50397700 (hn h) (-1)) := ((Ev.rf (W := (· = hn h)) E.2.2.1).cR (f := 33620486) (w := hn h + 22) (Or.inl rfl) (by rw [c1]; rfl) (by decide)).cI (Or.inl rfl) (by show mdT (hc gP (hn h)) = true; rw [c1]; rfl)
  have kQ : (∀ f, f ≠ 50397700 → gI (pI (pR gP 33620486 (hn h) (hn h + 22)) 50397700 (hn h) (-1)) f (hn h) = 0) ∧ gI (pI (pR gP 33620486 (hn h) (hn h + 22)) 50397700 (hn h) (-1)) 50397700 (hn h) = -1 ∧ (∀ f, gJ (pI (pR gP 33620486 (hn h) (hn h + 22)) 50397700 (hn h) (-1)) f (hn h) = 0) ∧ gR (pI (pR gP 33620486 (hn h) (hn h + 22)) 50397700 (hn h) (-1)) 33620486 (hn h) = hn h + 22 ∧ (∀ f, f ≠ 33620486 → gR (pI (pR gP 33620486 (hn h) (hn h + 22)) 50397700 (hn h) (-1)) f (hn h) = gR gP f (hn h)) := ⟨fun f hf => by rw [rI_pI, if_neg (fun z => hf z.1)]; exact i0 f, if_pos ⟨rfl, rfl⟩, fun f => j0 f, if_pos ⟨rfl, rfl⟩, fun f hf => if_neg (fun z => hf z.1)⟩
  have cQ : hc (pI (pR gP 33620486 (hn h) (hn h + 22)) 50397700 (hn h) (-1)) (hn h) = 1 := c1
  have nQ : hn (pI (pR gP 33620486 (hn h) (hn h + 22)) 50397700 (hn h) (-1)) = hn h + 24 := nP
  have xQ : FA (F (d + 9)) 4196369 45 [vR (hn h)] [vR (hn h + 22), vR (hn h)] gP = bnd (F (d + 9) 25702497 [vR (hn h + 24)] (nO (pI (pR gP 33620486 (hn h) (hn h + 22)) 50397700 (hn h) (-1)) 6 27)) (fun v h' => FA (F (d + 9)) 4196369 61 [vR (hn h)] (pu v [vR (hn h + 24), vR (hn h)]) h') := by
    rw [c_X1_init_45 _ _ _ _ _ (i11 c1) (i11 c1) (rm_O (n := 27) (Room.ev (u := 59) (u' := 1900) (rm.le (by decide)) E) (by decide) (by decide)) (gt_nO rfl), nP]
  generalize hgq : pI (pR gP 33620486 (hn h) (hn h + 22)) 50397700 (hn h) (-1) = gQ at eQ eQ' kQ cQ nQ xQ
  clear hgq eQ0
  obtain ⟨gM, a1, a2, a3, a4⟩ := f_newMachine (d + 1) eQ.2.2.1 (Room.ev (u := 59) (u' := 900) (rm.le (by decide)) eQ)
  have SM := a2.ob (q := hn h) (by rw [nQ]; omega) (fun z => z) (by rw [cQ]; decide)
  have EM : Ev W0 (59 + 852) h gM := eQ.tr a2 (fun _ _ z => z)
  have cM : hc gM (hn h) = 1 := SM.1.trans cQ
  rw [nQ] at a1 a3 a4
  have lM : hn h < hn gM := by rw [a4]; omega
  obtain ⟨gT, b1, b2, b3, b4⟩ := f_newMachine (d + 1) (pRI (f := 58786310) (w := hn h + 24) EM (Nat.le_refl _) cM (by decide)) (rm_st (v := 900) (n := 2000) rm EM (by decide))
  obtain ⟨T1, T2, T3, T4⟩ := stp EM (Nat.le_refl _) lM cM (by decide) b2
  have cT : hc gT (hn h) = 1 := T4.2.2.2.trans cM
  rw [show hn (pR gM 58786310 (hn h) (hn h + 24)) = hn gM from rfl, a4] at b1 b3 b4
  have lT : hn h < hn gT := by rw [b4]; omega
  obtain ⟨gO, e1, e2, e3, e4⟩ := f_list0 (d + 6) (pRI (f := 67174918) (w := hn h + 24 + 96) T1 (Nat.le_refl _) cT (by decide))
  obtain ⟨O1, O2, O3, O4⟩ := stp T1 (Nat.le_refl _) lT cT (by decide) e2
  have cO : hc gO (hn h) = 1 := O4.2.2.2.trans cT
  rw [show hn (pR gT 67174918 (hn h) (hn h + 24 + 96)) = hn gT from rfl, b4] at e1 e3 e4
  have F1 : Ev W0 (59 + 852 + 852 + 1) h (pR gO 83952134 (hn h) (hn h + 24 + 96 + 96)) := O1.cR (Or.inr (Nat.le_refl _)) (by rw [cO]; rfl) (by decide)
  have F2 : Ev (· = hn h) 0 gO (pR gO 83952134 (hn h) (hn h + 24 + 96 + 96)) := (Ev.rf (W := (· = hn h)) O1.2.2.1).cR (Or.inl rfl) (by rw [cO]; rfl) (by decide)
  have U3 := O2.tr F2 (fun _ _ z => z)
  have U2 := T2.tr U3 (fun _ _ z => z)
  have U1 := (a2.mono (W' := (· = hn h)) (fun _ _ z => z.elim) (Nat.le_refl _)).tr U2 (fun _ _ z => z)
  have U0 := eQ'.tr U1 (fun _ _ z => z)
  have RR : ∀ f, f ≠ 33620486 → f ≠ 58786310 → f ≠ 67174918 → f ≠ 83952134 → gR (pR gO 83952134 (hn h) (hn h + 24 + 96 + 96)) f (hn h) = gR gP f (hn h) := fun f y1 y2 y3 y4 => by
    rw [rR_pR, if_neg (fun z => y4 z.1)]
    exact (O4.2.2.1 f y3).trans ((T4.2.2.1 f y2).trans ((SM.2.2.2.2.1 f).trans (kQ.2.2.2.2 f y1)))
  have V1 : gR (pR gO 83952134 (hn h) (hn h + 24 + 96 + 96)) 33620486 (hn h) = hn h + 22 := by
    rw [rR_pR, if_neg (fun z => absurd z.1 (by decide))]
    exact (O4.2.2.1 _ (by decide)).trans ((T4.2.2.1 _ (by decide)).trans ((SM.2.2.2.2.1 _).trans kQ.2.2.2.1))
  have V2 : gR (pR gO 83952134 (hn h) (hn h + 24 + 96 + 96)) 58786310 (hn h) = hn h + 24 := by
    rw [rR_pR, if_neg (fun z => absurd z.1 (by decide))]
    exact (O4.2.2.1 _ (by decide)).trans T3
  have V3 : gR (pR gO 83952134 (hn h) (hn h + 24 + 96 + 96)) 67174918 (hn h) = hn h + 24 + 96 := by
    rw [rR_pR, if_neg (fun z => absurd z.1 (by decide))]
    exact O3
  have k1 : hn h + 1 < hn gP := by omega
  refine ⟨_, ?_, F1, ⟨cO, ⟨fun f hf => (O4.1 f).trans ((T4.1 f).trans ((SM.2.2.1 f).trans (kQ.1 f hf))), (O4.1 _).trans ((T4.1 _).trans ((SM.2.2.1 _).trans kQ.2.1)), fun f => (O4.2.1 f).trans ((T4.2.1 f).trans ((SM.2.2.2.1 f).trans (kQ.2.2.1 f)))⟩, ⟨(RR _ (by decide) (by decide) (by decide) (by decide)).trans r1, (U0.1.2.2.2.1 _ k1).trans t1, (U0.1.2.2.2.2 _ k1).trans t2⟩, ⟨(RR _ (by decide) (by decide) (by decide) (by decide)).trans r2, L.ev U0 (by omega) (fun q y1 y2 => ne_lo (c := 2) y1 (by decide))⟩, ⟨(RR _ (by decide) (by decide) (by decide) (by decide)).trans r3, J.ev U0 E.2.2.1.1 (fun q y1 y2 => ne_lo (c := 7) y1 (by decide)) z0⟩, ⟨V1, U0.al E.2.2.1.1 (ne_lo (c := 22) (Nat.le_refl _) (by decide)) z0 A⟩, ⟨V2, a3.ev U2 EM.2.2.1.1 (by rw [a4]; omega) (fun q y1 y2 => ne_lo (c := 24) y1 (by decide)) z0⟩, ⟨V3, b3.ev U3 T1.2.2.1.1 (by rw [b4]; omega) (fun q y1 y2 => ne_lo (c := 120) y1 (by decide)) z0⟩, ⟨if_pos ⟨rfl, rfl⟩, F2.al O1.2.2.1.1 (ne_lo (c := 216) (Nat.le_refl _) (by decide)) z0 e3⟩⟩, e4⟩
  rw [x0, xQ, a1, bnd_v, pu_n, c_X1_init_61 _ _ _ _ _ (i11 cM) (rm_O (n := 27) (Room.ev (u := 59 + 852) (u' := 900) (rm.le (by decide)) EM) (by decide) (by decide)) (gt_nO rfl), a4, b1, bnd_v, pu_n, c_X1_init_72 _ _ _ _ _ (i11 cT) (rm_O (n := 3) (Room.ev (u := 59 + 852 + 852) (u' := 100) (rm.le (by decide)) T1) (by decide) (by decide)) (gt_nO rfl), b4, e1, bnd_v, pu_n, c_X1_init_83 _ _ _ _ _ (i11 cO)]
end XHq
