/-! x's HOUSE: kept by what leaves its objects -/
set_option maxRecDepth 100000
section XHe
variable {h h1 : PH} {u x : Nat} {W : Nat → Prop}
theorem HouseAt.ev (H : HouseAt h x) (E : Ev W u h h1) (C : ConH h) (kl : x + 217 ≤ hn h) (w : ∀ q, x ≤ q → q < x + 217 → ¬ W q) (w0 : ¬ W 0) : HouseAt h1 x := by
  obtain ⟨a1, ⟨a2, a3, a4⟩, ⟨b1, b2, b3⟩, ⟨c1, c2⟩, ⟨d1, d2⟩, ⟨e1, e2⟩, ⟨f1, f2⟩, ⟨g1, g2⟩, ⟨i1, i2⟩⟩ := H
  have S := E.ob (q := x) (by omega) (w x (by omega) (by omega)) (by rw [a1]; decide)
  have R := S.2.2.2.2.1
  have hc' : ∀ q, q < hn h → hc h1 q = hc h q := E.1.2.2.2.1
  have hl' : ∀ q, q < hn h → hl h1 q = hl h q := E.1.2.2.2.2
  refine ⟨S.1.trans a1, ⟨fun f hf => (S.2.2.1 f).trans (a2 f hf), (S.2.2.1 _).trans a3, fun f => (S.2.2.2.1 f).trans (a4 f)⟩, ⟨(R _).trans b1, (hc' _ (by omega)).trans b2, (hl' _ (by omega)).trans b3⟩, ⟨(R _).trans c1, c2.ev E (by omega) (fun q y1 y2 => w q (by omega) (by omega))⟩, ⟨(R _).trans d1, d2.ev E C (fun q y1 y2 => w q (by omega) (by omega)) w0⟩, ⟨(R _).trans e1, E.al C (w _ (by omega) (by omega)) w0 e2⟩, ⟨(R _).trans f1, f2.ev E C (by omega) (fun q y1 y2 => w q (by omega) (by omega)) w0⟩, ⟨(R _).trans g1, g2.ev E C (by omega) (fun q y1 y2 => w q (by omega) (by omega)) w0⟩, ⟨(R _).trans i1, E.al C (w _ (by omega) (by omega)) w0 i2⟩⟩
/-- a heap in which all is as it was, with more behind it -/
theorem ev_of_sm (I : HI h1) (hn1 : hn h ≤ hn h1) (hs1 : hs h ≤ hs h1) (hk1 : hk h ≤ hk h1) (sm : ∀ r, r < hn h → SmR h h1 r) (I0 : HI h) : ∃ u, Ev W0 u h h1 := by
  refine ⟨hs h1 + hk h1, ⟨hn1, hs1, hk1, fun r hr => (sm r hr).1, fun r hr => (sm r hr).2.1⟩, fun q hq _ => ⟨fun _ => sm q hq, fun h48 j => ?_⟩, I, by omega, by omega⟩
  rcases I0.2 q h48 with z | ⟨z, -⟩
  · rw [z]
    exact (sm 0 I0.1.1.2.1).2.2.2.2.2.2.2 j
  · exact (sm _ z).2.2.2.2.2.2.2 j
end XHe
