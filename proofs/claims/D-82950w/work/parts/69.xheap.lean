/-! x's HEAP: how it may change; lists -/
set_option maxRecDepth 100000
abbrev eD : Nat := 3534774466
abbrev eS : Nat := 3543163072
abbrev eM : Nat := 3526385856
section RD
variable {h : PH} {f g r q t n : Nat} {v i j z : Int} {w : Nat}
theorem rI_pI : gI (pI h f r v) g q = if g = f ∧ q = r then v else gI h g q := rfl
theorem rI_pJ : gI (pJ h f r v) g q = gI h g q := rfl
theorem rI_pR : gI (pR h f r w) g q = gI h g q := rfl
theorem rI_qI : gI (qI h r i v) g q = gI h g q := rfl
theorem rI_qJ : gI (qJ h r i v) g q = gI h g q := rfl
theorem rI_qR : gI (qR h r i w) g q = gI h g q := rfl
theorem rI_nO : gI (nO h t n) g q = if q = hn h then 0 else gI h g q := rfl
theorem rI_nA : gI (nA h t v) g q = gI h g q := rfl
theorem rI_aC : gI (aC h r i q j z) g w = gI h g w := rfl
theorem rJ_pI : gJ (pI h f r v) g q = gJ h g q := rfl
theorem rJ_pJ : gJ (pJ h f r v) g q = if g = f ∧ q = r then v else gJ h g q := rfl
theorem rJ_pR : gJ (pR h f r w) g q = gJ h g q := rfl
theorem rJ_qI : gJ (qI h r i v) g q = gJ h g q := rfl
theorem rJ_qJ : gJ (qJ h r i v) g q = gJ h g q := rfl
theorem rJ_qR : gJ (qR h r i w) g q = gJ h g q := rfl
theorem rJ_nO : gJ (nO h t n) g q = if q = hn h then 0 else gJ h g q := rfl
theorem rJ_nA : gJ (nA h t v) g q = gJ h g q := rfl
theorem rJ_aC : gJ (aC h r i q j z) g w = gJ h g w := rfl
theorem rR_pI : gR (pI h f r v) g q = gR h g q := rfl
theorem rR_pJ : gR (pJ h f r v) g q = gR h g q := rfl
theorem rR_pR : gR (pR h f r w) g q = if g = f ∧ q = r then w else gR h g q := rfl
theorem rR_qI : gR (qI h r i v) g q = gR h g q := rfl
theorem rR_qJ : gR (qJ h r i v) g q = gR h g q := rfl
theorem rR_qR : gR (qR h r i w) g q = gR h g q := rfl
theorem rR_nO : gR (nO h t n) g q = if q = hn h then 0 else gR h g q := rfl
theorem rR_nA : gR (nA h t v) g q = gR h g q := rfl
theorem rR_aC : gR (aC h r i q j z) g w = gR h g w := rfl
theorem sI_pI : eI (pI h f r v) q j = eI h q j := rfl
theorem sI_pJ : eI (pJ h f r v) q j = eI h q j := rfl
theorem sI_pR : eI (pR h f r w) q j = eI h q j := rfl
theorem sI_qI : eI (qI h r i v) q j = if q = r ∧ j = i then v else eI h q j := rfl
theorem sI_qJ : eI (qJ h r i v) q j = eI h q j := rfl
theorem sI_qR : eI (qR h r i w) q j = eI h q j := rfl
theorem sI_nO : eI (nO h t n) q j = eI h q j := rfl
theorem sI_nA : eI (nA h t v) q j = if q = hn h then 0 else eI h q j := rfl
theorem sJ_pI : eJ (pI h f r v) q j = eJ h q j := rfl
theorem sJ_pJ : eJ (pJ h f r v) q j = eJ h q j := rfl
theorem sJ_pR : eJ (pR h f r w) q j = eJ h q j := rfl
theorem sJ_qI : eJ (qI h r i v) q j = eJ h q j := rfl
theorem sJ_qJ : eJ (qJ h r i v) q j = if q = r ∧ j = i then v else eJ h q j := rfl
theorem sJ_qR : eJ (qR h r i w) q j = eJ h q j := rfl
theorem sJ_nO : eJ (nO h t n) q j = eJ h q j := rfl
theorem sJ_nA : eJ (nA h t v) q j = if q = hn h then 0 else eJ h q j := rfl
theorem sR_pI : eR (pI h f r v) q j = eR h q j := rfl
theorem sR_pJ : eR (pJ h f r v) q j = eR h q j := rfl
theorem sR_pR : eR (pR h f r w) q j = eR h q j := rfl
theorem sR_qI : eR (qI h r i v) q j = eR h q j := rfl
theorem sR_qJ : eR (qJ h r i v) q j = eR h q j := rfl
theorem sR_qR : eR (qR h r i w) q j = if q = r ∧ j = i then w else eR h q j := rfl
theorem sR_nO : eR (nO h t n) q j = eR h q j := rfl
theorem sR_nA : eR (nA h t v) q j = if q = hn h then 0 else eR h q j := rfl
theorem hc_pI : hc (pI h f r v) q = hc h q := rfl
theorem hc_pJ : hc (pJ h f r v) q = hc h q := rfl
theorem hc_pR : hc (pR h f r w) q = hc h q := rfl
theorem hc_qI : hc (qI h r i v) q = hc h q := rfl
theorem hc_qJ : hc (qJ h r i v) q = hc h q := rfl
theorem hc_qR : hc (qR h r i w) q = hc h q := rfl
theorem hc_aC : hc (aC h r i q j z) w = hc h w := rfl
theorem hc_nO' : hc (nO h t n) q = if q = hn h then t else hc h q := rfl
theorem hc_nA' : hc (nA h t v) q = if q = hn h then t else hc h q := rfl
theorem hl_pI : hl (pI h f r v) q = hl h q := rfl
theorem hl_pJ : hl (pJ h f r v) q = hl h q := rfl
theorem hl_pR : hl (pR h f r w) q = hl h q := rfl
theorem hl_qI : hl (qI h r i v) q = hl h q := rfl
theorem hl_qJ : hl (qJ h r i v) q = hl h q := rfl
theorem hl_qR : hl (qR h r i w) q = hl h q := rfl
theorem hl_nO : hl (nO h t n) q = hl h q := rfl
theorem hl_aC : hl (aC h r i q j z) w = hl h w := rfl
theorem hl_nA' : hl (nA h t v) q = if q = hn h then v else hl h q := rfl
theorem hn_pI : hn (pI h f r v) = hn h := rfl
theorem hn_pJ : hn (pJ h f r v) = hn h := rfl
theorem hn_pR : hn (pR h f r w) = hn h := rfl
theorem hn_qI : hn (qI h r i v) = hn h := rfl
theorem hn_qJ : hn (qJ h r i v) = hn h := rfl
theorem hn_qR : hn (qR h r i w) = hn h := rfl
theorem hn_nO : hn (nO h t n) = hn h + 1 := rfl
theorem hn_nA : hn (nA h t v) = hn h + 1 := rfl
theorem hn_aC : hn (aC h r i q j z) = hn h := rfl
theorem kc_pI : kc (pI h f r v) q = kc h q := rfl
theorem kc_qR : kc (qR h r i w) q = kc h q := rfl
theorem kc_nA : kc (nA h t v) q = kc h q := rfl
end RD
/-- every list has its own array, or a constant one -/
def LSt (h : PH) : Prop := ∀ r, hc h r = 48 → gR h eD r = 0 ∨ (gR h eD r < hn h ∧ ((hc h (gR h eD r) = 71 ∧ ∀ r', hc h r' = 48 → gR h eD r' = gR h eD r → r' = r) ∨ (kc h (gR h eD r) = 72 ∧ hl h (gR h eD r) = 0)))
def HI (h : PH) : Prop := ConH h ∧ LSt h
/-- an object is as it was; so is a list's array -/
def Ob (h h' : PH) (q : Nat) : Prop := (hc h q ≠ 71 → SmR h h' q) ∧ (hc h q = 48 → ∀ j, eR h' (gR h eD q) j = eR h (gR h eD q) j)
/-- from h to h': only objects of W have changed, u units of room are taken -/
def Ev (W : Nat → Prop) (u : Nat) (h h' : PH) : Prop := Le h h' ∧ (∀ q, q < hn h → ¬ W q → Ob h h' q) ∧ HI h' ∧ hs h' ≤ hs h + 64 * u ∧ hk h' ≤ hk h + u
def Room (u : Nat) (h : PH) : Prop := hs h + 64 * u ≤ sLim ∧ hk h + u ≤ cLim
abbrev W0 : Nat → Prop := fun _ => False
section EV
variable {h h1 h2 : PH} {W W' : Nat → Prop} {u u' : Nat}
theorem Ob.tr {q : Nat} (a : Ob h h1 q) (b : Ob h1 h2 q) (e : hc h1 q = hc h q) : Ob h h2 q := by
  refine ⟨fun z => (a.1 z).tr (b.1 (by rw [e]; exact z)), fun z j => ?_⟩
  have s := a.1 (by rw [z]; decide)
  have := b.2 (by rw [e]; exact z) j
  rw [s.2.2.2.2.1 eD] at this
  exact this.trans (a.2 z j)
theorem Ev.rf (I : HI h) : Ev W 0 h h := ⟨Le.rf, fun q _ _ => ⟨fun _ => SmR.rf, fun _ _ => rfl⟩, I, Nat.le_refl _, Nat.le_refl _⟩
theorem Ev.tr (a : Ev W u h h1) (b : Ev W' u' h1 h2) (hw : ∀ q, q < hn h → W' q → W q) : Ev W (u + u') h h2 := by
  obtain ⟨a1, a2, a3, a4, a5⟩ := a
  obtain ⟨b1, b2, b3, b4, b5⟩ := b
  refine ⟨a1.tr b1, fun q hq hn => ?_, b3, by omega, by omega⟩
  exact (a2 q hq hn).tr (b2 q (by have := a1.1; omega) (fun z => hn (hw q hq z))) (a1.2.2.2.1 q hq)
theorem Ev.mono (a : Ev W u h h1) (hw : ∀ q, q < hn h → W q → W' q) (hu : u ≤ u') : Ev W' u' h h1 := ⟨a.1, fun q hq z => a.2.1 q hq (fun y => z (hw q hq y)), a.2.2.1, by have := a.2.2.2.1; omega, by have := a.2.2.2.2; omega⟩
theorem Room.ev (r : Room (u + u') h) (a : Ev W u h h1) : Room u' h1 := by
  have a4 := a.2.2.2.1
  have a5 := a.2.2.2.2
  unfold Room at r ⊢
  omega
theorem Room.le (r : Room u h) (e : u' ≤ u) : Room u' h := by
  unfold Room at r ⊢
  omega
/-- what is read of an unchanged object -/
theorem Ev.ob {q : Nat} (a : Ev W u h h1) (hq : q < hn h) (hw : ¬ W q) (h71 : hc h q ≠ 71) : SmR h h1 q := (a.2.1 q hq hw).1 h71
theorem ev_kc (a : Ev W u h h1) (C : ConH h) (hw : ¬ W 0) (r : Nat) : kc h1 r = kc h r := (a.ob C.1.2.1 hw (by rw [C.1.1]; decide)).2.2.2.2.1 _
theorem AL.lt {r : Nat} {l : List Nat} (A : AL h r l) (C : ConH h) : r < hn h := by
  rcases Nat.lt_or_ge r (hn h) with z | z
  · exact z
  · have := C.1.2.2.1 r z
    rw [A.1] at this
    exact absurd this (by decide)
theorem AL.alt {r : Nat} {l : List Nat} (A : AL h r l) (C : ConH h) : gR h eD r < hn h := by
  rcases Nat.lt_or_ge (gR h eD r) (hn h) with z | z
  · exact z
  · have := C.1.2.2.1 _ z
    rcases A.2.2.1 with e | ⟨e, -⟩
    · have e : hc h (gR h eD r) = 71 := e
      rw [e] at this
      exact absurd this (by decide)
    · have := (C.1.2.2.2 (gR h eD r) (by have e : kc h (gR h eD r) = 72 := e
                                         rw [e]; decide)).1
      omega
/-- an unchanged list is the same list -/
theorem Ev.al {r : Nat} {l : List Nat} (a : Ev W u h h1) (C : ConH h) (hw : ¬ W r) (h0 : ¬ W 0) (A : AL h r l) : AL h1 r l := by
  have hr := A.lt C
  have ha := A.alt C
  have o := a.2.1 r hr hw
  have s := o.1 (by rw [A.1]; decide)
  have e1 : gR h1 eD r = gR h eD r := s.2.2.2.2.1 eD
  have ek := ev_kc a C h0
  refine ⟨by rw [s.1]; exact A.1, by rw [s.2.2.1]; exact A.2.1, ?_, ?_, fun j hj => ?_, fun v hv => ?_, A.2.2.2.2.2.2⟩
  · show hc h1 (gR h1 eD r) = 71 ∨ _
    rw [e1, ek, a.1.2.2.2.1 _ ha, a.1.2.2.2.2 _ ha]
    exact A.2.2.1
  · show _ ≤ hl h1 (gR h1 eD r)
    rw [e1, a.1.2.2.2.2 _ ha]
    exact A.2.2.2.1
  · show eR h1 (gR h1 eD r) j = _
    rw [e1, o.2 A.1]
    exact A.2.2.2.2.1 j hj
  · exact okE_up a.1 C.1.2.2.1 (A.2.2.2.2.2.1 v hv)
/- elementary changes -/
theorem ls_pI {f r : Nat} {v : Int} (L : LSt h) : LSt (pI h f r v) := L
theorem ls_pJ {f r : Nat} {v : Int} (L : LSt h) : LSt (pJ h f r v) := L
theorem ls_qI {r : Nat} {i v : Int} (L : LSt h) : LSt (qI h r i v) := L
theorem ls_qJ {r : Nat} {i v : Int} (L : LSt h) : LSt (qJ h r i v) := L
theorem ls_qR {r w : Nat} {i : Int} (L : LSt h) : LSt (qR h r i w) := L
theorem ls_pR {f r w : Nat} (L : LSt h) (hr : r ≠ 0) (hf : f ≠ eD) : LSt (pR h f r w) := by
  have e5 : ∀ q, gR (pR h f r w) eD q = gR h eD q := fun q => if_neg (fun z => hf z.1.symm)
  have e6 : ∀ q, kc (pR h f r w) q = kc h q := fun q => if_neg (fun z => hr z.2.symm)
  intro q hq
  rw [e5, e6]
  rcases L q hq with z | ⟨z1, ⟨y1, y2⟩ | y⟩
  · exact Or.inl z
  · exact Or.inr ⟨z1, Or.inl ⟨y1, fun r' hr' e => y2 r' hr' (by rw [← e5 r']; exact e)⟩⟩
  · exact Or.inr ⟨z1, Or.inr y⟩
theorem ls_nO {t n : Nat} (L : LSt h) (C : ConH h) : LSt (nO h t n) := by
  intro q hq
  have hkc : ∀ r, kc (nO h t n) r = kc h r := fun r => if_neg (by have := C.1.2.1; omega)
  by_cases z : q = hn h
  · left
    exact if_pos z
  · have e5 : gR (nO h t n) eD q = gR h eD q := if_neg z
    have hq' : hc h q = 48 := by
      have : hc (nO h t n) q = hc h q := if_neg z
      rw [this] at hq
      exact hq
    rw [e5]
    rcases L q hq' with y | ⟨z1, y⟩
    · exact Or.inl y
    · have e7 : hc (nO h t n) (gR h eD q) = hc h (gR h eD q) := if_neg (by omega)
      refine Or.inr ⟨Nat.lt_succ_of_lt z1, ?_⟩
      rw [e7, hkc]
      rcases y with ⟨y1, y2⟩ | y
      · refine Or.inl ⟨y1, fun r' hr' e => ?_⟩
        by_cases w : r' = hn h
        · have : gR (nO h t n) eD r' = 0 := if_pos w
          rw [this] at e
          rw [← e, C.1.1] at y1
          exact absurd y1 (by decide)
        · have a : gR (nO h t n) eD r' = gR h eD r' := if_neg w
          have c : hc (nO h t n) r' = hc h r' := if_neg w
          exact y2 r' (by rw [← c]; exact hr') (by rw [← a]; exact e)
      · exact Or.inr y
theorem ls_nA {t : Nat} {n : Int} (L : LSt h) (C : ConH h) (ht : t ≠ 48) : LSt (nA h t n) := by
  intro q hq
  by_cases z : q = hn h
  · have : hc (nA h t n) q = t := if_pos z
    rw [this] at hq
    exact absurd hq ht
  · have hq' : hc h q = 48 := by
      have : hc (nA h t n) q = hc h q := if_neg z
      rw [this] at hq
      exact hq
    show gR h eD q = 0 ∨ _
    rcases L q hq' with y | ⟨z1, y⟩
    · exact Or.inl y
    · have e7 : hc (nA h t n) (gR h eD q) = hc h (gR h eD q) := if_neg (by omega)
      have e8 : hl (nA h t n) (gR h eD q) = hl h (gR h eD q) := if_neg (by omega)
      refine Or.inr ⟨Nat.lt_succ_of_lt z1, ?_⟩
      show (hc (nA h t n) (gR h eD q) = 71 ∧ _) ∨ (kc h (gR h eD q) = 72 ∧ hl (nA h t n) (gR h eD q) = 0)
      rw [e7, e8]
      rcases y with ⟨y1, y2⟩ | y
      · refine Or.inl ⟨y1, fun r' hr' e => ?_⟩
        by_cases w : r' = hn h
        · have : hc (nA h t n) r' = t := if_pos w
          rw [this] at hr'
          exact absurd hr' ht
        · have c : hc (nA h t n) r' = hc h r' := if_neg w
          exact y2 r' (by rw [← c]; exact hr') e
      · exact Or.inr y
/- one change more -/
theorem Ev.cI {f r : Nat} {v : Int} (a : Ev W u h h1) (hr : W r ∨ hn h ≤ r) (ht : mdT (hc h1 r) = true) : Ev W u h (pI h1 f r v) := by
  obtain ⟨a1, a2, ⟨a3, a3'⟩, a4, a5⟩ := a
  refine ⟨a1, fun q hq hw => ?_, ⟨a3.keep (frm_pI ht), a3'⟩, a4, a5⟩
  have o := a2 q hq hw
  have hne : q ≠ r := fun z => by
    rcases hr with y | y
    · exact hw (z ▸ y)
    · omega
  refine ⟨fun z => ?_, o.2⟩
  have s := o.1 z
  exact ⟨s.1, s.2.1, fun g => (if_neg (fun z => hne z.2)).trans (s.2.2.1 g), s.2.2.2⟩
theorem Ev.cJ {f r : Nat} {v : Int} (a : Ev W u h h1) (hr : W r ∨ hn h ≤ r) (ht : mdT (hc h1 r) = true) : Ev W u h (pJ h1 f r v) := by
  obtain ⟨a1, a2, ⟨a3, a3'⟩, a4, a5⟩ := a
  refine ⟨a1, fun q hq hw => ?_, ⟨a3.keep (frm_pJ ht), a3'⟩, a4, a5⟩
  have o := a2 q hq hw
  have hne : q ≠ r := fun z => by
    rcases hr with y | y
    · exact hw (z ▸ y)
    · omega
  refine ⟨fun z => ?_, o.2⟩
  have s := o.1 z
  exact ⟨s.1, s.2.1, s.2.2.1, fun g => (if_neg (fun z => hne z.2)).trans (s.2.2.2.1 g), s.2.2.2.2⟩
theorem Ev.cR {f r w : Nat} (a : Ev W u h h1) (hr : W r ∨ hn h ≤ r) (ht : mdT (hc h1 r) = true) (hf : f ≠ eD) : Ev W u h (pR h1 f r w) := by
  obtain ⟨a1, a2, ⟨a3, a3'⟩, a4, a5⟩ := a
  have r0 : r ≠ 0 := fun z => by rw [z, a3.1.1] at ht; exact absurd ht (by decide)
  refine ⟨a1, fun q hq hw => ?_, ⟨a3.keep (frm_pR ht), ls_pR a3' r0 hf⟩, a4, a5⟩
  have o := a2 q hq hw
  have hne : q ≠ r := fun z => by
    rcases hr with y | y
    · exact hw (z ▸ y)
    · omega
  refine ⟨fun z => ?_, o.2⟩
  have s := o.1 z
  exact ⟨s.1, s.2.1, s.2.2.1, s.2.2.2.1, fun g => (if_neg (fun z => hne z.2)).trans (s.2.2.2.2.1 g), s.2.2.2.2.2⟩
theorem Ev.dI {r : Nat} {i v : Int} (a : Ev W u h h1) (hr : W r ∨ hn h ≤ r) (ht : mdA (hc h1 r) = true) : Ev W u h (qI h1 r i v) := by
  obtain ⟨a1, a2, ⟨a3, a3'⟩, a4, a5⟩ := a
  refine ⟨a1, fun q hq hw => ?_, ⟨a3.keep (frm_qI ht), a3'⟩, a4, a5⟩
  have o := a2 q hq hw
  have hne : q ≠ r := fun z => by
    rcases hr with y | y
    · exact hw (z ▸ y)
    · omega
  refine ⟨fun z => ?_, o.2⟩
  have s := o.1 z
  exact ⟨s.1, s.2.1, s.2.2.1, s.2.2.2.1, s.2.2.2.2.1, fun g => (if_neg (fun z => hne z.1)).trans (s.2.2.2.2.2.1 g), s.2.2.2.2.2.2⟩
theorem Ev.dJ {r : Nat} {i v : Int} (a : Ev W u h h1) (hr : W r ∨ hn h ≤ r) (ht : mdA (hc h1 r) = true) : Ev W u h (qJ h1 r i v) := by
  obtain ⟨a1, a2, ⟨a3, a3'⟩, a4, a5⟩ := a
  refine ⟨a1, fun q hq hw => ?_, ⟨a3.keep (frm_qJ ht), a3'⟩, a4, a5⟩
  have o := a2 q hq hw
  have hne : q ≠ r := fun z => by
    rcases hr with y | y
    · exact hw (z ▸ y)
    · omega
  refine ⟨fun z => ?_, o.2⟩
  have s := o.1 z
  exact ⟨s.1, s.2.1, s.2.2.1, s.2.2.2.1, s.2.2.2.2.1, s.2.2.2.2.2.1, fun g => (if_neg (fun z => hne z.1)).trans (s.2.2.2.2.2.2.1 g), s.2.2.2.2.2.2.2⟩
/-- an array of references that no list of those has -/
theorem Ev.dR {r w : Nat} {i : Int} (a : Ev W u h h1) (hr : W r ∨ hn h ≤ r) (ht : mdA (hc h1 r) = true) (h71 : ∀ q, q < hn h → ¬ W q → hc h q = 48 → gR h eD q ≠ r) : Ev W u h (qR h1 r i w) := by
  obtain ⟨a1, a2, ⟨a3, a3'⟩, a4, a5⟩ := a
  refine ⟨a1, fun q hq hw => ?_, ⟨a3.keep (frm_qR ht), a3'⟩, a4, a5⟩
  have o := a2 q hq hw
  have hne : q ≠ r := fun z => by
    rcases hr with y | y
    · exact hw (z ▸ y)
    · omega
  refine ⟨fun z => ?_, fun z j => (if_neg (fun y => h71 q hq hw z y.1)).trans (o.2 z j)⟩
  have s := o.1 z
  exact ⟨s.1, s.2.1, s.2.2.1, s.2.2.2.1, s.2.2.2.2.1, s.2.2.2.2.2.1, s.2.2.2.2.2.2.1, fun g => (if_neg (fun z => hne z.1)).trans (s.2.2.2.2.2.2.2 g)⟩
theorem Ev.mO {t n : Nat} (a : Ev W u h h1) (hn0 : n ≤ 64) (ht : t ≤ 55) : Ev W (u + 1) h (nO h1 t n) := by
  obtain ⟨a1, a2, ⟨a3, a3'⟩, a4, a5⟩ := a
  have l1 : Le h1 (nO h1 t n) := frm_nO (W := fun _ _ => true) (A := fun _ => true).1
  refine ⟨a1.tr l1, fun q hq hw => ?_, ⟨a3.keep frm_nO, ls_nO a3' a3⟩, by show hs h1 + n ≤ _; omega, by show hk h1 + 1 ≤ _; omega⟩
  have hq1 : q ≠ hn h1 := by have := a1.1; omega
  have o := a2 q hq hw
  refine ⟨fun z => ?_, o.2⟩
  have s := o.1 z
  exact ⟨(if_neg hq1).trans s.1, s.2.1, fun f => (if_neg hq1).trans (s.2.2.1 f), fun f => (if_neg hq1).trans (s.2.2.2.1 f), fun f => (if_neg hq1).trans (s.2.2.2.2.1 f), s.2.2.2.2.2⟩
theorem Ev.mA {t : Nat} {n : Int} {c : Nat} (a : Ev W u h h1) (hn0 : n.toNat ≤ 64 * c) (hc0 : 0 < c) (ht : 48 < t) : Ev W (u + c) h (nA h1 t n) := by
  obtain ⟨a1, a2, ⟨a3, a3'⟩, a4, a5⟩ := a
  have l1 : Le h1 (nA h1 t n) := frm_nA (W := fun _ _ => true) (A := fun _ => true).1
  refine ⟨a1.tr l1, fun q hq hw => ?_, ⟨a3.keep frm_nA, ls_nA a3' a3 (by omega)⟩, by show hs h1 + n.toNat ≤ _; omega, by show hk h1 + 1 ≤ _; omega⟩
  have hq1 : q ≠ hn h1 := by have := a1.1; omega
  have o := a2 q hq hw
  refine ⟨fun z => ?_, fun z j => ?_⟩
  · have s := o.1 z
    exact ⟨(if_neg hq1).trans s.1, (if_neg hq1).trans s.2.1, s.2.2.1, s.2.2.2.1, s.2.2.2.2.1, fun f => (if_neg hq1).trans (s.2.2.2.2.2.1 f), fun f => (if_neg hq1).trans (s.2.2.2.2.2.2.1 f), fun f => (if_neg hq1).trans (s.2.2.2.2.2.2.2 f)⟩
  · have s := o.1 (by rw [z]; decide)
    have hlt : gR h eD q ≠ hn h1 := by
      have e := s.2.2.2.2.1 eD
      have hq48 : hc h1 q = 48 := by rw [s.1]; exact z
      rcases a3' q hq48 with y | ⟨y, -⟩
      · rw [e] at y; rw [y]; have := a3.1.2.1; omega
      · rw [e] at y; omega
    exact (if_neg hlt).trans (o.2 z j)
end EV
