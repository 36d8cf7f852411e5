/-! THE PURE HEAP STANDS FOR THE REAL ONE -/
/-- a field of objects, and its slot -/
def SlotI (s : State) (C f d : String) (i : Nat) : Prop := ∃ cf kf fi fd, s.fieldFound? C f d = some (cf, kf, fi, fd) ∧ fd.isStatic = false ∧ fd.slot = i
theorem SlotI.moved {u E : State} {C f d : String} {i : Nat} (hvm : u.vm.Alike E.vm) (h : SlotI u C f d i) : SlotI E C f d i := by
  obtain ⟨cf, kf, fi, fd, hi, ht, hs⟩ := h
  obtain ⟨kf', hi', -⟩ := State.fieldFound?_setVm (s := u) hvm hi
  exact ⟨cf, kf', fi, fd, by simpa only [State.fieldFound?, State.vm_setVm] using hi', ht, hs⟩
abbrev KX : Type := (Nat → ClassId) × (Nat → Nat)
def layW (t f : Nat) : Cond := if fFin f = true then .laysFinal (cN t) (fO f) (fN f) (fD f) else .lays (cN t) (fO f) (fN f) (fD f)
/-- what is known of the tables at the law's start -/
def CX (s0 : State) (a0 : Array Value) (K : KX) : Prop :=
  (∀ w ∈ lw_tbl, w.before a0 s0 = true) ∧
  (∀ t, 1 ≤ t → t ≤ 55 → s0.vm.findClass (cN t) = some (K.1 t)) ∧
  (∀ t, mdT t = true → ClassAt s0 (cN t) (K.1 t)) ∧
  (∀ t f, t ≤ 55 → f ∈ cF t → SlotI s0 (fO f) (fN f) (fD f) (K.2 f)) ∧
  (∀ t f, mdT t = true → f ∈ cF t → layW t f ∈ lw_tbl) ∧
  (∀ t f g, mdT t = true → f ∈ cF t → g ∈ cF t → f ≠ g → K.2 f ≠ K.2 g)
def fv (h : PH) (f r : Nat) : Value := cv (rdF h f r)
def ev (h : PH) (t r : Nat) (j : Int) : Value := match ak t with
  | 1 => .long (Int64.ofInt (eJ h r j))
  | 2 => rv (eR h r j)
  | 3 => .int (Int32.ofInt (nz (eI h r j)))
  | _ => .int (Int32.ofInt (eI h r j))
/-- the cell at a key is as the pure heap has it -/
def At1 (s0 : State) (K : KX) (h : PH) (H : Heap) (r : Nat) : Prop :=
  ∃ cell : Cell, H[r - 1]? = some cell ∧ cell.vm ≠ .unknown ∧ cell.vm.isStatics = false ∧
    (hc h r < 64 → cell.cls = K.1 (hc h r) ∧ (mdT (hc h r) = true → cell.vm = .none) ∧ ∀ f ∈ cF (hc h r), cell.slots[K.2 f]? = some (fv h f r)) ∧
    (64 ≤ hc h r → s0.isArrayOf cell (aT (hc h r)) ∧ ((mdA (hc h r) = true → cell.vm = .none ∧ va_RA s0 cell.cls (aT (hc h r))) ∧ (hc h r = 72 → va_RA s0 cell.cls (aT 72))) ∧ (cell.slots.size : Int) = hl h r ∧ ∀ j : Nat, j < cell.slots.size → cell.slots[j]? = some (ev h (hc h r) r j))
/-- an array that was there at the start -/
def ConA (s0 : State) (h : PH) (H : Heap) (r : Nat) : Prop := r ≤ s0.heap.size ∧ 0 < r ∧ 64 ≤ kc h r ∧ kc h r ≤ 77 ∧
  ∃ cell : Cell, H[r - 1]? = some cell ∧ cell.vm ≠ .unknown ∧ cell.vm.isStatics = false ∧ s0.isArrayOf cell (aT (kc h r)) ∧ (kc h r = 72 → va_RA s0 cell.cls (aT 72)) ∧ (hl h r).toNat ≤ cell.slots.size ∧ cell.slots.size.toInt32 = Int32.ofInt (hl h r) ∧ ∀ j : Nat, (j : Int) < hl h r → cell.slots[j]? = some (ev h (kc h r) r j)
theorem ConA.mv {s0 : State} {h h' : PH} {H H' : Heap} {r : Nat} (e1 : kc h' r = kc h r) (e2 : hl h' r = hl h r) (e3 : ∀ t j, ev h' t r j = ev h t r j) (e4 : H'[r - 1]? = H[r - 1]?) (c : ConA s0 h H r) : ConA s0 h' H' r := by
  unfold ConA at c ⊢
  rw [e1, e2, e4]
  obtain ⟨c1, c2, c3, c4, cell, c5, c6, c7, c8, c9, c10, c12, c11⟩ := c
  exact ⟨c1, c2, c3, c4, cell, c5, c6, c7, c8, c9, c10, c12, fun j hj => by rw [e3]; exact c11 j hj⟩
def dom (h : PH) : Addr → Prop := fun q => hc h (q + 1) ≠ 0
def WFH (h : PH) : Prop := (∀ f r, in32 (gI h f r)) ∧ (∀ f r, in64 (gJ h f r)) ∧ (∀ r i, in32 (eI h r i)) ∧ (∀ r i, in64 (eJ h r i)) ∧ ∀ r, 0 ≤ hl h r ∧ hl h r < 2147483648
def Rep (s0 : State) (K : KX) (h : PH) (H : Heap) : Prop :=
  H.size + 1 = hn h ∧ hc h 0 = 0 ∧ (∀ r, hc h r ≠ 0 → (hc h r ≤ 77 ∧ (hc h r < 64 → hc h r ≤ 55) ∧ (mdT (hc h r) = true ∨ mdA (hc h r) = true → s0.heap.size < r)) ∧ r < hn h ∧ At1 s0 K h H r) ∧
  (∀ f ∈ sFs, va_Z (fO f) (fN f) (fD f) (fv h f 0) (dom h) s0 H) ∧ ((∀ q ∈ tFs, ∃ tx, 0 < gR h q.1 0 ∧ vk_R q.2.1 q.2.2 tx (gR h q.1 0 - 1) s0) ∧ ∀ r, kc h r ≠ 0 → ConA s0 h H r) ∧ WFH h ∧ hn h = s0.heap.size + 1 + hk h
theorem Rep.pos {s0 : State} {K : KX} {h : PH} {H : Heap} (R : Rep s0 K h H) {r : Nat} (hr : hc h r ≠ 0) : 0 < r := by
  rcases Nat.eq_zero_or_pos r with e | e
  · subst e; exact absurd R.2.1 hr
  · exact e
theorem Rep.wf {s0 : State} {K : KX} {h : PH} {H : Heap} (R : Rep s0 K h H) : WFH h := R.2.2.2.2.2.1
/-- two heaps that agree but for one field -/
def SameF (h h' : PH) (f r : Nat) : Prop := hc h' = hc h ∧ hl h' = hl h ∧ hn h' = hn h ∧ hk h' = hk h ∧ (∀ t q j, ev h' t q j = ev h t q j) ∧ (∀ g q, ¬ (g = f ∧ q = r) → fv h' g q = fv h g q) ∧ ∀ g, gR h' g 0 = gR h g 0
def SameE (h h' : PH) (r : Nat) (i : Int) : Prop := hc h' = hc h ∧ hl h' = hl h ∧ hn h' = hn h ∧ hk h' = hk h ∧ (∀ f q, fv h' f q = fv h f q) ∧ (∀ t q j, ¬ (q = r ∧ j = i) → ev h' t q j = ev h t q j) ∧ ∀ g, gR h' g 0 = gR h g 0
theorem setSlot_get {cell : Cell} {i j : Nat} {v : Value} (hi : i < cell.slots.size) : (cell.setSlot i v).slots[j]? = if j = i then some v else cell.slots[j]? := by
  simp only [Cell.setSlot]
  rw [Array.getElem?_setIfInBounds]
  by_cases e : i = j
  · subst e; simp [hi]
  · simp [e, Ne.symm e]
theorem setSlot_size {cell : Cell} {i : Nat} {v : Value} : (cell.setSlot i v).slots.size = cell.slots.size := by simp [Cell.setSlot]
theorem isArr_setSlot {s : State} {cell : Cell} {ty : FieldType} {i : Nat} {v : Value} (h : s.isArrayOf cell ty) : s.isArrayOf (cell.setSlot i v) ty := h
theorem md_lt {t : Nat} (h : mdT t = true) : t < 64 ∧ 1 ≤ t ∧ t ≤ 55 := by
  unfold mdT at h
  simp only [Bool.or_eq_true, Bool.and_eq_true, Nat.ble_eq, Nat.beq_eq] at h
  omega
theorem mdA_ge {t : Nat} (h : mdA t = true) : 64 ≤ t ∧ t ≤ 77 := by
  unfold mdA at h
  simp only [Bool.or_eq_true, beq_iff_eq] at h
  omega
theorem Rep.putF {s0 : State} {a0 : Array Value} {K : KX} {h h' : PH} {H H' : Heap} {f r : Nat} {cell : Cell} (hC : CX s0 a0 K) (R : Rep s0 K h H) (hk : mdT (hc h r) = true) (hf : f ∈ cF (hc h r)) (S : SameF h h' f r) (hw : WFH h')
    (hcell : H[r - 1]? = some cell) (h1 : H'[r - 1]? = some (cell.setSlot (K.2 f) (fv h' f r))) (h2 : H'.size = H.size) (h3 : ∀ q, q ≠ r - 1 → H'[q]? = H[q]?) : Rep s0 K h' H' := by
  obtain ⟨S1, S2, S3, S6, S4, S5, S7⟩ := S
  have hk0 : hc h r ≠ 0 := by have := md_lt hk; omega
  have hr0 := R.pos hk0
  obtain ⟨R1, R2, R3, R4, R5, R6, R7⟩ := R
  refine ⟨by rw [S3, h2]; exact R1, by rw [S1]; exact R2, ?_, ?_, ?_, hw, by rw [S3, S6]; exact R7⟩
  · intro q hq
    rw [S1] at hq
    obtain ⟨q0, q1, cq, q2, q3, q4, q5, q6⟩ := R3 q hq
    refine ⟨by rw [S1]; exact q0, by rw [S3]; exact q1, ?_⟩
    have hq0 : 0 < q := by
      rcases Nat.eq_zero_or_pos q with e | e
      · subst e; exact absurd R2 hq
      · exact e
    by_cases e : q = r
    · subst e
      cases hcell.symm.trans q2
      have hlt : K.2 f < cell.slots.size := (Array.getElem?_eq_some_iff.mp ((q5 (md_lt hk).1).2.2 f hf)).1
      refine ⟨_, h1, q3, q4, ?_, ?_⟩
      · intro hl
        rw [S1] at hl ⊢
        obtain ⟨a1, a2, a3⟩ := q5 hl
        refine ⟨a1, a2, fun g hg => ?_⟩
        rw [setSlot_get hlt]
        by_cases eg : g = f
        · subst eg; rw [if_pos rfl]
        · rw [if_neg (hC.2.2.2.2.2 _ g f hk hg hf eg), S5 g q (fun c => eg c.1)]
          exact a3 g hg
      · intro hl; rw [S1] at hl; have := md_lt hk; omega
    · have hne : q - 1 ≠ r - 1 := by omega
      refine ⟨cq, by rw [h3 _ hne]; exact q2, q3, q4, ?_, ?_⟩
      · intro hl
        rw [S1] at hl ⊢
        obtain ⟨a1, a2, a3⟩ := q5 hl
        exact ⟨a1, a2, fun g hg => by rw [S5 g q (fun c => e c.2)]; exact a3 g hg⟩
      · intro hl
        rw [S1] at hl ⊢
        obtain ⟨a1, a2, a3, a4⟩ := q6 hl
        rw [S2]
        exact ⟨a1, a2, a3, fun j hj => by rw [S4]; exact a4 j hj⟩
  · intro g hg
    obtain ⟨cf, kf, fi, fd, a, ca, z1, z2, z3, z4, z5, z6, z7, z8⟩ := R4 g hg
    have hne : a ≠ r - 1 := by
      intro e
      apply z8
      show hc h (a + 1) ≠ 0
      rw [e, Nat.sub_add_cancel hr0]
      exact hk0
    refine ⟨cf, kf, fi, fd, a, ca, z1, z2, z3, z4, by rw [h3 _ hne]; exact z5, z6, ?_, ?_⟩
    · rw [S5 g 0 (fun c => by omega)]; exact z7
    · show ¬ hc h' (a + 1) ≠ 0
      rw [S1]; exact z8
  · refine ⟨fun q hq => by rw [S7]; exact R5.1 q hq, fun q hq => ?_⟩
    have hq' : kc h q ≠ 0 := by rw [show kc h q = kc h' q from (S7 _).symm]; exact hq
    have c := R5.2 q hq'
    have hlt := (R3 r hk0).1.2.2 (Or.inl hk)
    have hne : q - 1 ≠ r - 1 := by have := c.1; have := c.2.1; omega
    exact ConA.mv (S7 _) (by rw [S2]) (fun t j => S4 t q j) (h3 _ hne) c
theorem Rep.putE {s0 : State} {K : KX} {h h' : PH} {H H' : Heap} {r : Nat} {i : Nat} {cell : Cell} (R : Rep s0 K h H) (hk : 64 ≤ hc h r) (hmd : mdA (hc h r) = true) (hi : i < cell.slots.size) (S : SameE h h' r i) (hw : WFH h')
    (hcell : H[r - 1]? = some cell) (h1 : H'[r - 1]? = some (cell.setSlot i (ev h' (hc h r) r i))) (h2 : H'.size = H.size) (h3 : ∀ q, q ≠ r - 1 → H'[q]? = H[q]?) : Rep s0 K h' H' := by
  have hk0 : hc h r ≠ 0 := by omega
  obtain ⟨S1, S2, S3, S6, S4, S5, S7⟩ := S
  have hr0 := R.pos hk0
  obtain ⟨R1, R2, R3, R4, R5, R6, R7⟩ := R
  refine ⟨by rw [S3, h2]; exact R1, by rw [S1]; exact R2, ?_, ?_, ?_, hw, by rw [S3, S6]; exact R7⟩
  · intro q hq
    rw [S1] at hq
    obtain ⟨q0, q1, cq, q2, q3, q4, q5, q6⟩ := R3 q hq
    refine ⟨by rw [S1]; exact q0, by rw [S3]; exact q1, ?_⟩
    have hq0 : 0 < q := by
      rcases Nat.eq_zero_or_pos q with e | e
      · subst e; exact absurd R2 hq
      · exact e
    by_cases e : q = r
    · subst e
      cases hcell.symm.trans q2
      obtain ⟨a1, a2, a3, a4⟩ := q6 hk
      refine ⟨_, h1, q3, q4, fun hl => by rw [S1] at hl; omega, ?_⟩
      intro hl
      rw [S1, S2]
      refine ⟨isArr_setSlot a1, a2, by rw [setSlot_size]; exact a3, fun j hj => ?_⟩
      rw [setSlot_size] at hj
      rw [setSlot_get hi]
      by_cases ej : j = i
      · subst ej; rw [if_pos rfl]
      · rw [if_neg ej, S5 _ q j (fun c => ej (by have := c.2; omega))]
        exact a4 j hj
    · have hne : q - 1 ≠ r - 1 := by omega
      refine ⟨cq, by rw [h3 _ hne]; exact q2, q3, q4, ?_, ?_⟩
      · intro hl
        rw [S1] at hl ⊢
        obtain ⟨a1, a2, a3⟩ := q5 hl
        exact ⟨a1, a2, fun g hg => by rw [S4]; exact a3 g hg⟩
      · intro hl
        rw [S1] at hl ⊢
        obtain ⟨a1, a2, a3, a4⟩ := q6 hl
        rw [S2]
        exact ⟨a1, a2, a3, fun j hj => by rw [S5 _ q j (fun c => e c.1)]; exact a4 j hj⟩
  · intro g hg
    obtain ⟨cf, kf, fi, fd, a, ca, z1, z2, z3, z4, z5, z6, z7, z8⟩ := R4 g hg
    have hne : a ≠ r - 1 := by
      intro e
      apply z8
      show hc h (a + 1) ≠ 0
      rw [e, Nat.sub_add_cancel hr0]
      exact hk0
    refine ⟨cf, kf, fi, fd, a, ca, z1, z2, z3, z4, by rw [h3 _ hne]; exact z5, z6, ?_, ?_⟩
    · rw [S4]; exact z7
    · show ¬ hc h' (a + 1) ≠ 0
      rw [S1]; exact z8
  · refine ⟨fun q hq => by rw [S7]; exact R5.1 q hq, fun q hq => ?_⟩
    have hq' : kc h q ≠ 0 := by rw [show kc h q = kc h' q from (S7 _).symm]; exact hq
    have c := R5.2 q hq'
    have hlt := (R3 r hk0).1.2.2 (Or.inr hmd)
    have hne : q - 1 ≠ r - 1 := by have := c.1; have := c.2.1; omega
    exact ConA.mv (S7 _) (by rw [S2]) (fun t j => S5 t q j (fun z => by have := c.1; omega)) (h3 _ hne) c
theorem Rep.fresh {s0 : State} {K : KX} {h : PH} {H : Heap} (R : Rep s0 K h H) : ∀ r, hn h ≤ r → hc h r = 0 := by
  intro r hr
  rcases Nat.eq_zero_or_pos (hc h r) with e | e
  · exact e
  · have := (R.2.2.1 r (by omega)).2.1
    omega
/-- a new cell -/
theorem Rep.grow {s0 : State} {K : KX} {h h' : PH} {H H' : Heap} {k : Nat} (R : Rep s0 K h H) (g1 : hn h' = hn h + 1) (g6 : hk h' = hk h + 1) (g2 : hc h' = up1 (hc h) (hn h) k) (g0 : k ≤ 77 ∧ (k < 64 → k ≤ 55)) (g3 : ∀ r, r ≠ hn h → hl h' r = hl h r) (g4 : ∀ f r, r ≠ hn h → fv h' f r = fv h f r) (g5 : ∀ t r j, r ≠ hn h → ev h' t r j = ev h t r j) (g7 : ∀ f, gR h' f 0 = gR h f 0) (hw : WFH h')
    (h2 : H'.size = H.size + 1) (h3 : ∀ q, q < H.size → H'[q]? = H[q]?) (hnew : At1 s0 K h' H' (hn h)) : Rep s0 K h' H' := by
  have hfresh := R.fresh
  obtain ⟨R1, R2, R3, R4, R5, R6, R7⟩ := R
  have hne0 : 0 ≠ hn h := by omega
  refine ⟨by rw [h2, g1, ← R1], by rw [g2]; show up1 _ _ _ _ = 0; unfold up1; rw [if_neg hne0]; exact R2, ?_, ?_, ?_, hw, by rw [g1, g6, R7]; omega⟩
  · intro r hr
    by_cases e : r = hn h
    · subst e
      refine ⟨?_, by rw [g1]; omega, hnew⟩
      have : hc h' (hn h) = k := by rw [g2]; unfold up1; rw [if_pos rfl]
      rw [this]; exact ⟨g0.1, g0.2, fun _ => by omega⟩
    · have hh : hc h' r = hc h r := by rw [g2]; unfold up1; rw [if_neg e]
      rw [hh] at hr
      obtain ⟨q0, q1, cq, q2, q3, q4, q5, q6⟩ := R3 r hr
      have hlt : r - 1 < H.size := (Array.getElem?_eq_some_iff.mp q2).1
      refine ⟨by rw [hh]; exact q0, by rw [g1]; omega, cq, by rw [h3 _ hlt]; exact q2, q3, q4, ?_, ?_⟩
      · intro hl
        rw [hh] at hl ⊢
        obtain ⟨a1, a2, a3⟩ := q5 hl
        exact ⟨a1, a2, fun g hg => by rw [g4 g r e]; exact a3 g hg⟩
      · intro hl
        rw [hh] at hl ⊢
        obtain ⟨a1, a2, a3, a4⟩ := q6 hl
        rw [g3 r e]
        exact ⟨a1, a2, a3, fun j hj => by rw [g5 _ r j e]; exact a4 j hj⟩
  · intro g hg
    obtain ⟨cf, kf, fi, fd, a, ca, z1, z2, z3, z4, z5, z6, z7, z8⟩ := R4 g hg
    have hlt : a < H.size := (Array.getElem?_eq_some_iff.mp z5).1
    refine ⟨cf, kf, fi, fd, a, ca, z1, z2, z3, z4, by rw [h3 _ hlt]; exact z5, z6, by rw [g4 g 0 hne0]; exact z7, ?_⟩
    show ¬ hc h' (a + 1) ≠ 0
    have e : a + 1 ≠ hn h := by omega
    rw [g2]; unfold up1; rw [if_neg e]; exact z8
  · refine ⟨fun q hq => by rw [g7]; exact R5.1 q hq, fun q hq => ?_⟩
    have hq' : kc h q ≠ 0 := by rw [show kc h q = kc h' q from (g7 _).symm]; exact hq
    have c := R5.2 q hq'
    have hqn : q ≠ hn h := by have := c.1; omega
    obtain ⟨c1, c2, c3, c4, cell, c5, -⟩ := id c
    exact ConA.mv (g7 _) (g3 q hqn) (fun t j => g5 t q j hqn) (h3 _ (Array.getElem?_eq_some_iff.mp c5).1) c
