/-! THE START: the pure heap out of the state at the law's entry -/
set_option maxRecDepth 100000
def keyT (s : State) (A : Array Value) (t : Term) : Nat := match t.eval A s none [] s with
  | some (.ref a) => a + 1
  | _ => 0
theorem keyT_ref {s : State} {A : Array Value} {t : Term} {a : Nat} (h : t.eval A s none [] s = some (.ref a)) : keyT s A t = a + 1 := by unfold keyT; rw [h]
def K0 (s : State) : KX := (fun t => (s.vm.findClass (cN t)).getD 0, fun f => match s.fieldFound? (fO f) (fN f) (fD f) with
  | some q => q.2.2.2.slot
  | none => 0)
theorem K0_slot {s : State} {f : Nat} {q : ClassId × Class × Nat × Field} (h : s.fieldFound? (fO f) (fN f) (fD f) = some q) : (K0 s).2 f = q.2.2.2.slot := by unfold K0; dsimp only; rw [h]
theorem K0_cls {s : State} {t : Nat} {c : ClassId} (h : s.vm.findClass (cN t) = some c) : (K0 s).1 t = c := by unfold K0; dsimp only; rw [h]; rfl
def ftag (s : State) (A : Array Value) : List (Nat × List Term) → Nat → Nat
  | [], _ => 0
  | (t, l) :: rest, r => cond (l.any fun x => Nat.beq (keyT s A x) r) t (ftag s A rest r)
theorem ftag_s {s : State} {A : Array Value} {r : Nat} : ∀ {fs : List (Nat × List Term)}, ftag s A fs r ≠ 0 → ∃ q ∈ fs, ∃ x ∈ q.2, keyT s A x = r ∧ ftag s A fs r = q.1
  | [], h => absurd rfl h
  | (t, l) :: rest, h => by
    unfold ftag at h ⊢
    cases hb : l.any fun x => Nat.beq (keyT s A x) r with
    | true =>
      obtain ⟨x, hx, e⟩ := List.any_eq_true.mp hb
      exact ⟨(t, l), List.mem_cons_self, x, hx, Nat.eq_of_beq_eq_true e, rfl⟩
    | false =>
      rw [hb] at h
      obtain ⟨q, hq, x, hx, e1, e2⟩ := ftag_s (fs := rest) h
      exact ⟨q, List.mem_cons_of_mem _ hq, x, hx, e1, e2⟩
theorem ftag_o {s : State} {A : Array Value} {P : Nat → Nat → Prop} (hinj : ∀ t t' r, P t r → P t' r → t = t') : ∀ {fs : List (Nat × List Term)}, (∀ q ∈ fs, ∀ x ∈ q.2, P q.1 (keyT s A x)) → ∀ q ∈ fs, ∀ x ∈ q.2, ftag s A fs (keyT s A x) = q.1
  | [], _, q, hq, _, _ => by cases hq
  | (t, l) :: rest, h, q, hq, x, hx => by
    unfold ftag
    cases hb : l.any fun y => Nat.beq (keyT s A y) (keyT s A x) with
    | true =>
      obtain ⟨y, hy, e⟩ := List.any_eq_true.mp hb
      have h1 := h (t, l) List.mem_cons_self y hy
      rw [Nat.eq_of_beq_eq_true e] at h1
      exact hinj _ _ _ h1 (h q hq x hx)
    | false =>
      rcases List.mem_cons.mp hq with e | e
      · subst e
        have : (l.any fun y => Nat.beq (keyT s A y) (keyT s A x)) = true := List.any_eq_true.mpr ⟨x, hx, Nat.beq_refl _⟩
        rw [hb] at this
        cases this
      · exact ftag_o (fs := rest) hinj (fun q hq => h q (List.mem_cons_of_mem _ hq)) q e x hx
def kOv (f : Nat) (v : Value) : Prop := match f % 4 with
  | 0 => ∃ x, v = .int x
  | 1 => ∃ x, v = .long x
  | 2 => ∃ r, v = rv r
  | _ => v = .int 0 ∨ v = .int 1
def vInt : Option Value → Int
  | some (.int x) => x.toInt
  | _ => 0
def vLng : Option Value → Int
  | some (.long x) => x.toInt
  | _ => 0
def vRef : Option Value → Nat
  | some (.ref a) => a + 1
  | _ => 0
theorem vInt_in (v : Option Value) : in32 (vInt v) := by
  unfold vInt
  split
  · exact ⟨Int32.le_toInt _, Int32.toInt_lt _⟩
  · exact ⟨by decide, by decide⟩
theorem vLng_in (v : Option Value) : in64 (vLng v) := by
  unfold vLng
  split
  · exact ⟨Int64.le_toInt _, Int64.toInt_lt _⟩
  · exact ⟨by decide, by decide⟩
theorem vRef_rv (r : Nat) : rv (vRef (some (rv r))) = rv r := by cases r <;> rfl
def slotV (s : State) (r i : Nat) : Option Value := (s.heap[r - 1]?).bind fun c => c.slots[i]?
def stT (f : Nat) : Term := .static (fO f) (fN f) (fD f)
def sR (s : State) (A : Array Value) (f : Nat) : Nat := match asc tFs f with
  | some q => keyT s A (.string q.1 q.2)
  | none => keyT s A (stT f)
def h0 (s : State) (A : Array Value) (oF aF : List (Nat × List Term)) : PH :=
  (ftag s A oF, fun r => cond (Nat.beq (ftag s A aF r) 0) 0 (match s.heap[r - 1]? with
      | some c => c.slots.size.toInt32.toInt
      | none => 0),
    fun f r => cond (Nat.beq r 0) (vInt ((stT f).eval A s none [] s)) (vInt (slotV s r ((K0 s).2 f))),
    fun f r => cond (Nat.beq r 0) (vLng ((stT f).eval A s none [] s)) (vLng (slotV s r ((K0 s).2 f))),
    fun f r => cond (Nat.beq r 0) (cond (Nat.beq (f % 4) 1) (ftag s A aF (f / 4)) (sR s A f)) (vRef (slotV s r ((K0 s).2 f))),
    fun r j => vInt (slotV s r j.toNat), fun r j => vLng (slotV s r j.toNat), fun r j => vRef (slotV s r j.toNat), s.heap.size + 1, 0, 0)
/-- an object that was there -/
def OCr (s : State) (t r : Nat) : Prop := (t = 50 ∨ t = 52 ∨ t = 53 ∨ t = 54 ∨ t = 55) ∧ 0 < r ∧ ∃ cell : Cell, s.heap[r - 1]? = some cell ∧ cell.vm ≠ .unknown ∧ cell.vm.isStatics = false ∧ s.vm.findClass (cN t) = some cell.cls ∧ ∀ f ∈ cF t, ∃ v, cell.slots[(K0 s).2 f]? = some v ∧ kOv f v
theorem OCr.inj {s : State} (t t' r : Nat) (h : OCr s t r) (h' : OCr s t' r) : t = t' := by
  obtain ⟨h1, -, cell, h2, -, -, h3, -⟩ := h
  obtain ⟨h1', -, cell', h2', -, -, h3', -⟩ := h'
  cases Option.some.inj (h2.symm.trans h2')
  obtain ⟨k, hk, hn⟩ := Vm.findClass_spec h3
  obtain ⟨k', hk', hn'⟩ := Vm.findClass_spec h3'
  cases Option.some.inj (hk.symm.trans hk')
  have e : cN t = cN t' := hn.symm.trans hn'
  rcases h1 with rfl | rfl | rfl | rfl | rfl <;> rcases h1' with rfl | rfl | rfl | rfl | rfl <;> first | rfl | (exfalso; revert e; decide)
/-- an array that was there -/
def ACr (s : State) (t r : Nat) : Prop := (t = 64 ∨ t = 68 ∨ t = 70 ∨ t = 72 ∨ t = 76 ∨ t = 77) ∧ 0 < r ∧ ∃ (cell : Cell) (N : Nat), s.heap[r - 1]? = some cell ∧ cell.vm ≠ .unknown ∧ s.isArrayOf cell (aT t) ∧ (t = 72 → va_RA s cell.cls (aT 72)) ∧ N < 2147483648 ∧ N ≤ cell.slots.size ∧ cell.slots.size.toInt32 = Int32.ofNat N ∧ ∀ j, j < N → ∃ v, cell.slots[j]? = some v ∧ (ak t = 2 → ∃ x, v = rv x) ∧ (ak t = 0 → ∃ x, v = .int x)
theorem ACr.inj {s : State} (t t' r : Nat) (h : ACr s t r) (h' : ACr s t' r) : t = t' := by
  obtain ⟨h1, -, cell, N, h2, -, ⟨-, k, hk, c, hkk⟩, -⟩ := h
  obtain ⟨h1', -, cell', N', h2', -, ⟨-, k', hk', c', hkk'⟩, -⟩ := h'
  cases Option.some.inj (h2.symm.trans h2')
  cases Option.some.inj (hk.symm.trans hk')
  have z := hkk.symm.trans hkk'
  injection z with z1 z2
  rcases h1 with rfl | rfl | rfl | rfl | rfl | rfl <;> rcases h1' with rfl | rfl | rfl | rfl | rfl | rfl <;> first | rfl | (exfalso; revert z2; decide)
theorem stat_of {d : VmData} (h : ∀ k, d ≠ .statics k) : d.isStatics = false := by
  cases d <;> first | rfl | exact absurd rfl (h _)
section H0
variable {s : State} {A : Array Value} {oF aF : List (Nat × List Term)}
theorem kc_h0 (r : Nat) : kc (h0 s A oF aF) r = ftag s A aF r := by
  show cond (Nat.beq ((4 * r + 1) % 4) 1) (ftag s A aF ((4 * r + 1) / 4)) (sR s A (4 * r + 1)) = _
  have e1 : (4 * r + 1) % 4 = 1 := by omega
  have e2 : (4 * r + 1) / 4 = r := by omega
  rw [e1, e2]
  rfl
theorem fv_h0 {f r : Nat} {v : Value} (hr : 0 < r) (hv : slotV s r ((K0 s).2 f) = some v) (hk : kOv f v) : fv (h0 s A oF aF) f r = v := by
  have hb : Nat.beq r 0 = false := by cases r with | zero => omega | succ r => rfl
  have e1 : gI (h0 s A oF aF) f r = vInt (some v) := by show cond (Nat.beq r 0) _ (vInt (slotV s r ((K0 s).2 f))) = _; rw [hb, hv]; rfl
  have e2 : gJ (h0 s A oF aF) f r = vLng (some v) := by show cond (Nat.beq r 0) _ (vLng (slotV s r ((K0 s).2 f))) = _; rw [hb, hv]; rfl
  have e3 : gR (h0 s A oF aF) f r = vRef (some v) := by show cond (Nat.beq r 0) _ (vRef (slotV s r ((K0 s).2 f))) = _; rw [hb, hv]; rfl
  unfold fv rdF
  unfold kOv at hk
  rw [e1, e2, e3]
  rcases (by omega : f % 4 = 0 ∨ f % 4 = 1 ∨ f % 4 = 2 ∨ f % 4 = 3) with e | e | e | e <;> rw [e] at hk ⊢
  · obtain ⟨x, rfl⟩ := hk
    show Value.int (Int32.ofInt x.toInt) = _
    rw [Int32.ofInt_toInt]
  · obtain ⟨x, rfl⟩ := hk
    show Value.long (Int64.ofInt x.toInt) = _
    rw [Int64.ofInt_toInt]
  · obtain ⟨x, rfl⟩ := hk
    exact vRef_rv x
  · rcases hk with rfl | rfl <;> rfl
theorem rep0 (hO : ∀ q ∈ oF, ∀ x ∈ q.2, OCr s q.1 (keyT s A x)) (hA : ∀ q ∈ aF, ∀ x ∈ q.2, ACr s q.1 (keyT s A x)) (hS : ∀ f ∈ sFs, va_Z (fO f) (fN f) (fD f) (fv (h0 s A oF aF) f 0) (fun _ => False) s s.heap) (hT : ∀ q ∈ tFs, ∃ tx, 0 < gR (h0 s A oF aF) q.1 0 ∧ vk_R q.2.1 q.2.2 tx (gR (h0 s A oF aF) q.1 0 - 1) s) : Rep s (K0 s) (h0 s A oF aF) s.heap := by
  have hOr : ∀ r, hc (h0 s A oF aF) r ≠ 0 → OCr s (hc (h0 s A oF aF) r) r := by
    intro r hr
    obtain ⟨q, hq, x, hx, e1, e2⟩ := ftag_s (s := s) (A := A) (fs := oF) hr
    have h1 := hO q hq x hx
    rw [e1] at h1
    have e3 : hc (h0 s A oF aF) r = q.1 := e2
    rw [e3]
    exact h1
  have hAr : ∀ r, kc (h0 s A oF aF) r ≠ 0 → ACr s (kc (h0 s A oF aF) r) r := by
    intro r hr
    rw [kc_h0] at hr ⊢
    obtain ⟨q, hq, x, hx, e1, e2⟩ := ftag_s (s := s) (A := A) (fs := aF) hr
    have h1 := hA q hq x hx
    rw [e1] at h1
    rw [e2]
    exact h1
  have hlen : ∀ r, hl (h0 s A oF aF) r = cond (Nat.beq (kc (h0 s A oF aF) r) 0) 0 (match s.heap[r - 1]? with
      | some c => c.slots.size.toInt32.toInt
      | none => 0) := fun r => by rw [kc_h0]; rfl
  have hlA : ∀ (r : Nat) (cell : Cell) (N : Nat), kc (h0 s A oF aF) r ≠ 0 → s.heap[r - 1]? = some cell → cell.slots.size.toInt32 = Int32.ofNat N → N < 2147483648 → hl (h0 s A oF aF) r = N := by
    intro r cell N hr hcell hz hN
    have hb : Nat.beq (kc (h0 s A oF aF) r) 0 = false := by
      cases hq : Nat.beq (kc (h0 s A oF aF) r) 0 with
      | false => rfl
      | true => exact absurd (Nat.eq_of_beq_eq_true hq) hr
    rw [hlen, hb, hcell]
    show cell.slots.size.toInt32.toInt = N
    rw [hz]
    have : Int32.ofNat N = Int32.ofInt (N : Int) := (Int32.ofInt_eq_ofNat).symm
    rw [this]
    exact of32 ⟨by omega, by omega⟩
  have R3 : ∀ r, hc (h0 s A oF aF) r ≠ 0 → (hc (h0 s A oF aF) r ≤ 77 ∧ (hc (h0 s A oF aF) r < 64 → hc (h0 s A oF aF) r ≤ 55) ∧ (mdT (hc (h0 s A oF aF) r) = true ∨ mdA (hc (h0 s A oF aF) r) = true → s.heap.size < r)) ∧ r < hn (h0 s A oF aF) ∧ At1 s (K0 s) (h0 s A oF aF) s.heap r := by
    intro r hr
    obtain ⟨h1, h2, cell, h3, h4, h5, h6, h7⟩ := hOr r hr
    have hlt : r - 1 < s.heap.size := (Array.getElem?_eq_some_iff.mp h3).1
    have hmd : mdT (hc (h0 s A oF aF) r) = false := by rcases h1 with e | e | e | e | e <;> rw [e] <;> rfl
    have hmA : mdA (hc (h0 s A oF aF) r) = false := by rcases h1 with e | e | e | e | e <;> rw [e] <;> rfl
    refine ⟨⟨by omega, fun _ => by omega, fun z => (by rw [hmd, hmA] at z; rcases z with z | z <;> cases z)⟩, (by show r < s.heap.size + 1; omega), cell, h3, h4, h5, fun _ => ⟨(K0_cls h6).symm, fun z => (by rw [hmd] at z; cases z), fun f hf => ?_⟩, fun z => (by omega)⟩
    obtain ⟨v, hv, hkv⟩ := h7 f hf
    rw [fv_h0 (A := A) (oF := oF) (aF := aF) h2 (by unfold slotV; rw [h3]; exact hv) hkv]
    exact hv
  refine ⟨rfl, ?_, R3, ?_, ⟨hT, ?_⟩, ?_, rfl⟩
  · rcases Nat.eq_zero_or_pos (hc (h0 s A oF aF) 0) with e | e
    · exact e
    · have := (hOr 0 (by omega)).2.1; omega
  · intro f hf
    obtain ⟨cf, kf, fi, fd, a, ca, z1, z2, z3, z4, z5, z6, z7, -⟩ := hS f hf
    refine ⟨cf, kf, fi, fd, a, ca, z1, z2, z3, z4, z5, z6, z7, fun hd => ?_⟩
    obtain ⟨-, -, cell, h3, -, h5, -⟩ := R3 (a + 1) hd
    rw [Nat.add_sub_cancel, z5] at h3
    cases h3
    rw [z6] at h5
    cases h5
  · intro r hr
    obtain ⟨h1, h2, cell, N, h3, h4, h5, h6, h7, h8, h9, h10⟩ := hAr r hr
    have hlt : r - 1 < s.heap.size := (Array.getElem?_eq_some_iff.mp h3).1
    have hL := hlA r cell N hr h3 h9 h7
    refine ⟨by omega, h2, by omega, by omega, cell, h3, h4, stat_of h5.1, h5, h6, by rw [hL]; omega, by rw [hL, h9, Int32.ofInt_eq_ofNat], fun j hj => ?_⟩
    rw [hL] at hj
    obtain ⟨v, hv, hv2, hv0⟩ := h10 j (by omega)
    rw [hv]
    have e1 : eI (h0 s A oF aF) r j = vInt (some v) := by show vInt (slotV s r (Int.toNat (j : Int))) = _; unfold slotV; rw [h3, Int.toNat_natCast]; show vInt (cell.slots[j]?) = _; rw [hv]
    have e3 : eR (h0 s A oF aF) r j = vRef (some v) := by show vRef (slotV s r (Int.toNat (j : Int))) = _; unfold slotV; rw [h3, Int.toNat_natCast]; show vRef (cell.slots[j]?) = _; rw [hv]
    unfold ev
    rw [e1, e3]
    rcases h1 with e | e | e | e | e | e <;> rw [e] at hv2 hv0 ⊢ <;> first
      | (obtain ⟨x, rfl⟩ := hv0 rfl; show some (Value.int x) = some (Value.int (Int32.ofInt x.toInt)); rw [Int32.ofInt_toInt])
      | (obtain ⟨x, rfl⟩ := hv2 rfl; show some (rv x) = some (rv (vRef (some (rv x)))); rw [vRef_rv])
  · refine ⟨fun f r => ?_, fun f r => ?_, fun r i => vInt_in _, fun r i => vLng_in _, fun r => ?_⟩
    · show in32 (cond (Nat.beq r 0) _ _)
      cases Nat.beq r 0 <;> exact vInt_in _
    · show in64 (cond (Nat.beq r 0) _ _)
      cases Nat.beq r 0 <;> exact vLng_in _
    · by_cases e : kc (h0 s A oF aF) r = 0
      · rw [hlen, e]
        exact ⟨(by decide : (0 : Int) ≤ 0), (by decide : (0 : Int) < 2147483648)⟩
      · obtain ⟨h1, h2, cell, N, h3, h4, h5, h6, h7, h8, h9, h10⟩ := hAr r e
        rw [hlA r cell N e h3 h9 h7]
        omega
end H0
theorem names_ne : ((List.range 56).all fun t => (cF t).all fun f => (cF t).all fun g => decide (f = g) || !decide (fN f = fN g)) = true := by decide +kernel
theorem lay_d {s : State} {A : Array Value} {t f : Nat} {c : ClassId} {k : Class} (hc1 : s.vm.findClass (cN t) = some c) (hk1 : s.vm.classes[c]? = some k) (hw : (layW t f).before A s = true) (hf : f ∈ iFs) : ∃ cf kf fi fd d, s.fieldFound? (fO f) (fN f) (fD f) = some (cf, kf, fi, fd) ∧ fd.isStatic = false ∧ Jmm.declares? s.vm fd.slot (c + 1) c = some d ∧ d.2.name = fd.name ∧ fd.name = fN f := by
  unfold layW at hw
  split at hw
  · obtain ⟨c1, k1, cf, kf, fi, fd, r1, r2, r3, r4, -, -, -, -, d, r5, -, r6, -⟩ := Cond.laysFinal_spec hw
    cases Option.some.inj (hc1.symm.trans r1)
    exact ⟨cf, kf, fi, fd, d, r3, r4, r5, r6, (State.fieldFound?_type r3 (fTy_s hf)).1⟩
  · obtain ⟨c1, k1, cf, kf, fi, fd, r1, r2, r3, r4, -, -, -, d, r5, -, r6, -⟩ := Cond.lays_spec hw
    cases Option.some.inj (hc1.symm.trans r1)
    exact ⟨cf, kf, fi, fd, d, r3, r4, r5, r6, (State.fieldFound?_type r3 (fTy_s hf)).1⟩
theorem cx0 {s : State} {A : Array Value} (hts : ∀ w ∈ lw_tbl, w.before A s = true) (hIns : ∀ t, mdT t = true → ∃ n, Cond.instantiable (cN t) n ∈ lw_tbl) (hLay : ∀ t f, mdT t = true → f ∈ cF t → layW t f ∈ lw_tbl) (hSl : ∀ t f, t ≤ 55 → mdT t = false → f ∈ cF t → ∃ cf kf fi fd, s.fieldFound? (fO f) (fN f) (fD f) = some (cf, kf, fi, fd) ∧ fd.isStatic = false) : CX s A (K0 s) := by
  have hfc : ∀ t, 1 ≤ t → t ≤ 55 → s.vm.findClass (cN t) = some ((K0 s).1 t) := by
    intro t h1 h2
    obtain ⟨c0, t0, f1, f2, f3⟩ := Cond.castable_spec (hts _ (globOK.2.1 t h1 h2))
    rw [K0_cls f1]
    exact f1
  have hcl : ∀ t, mdT t = true → ClassAt s (cN t) ((K0 s).1 t) := by
    intro t ht
    obtain ⟨n, hn⟩ := hIns t ht
    obtain ⟨c1, kX, hc1, hk, hord, -, -, -⟩ := Cond.instantiable_spec (hts _ hn)
    have hm := md_lt ht
    have hf := hfc t hm.2.1 hm.2.2
    cases Option.some.inj (hc1.symm.trans hf)
    exact ⟨hc1, kX, hk, hord⟩
  have hly : ∀ t f, mdT t = true → f ∈ cF t → ∃ cf kf fi fd d, s.fieldFound? (fO f) (fN f) (fD f) = some (cf, kf, fi, fd) ∧ fd.isStatic = false ∧ Jmm.declares? s.vm fd.slot ((K0 s).1 t + 1) ((K0 s).1 t) = some d ∧ d.2.name = fd.name ∧ fd.name = fN f := by
    intro t f ht hf
    obtain ⟨h1, k, hk, -⟩ := hcl t ht
    exact lay_d h1 hk (hts _ (hLay t f ht hf)) (cF_iF (md_lt ht).2.2 hf)
  refine ⟨hts, hfc, hcl, ?_, hLay, ?_⟩
  · intro t f ht hf
    cases hm : mdT t with
    | true =>
      obtain ⟨cf, kf, fi, fd, d, r1, r2, -⟩ := hly t f hm hf
      exact ⟨cf, kf, fi, fd, r1, r2, (K0_slot r1).symm⟩
    | false =>
      obtain ⟨cf, kf, fi, fd, r1, r2⟩ := hSl t f ht hm hf
      exact ⟨cf, kf, fi, fd, r1, r2, (K0_slot r1).symm⟩
  · intro t f g ht hf hg hne
    obtain ⟨cf, kf, fi, fd, d, r1, r2, r3, r4, r5⟩ := hly t f ht hf
    obtain ⟨cg, kg, gi, gd', e, q1, q2, q3, q4, q5⟩ := hly t g ht hg
    rw [K0_slot r1, K0_slot q1]
    refine Cond.laysApart r3 q3 r4 q4 ?_
    rw [r5, q5]
    have h1 := List.all_eq_true.mp (List.all_eq_true.mp (List.all_eq_true.mp names_ne t (List.mem_range.mpr (by have := (md_lt ht).2.2; omega))) f hf) g hg
    simp only [Bool.or_eq_true, decide_eq_true_eq, Bool.not_eq_true', decide_eq_false_iff_not] at h1
    rcases h1 with h1 | h1
    · exact absurd h1 hne
    · exact h1
