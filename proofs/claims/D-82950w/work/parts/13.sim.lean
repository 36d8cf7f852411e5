/-! LOCALS, AND WHAT A SIMULATION STEP IS -/
def lvE (lp : List PV) (i : Nat) : Option (Nat × Value) := match lget lp i, lget lp (i + 1) with
  | .inl x, _ => some (i, .int (Int32.ofInt x))
  | .inr (.inr (.inl r)), _ => some (i, rv r)
  | .inr (.inl x), .inr (.inr (.inr _)) => some (i, .long (Int64.ofInt x))
  | _, _ => none
def lvL (lp : List PV) : List (Nat × Value) := (List.range lp.length).filterMap (lvE lp)
def LV (ls : Array Slot) (lp : List PV) : Prop := lv_has ls lp.length (lvL lp)
theorem lget_ge : ∀ {lp : List PV} {i : Nat}, lp.length ≤ i → lget lp i = vX
  | [], _, _ => by unfold lget; rfl
  | _ :: l, 0, h => by simp at h
  | _ :: l, i + 1, h => by unfold lget; exact lget_ge (by simp at h; exact h)
theorem lset_len : ∀ {lp : List PV} {i : Nat} {v : PV}, (lset lp i v).length = lp.length
  | [], _, _ => rfl
  | _ :: _, 0, _ => rfl
  | _ :: l, i + 1, v => by show (lset l i v).length + 1 = l.length + 1; rw [lset_len]
theorem lget_lset : ∀ {lp : List PV} {i j : Nat} {v : PV}, i < lp.length → lget (lset lp i v) j = if j = i then v else lget lp j
  | [], _, _, _, h => by simp at h
  | x :: l, 0, 0, v, _ => rfl
  | x :: l, 0, j + 1, v, _ => by rw [if_neg (by omega)]; rfl
  | x :: l, i + 1, 0, v, _ => by rw [if_neg (by omega)]; rfl
  | x :: l, i + 1, j + 1, v, h => by
    show lget (lset l i v) j = if j + 1 = i + 1 then v else lget l j
    rw [lget_lset (by simp at h; omega)]
    by_cases e : j = i
    · rw [if_pos e, if_pos (by omega)]
    · rw [if_neg e, if_neg (by omega)]
theorem lvE_fst {lp : List PV} {i : Nat} {q : Nat × Value} (h : lvE lp i = some q) : q.1 = i := by
  unfold lvE at h
  split at h <;> cases h <;> rfl
theorem mem_lvL {lp : List PV} {q : Nat × Value} (h : q ∈ lvL lp) : q.1 < lp.length ∧ lvE lp q.1 = some q := by
  obtain ⟨i, hi, he⟩ := List.mem_filterMap.mp h
  have := lvE_fst he
  subst this
  exact ⟨List.mem_range.mp hi, he⟩
theorem lvL_mem {lp : List PV} {i : Nat} {q : Nat × Value} (h : lvE lp i = some q) (hi : i < lp.length) : q ∈ lvL lp := List.mem_filterMap.mpr ⟨i, List.mem_range.mpr hi, h⟩
theorem LV.at {ls : Array Slot} {lp : List PV} (h : LV ls lp) {i : Nat} {v : Value} (he : lvE lp i = some (i, v)) : ls[i]? = some (.val v) := by
  by_cases hi : i < lp.length
  · exact h.2.2 (i, v) (lvL_mem he hi)
  · exfalso
    unfold lvE at he
    rw [lget_ge (by omega : lp.length ≤ i)] at he
    cases he
theorem lvE_I {lp : List PV} {i : Nat} {x : Int} (h : lget lp i = .inl x) : lvE lp i = some (i, .int (Int32.ofInt x)) := by unfold lvE; rw [h]
theorem lvE_R {lp : List PV} {i : Nat} {r : Nat} (h : lget lp i = .inr (.inr (.inl r))) : lvE lp i = some (i, rv r) := by unfold lvE; rw [h]
theorem lvE_J {lp : List PV} {i : Nat} {x : Int} {u : Unit} (h : lget lp i = .inr (.inl x)) (h2 : lget lp (i + 1) = .inr (.inr (.inr u))) : lvE lp i = some (i, .long (Int64.ofInt x)) := by unfold lvE; rw [h, h2]
def kp1 (i : Nat) : Nat × Value → Bool := fun q => !(q.1 == i) && !(q.1 + 1 == i && q.2.category == 2)
def kp2 (i : Nat) : Nat × Value → Bool := fun q => !(q.1 == i) && (!(q.1 == i + 1) && !(q.1 + 1 == i && q.2.category == 2))
theorem rv_cat (r : Nat) : (rv r).category = 1 := by cases r <;> rfl
/-- a store of one word -/
theorem LV.st1 {ls : Array Slot} {lp : List PV} {i : Nat} {v : PV} {w : Value} (hi : i < lp.length) (hv : (∃ x, v = vI x ∧ w = .int (Int32.ofInt x)) ∨ ∃ r, v = vR r ∧ w = rv r) (h : lv_has ls lp.length ((i, w) :: (lvL lp).filter (kp1 i))) : LV ls (lset lp i v) := by
  refine ⟨by rw [lset_len]; exact h.1, h.2.1, fun q hq => h.2.2 q ?_⟩
  obtain ⟨h1, h2⟩ := mem_lvL hq
  rw [lset_len] at h1
  by_cases e : q.1 = i
  · have : q = (i, w) := by
      unfold lvE at h2
      rw [e, lget_lset hi, if_pos rfl] at h2
      rcases hv with ⟨x, rfl, rfl⟩ | ⟨r, rfl, rfl⟩ <;> exact (Option.some.inj h2).symm
    rw [this]; exact List.mem_cons_self
  · refine List.mem_cons_of_mem _ (List.mem_filter.mpr ⟨?_, ?_⟩)
    · refine lvL_mem (i := q.1) ?_ h1
      unfold lvE at h2 ⊢
      rw [lget_lset hi, if_neg e, lget_lset hi] at h2
      by_cases e2 : q.1 + 1 = i
      · rw [if_pos e2] at h2
        rcases ha : lget lp q.1 with x | ⟨x | ⟨r | u⟩⟩
        · rw [ha] at h2; exact h2
        · rw [ha] at h2
          rcases hv with ⟨y, rfl, -⟩ | ⟨r, rfl, -⟩ <;> cases h2
        · rw [ha] at h2; exact h2
        · rw [ha] at h2; cases h2
      · rw [if_neg e2] at h2
        exact h2
    · unfold kp1
      simp only [Bool.and_eq_true, Bool.not_eq_true', beq_eq_false_iff_ne, ne_eq, Bool.and_eq_false_imp, beq_iff_eq]
      refine ⟨e, fun e2 => ?_⟩
      unfold lvE at h2
      rw [lget_lset hi, if_neg e, lget_lset hi, if_pos e2] at h2
      rcases ha : lget lp q.1 with x | ⟨x | ⟨r | u⟩⟩
      · rw [ha] at h2
        have : q.2 = .int (Int32.ofInt x) := by rw [← Option.some.inj h2]
        rw [this]; simp [Value.category]
      · rw [ha] at h2
        rcases hv with ⟨y, rfl, -⟩ | ⟨r, rfl, -⟩ <;> cases h2
      · rw [ha] at h2
        have : q.2 = rv r := by rw [← Option.some.inj h2]
        rw [this, rv_cat]; decide
      · rw [ha] at h2; cases h2
/-- a store of two words -/
theorem LV.st2 {ls : Array Slot} {lp : List PV} {i : Nat} {x : Int} (hi : i + 1 < lp.length) (h : lv_has ls lp.length ((i, .long (Int64.ofInt x)) :: (lvL lp).filter (kp2 i))) : LV ls (lset (lset lp i (vJ x)) (i + 1) vX) := by
  have hi0 : i < lp.length := by omega
  have hl1 : i + 1 < (lset lp i (vJ x)).length := by rw [lset_len]; exact hi
  have g : ∀ j, lget (lset (lset lp i (vJ x)) (i + 1) vX) j = if j = i + 1 then vX else if j = i then vJ x else lget lp j := by
    intro j
    rw [lget_lset hl1, lget_lset hi0]
  refine ⟨by rw [lset_len, lset_len]; exact h.1, h.2.1, fun q hq => h.2.2 q ?_⟩
  obtain ⟨h1, h2⟩ := mem_lvL hq
  rw [lset_len, lset_len] at h1
  unfold lvE at h2
  rw [g, g] at h2
  by_cases e : q.1 = i
  · have : q = (i, .long (Int64.ofInt x)) := by
      rw [e, if_neg (by omega), if_pos rfl, if_pos rfl] at h2
      exact (Option.some.inj h2).symm
    rw [this]; exact List.mem_cons_self
  · by_cases e1 : q.1 = i + 1
    · rw [if_pos e1] at h2; cases h2
    · rw [if_neg e1, if_neg e, if_neg (by omega : ¬ q.1 + 1 = i + 1)] at h2
      refine List.mem_cons_of_mem _ (List.mem_filter.mpr ⟨?_, ?_⟩)
      · refine lvL_mem (i := q.1) ?_ h1
        unfold lvE
        by_cases e2 : q.1 + 1 = i
        · rw [if_pos e2] at h2
          rcases ha : lget lp q.1 with x | ⟨x | ⟨r | u⟩⟩ <;> rw [ha] at h2 <;> first | exact h2 | cases h2
        · rw [if_neg e2] at h2
          exact h2
      · unfold kp2
        simp only [Bool.and_eq_true, Bool.not_eq_true', beq_eq_false_iff_ne, ne_eq, Bool.and_eq_false_imp, beq_iff_eq]
        refine ⟨e, e1, fun e2 => ?_⟩
        rw [if_pos e2] at h2
        rcases ha : lget lp q.1 with x | ⟨x | ⟨r | u⟩⟩
        · rw [ha] at h2
          have : q.2 = .int (Int32.ofInt x) := by rw [← Option.some.inj h2]
          rw [this]; simp [Value.category]
        · rw [ha] at h2; cases h2
        · rw [ha] at h2
          have : q.2 = rv r := by rw [← Option.some.inj h2]
          rw [this, rv_cat]; decide
        · rw [ha] at h2; cases h2
def wfv : PV → Prop
  | .inl x => in32 x
  | .inr (.inl x) => in64 x
  | _ => True
def WFv (l : List PV) : Prop := ∀ v ∈ l, wfv v
theorem WFv.cons {v : PV} {l : List PV} (h : wfv v) (k : WFv l) : WFv (v :: l) := by
  intro x hx
  rcases List.mem_cons.mp hx with e | e
  · rw [e]; exact h
  · exact k x e
theorem WFv.hd {v : PV} {l : List PV} (h : WFv (v :: l)) : wfv v := h v List.mem_cons_self
theorem WFv.tl {v : PV} {l : List PV} (h : WFv (v :: l)) : WFv l := fun x hx => h x (List.mem_cons_of_mem _ hx)
theorem WFv.get : ∀ {l : List PV}, WFv l → ∀ i, wfv (lget l i)
  | [], _, _ => trivial
  | _ :: _, h, 0 => h.hd
  | _ :: _, h, i + 1 => WFv.get h.tl i
theorem WFv.set : ∀ {l : List PV} {i : Nat} {v : PV}, WFv l → wfv v → WFv (lset l i v)
  | [], _, _, h, _ => h
  | _ :: _, 0, _, h, k => WFv.cons k h.tl
  | _ :: _, i + 1, v, h, k => WFv.cons h.hd (WFv.set (i := i) h.tl k)
theorem wf_get {l : List PV} {i : Nat} {v : PV} (h : WFv l) (e : lget l i = v) : wfv v := by rw [← e]; exact WFv.get h i
abbrev RM (d : Nat) (h : PH) : Room := { frames := d + 8, cells := cLim - hk h, slots := sLim - hs h, locals := 46 * d + 400 }
def oc : Ot → Outcome
  | .inl v => .returned (v.map cv)
  | .inr r => .threw (r - 1)
def wfO (o : Ot) (h : PH) : Prop := match o with
  | .inl (some v) => wfv v
  | .inl none => True
  | .inr r => inT 44 47 (hc h r)
/-- growth -/
def Ge (a b : PH) : Prop := hk a ≤ hk b ∧ hs a ≤ hs b ∧ hk b ≤ cLim ∧ hs b ≤ sLim
def QE (s0 : State) (K : KX) (hS : PH) (o : Ot) (hE : PH) : Array Value → State → Outcome → State → Prop := fun _ _ x t => x = oc o ∧ Rep s0 K hE t.heap ∧ s0.WarmedH t.vm ∧ Ge hS hE ∧ wfO o hE
def fr0 (s0 : State) : Addr → Prop := fun q => s0.heap.size ≤ q
