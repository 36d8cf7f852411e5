/-! THE ROWS OF A METHOD: one check by computation -/
theorem bytes_all (cc : ByteArray) : BytesAt cc 0 (cc.data.toList.map (·.toNat)) := by
  intro k n h
  rw [List.getElem?_map] at h
  cases hk : cc.data.toList[k]? with
  | none => rw [hk] at h; cases h
  | some x =>
    rw [hk] at h
    have h : some x.toNat = some n := h
    obtain ⟨h1, h2⟩ := List.getElem?_eq_some_iff.mp hk
    have h3 : k < cc.size := by show k < cc.data.size; simpa using h1
    refine ⟨by omega, ?_⟩
    have : cc[0 + k] = x := by
      simp only [Nat.zero_add]
      rw [← h2]
      rfl
    rw [this]
    exact Option.some.inj h
/-- one switch -/
def swC (cc : ByteArray) (pc len : Nat) (d : Int) (ps : Array (Int × Int)) : Bool := match decode cc pc with
  | .ok (.tableswitch dflt lo hi offs, n) => decide (n = len) && decide (hi = lo + offs.size - 1) && decide (d = pc + dflt) && decide (0 ≤ d) && decide (ps.toList = mkPs pc dflt lo offs.toList) && offs.toList.all (fun o => decide (0 ≤ (pc : Int) + o))
  | .ok (.lookupswitch dflt qs, n) => decide (n = len) && (qs.toList.zip (qs.toList.drop 1)).all (fun (a, next) => a.1 < next.1) && decide (d = pc + dflt) && decide (0 ≤ d) && decide (ps.toList = qs.toList.map (fun q => (q.1, (pc : Int) + q.2))) && qs.toList.all (fun o => decide (0 ≤ (pc : Int) + o.2))
  | _ => false
theorem swC_s {cc : ByteArray} {pc len : Nat} {d : Int} {ps : Array (Int × Int)} (h : swC cc pc len d ps = true) : SwR cc pc len d ps := by
  unfold swC at h
  split at h
  · rename_i dflt lo hi offs n hd
    simp only [Bool.and_eq_true, decide_eq_true_eq, List.all_eq_true] at h
    obtain ⟨⟨⟨⟨⟨rfl, h2⟩, h3⟩, h4⟩, h5⟩, h6⟩ := h
    exact Or.inl ⟨dflt, lo, hi, offs, hd, h2, h3, h4, h5, h6⟩
  · rename_i dflt qs n hd
    rw [Bool.and_eq_true, Bool.and_eq_true, Bool.and_eq_true, Bool.and_eq_true, Bool.and_eq_true] at h
    obtain ⟨⟨⟨⟨⟨h1, h2⟩, h3⟩, h4⟩, h5⟩, h6⟩ := h
    have h1 := of_decide_eq_true h1
    subst h1
    refine Or.inr ⟨dflt, qs, hd, h2, of_decide_eq_true h3, of_decide_eq_true h4, of_decide_eq_true h5, fun o ho => of_decide_eq_true (List.all_eq_true.mp h6 o ho)⟩
  · cases h
/-- switches and calls with several targets in a row -/
def rowC (cc : ByteArray) (q : Nat × Instr × Nat) : Bool := match q.2.1 with
  | .lookupswitch d ps => swC cc q.1 q.2.2 d ps
  | .invokeinterface p n => match nth pnaT p with
    | some k => Nat.beq k n
    | none => false
  | _ => true
def rowsB (M : Nat) (cc : ByteArray) (Ω : Om) (κ μ : List (Nat × Int)) (ini : Bool) (rc : Nat) : Bool :=
  ckA Ω κ μ (mxM M) ini rc 0 (codM (M / 262144)).flatten (cc.data.toList.map (·.toNat)) && (codM (M / 262144)).flatten.all (rowC cc)
theorem rowsB_s {M : Nat} {cc : ByteArray} {Ω : Om} {κ μ : List (Nat × Int)} {ini : Bool} {rc : Nat} (h : rowsB M cc Ω κ μ ini rc = true) : RowsOK M cc Ω κ μ ini rc := by
  unfold rowsB at h
  rw [Bool.and_eq_true] at h
  refine ⟨⟨_, bytes_all cc, h.1⟩, fun q hq d ps e => ?_, fun q hq => ?_⟩
  · have h1 := List.all_eq_true.mp h.2 q hq
    unfold rowC at h1
    rw [e] at h1
    exact swC_s h1
  · have h1 := List.all_eq_true.mp h.2 q hq
    unfold rowC at h1
    unfold pnOK
    split
    · rename_i p n e
      rw [e] at h1
      show nth pnaT p = some n
      have h1 : (match nth pnaT p with | some k => Nat.beq k n | none => false) = true := h1
      cases hk : nth pnaT p with
      | none => rw [hk] at h1; cases h1
      | some k => rw [hk] at h1; rw [Nat.beq_eq.mp h1]
    · trivial
theorem MethOK.cg {s0 : State} {M M' : Nat} (e : M / 262144 = M' / 262144) (h : MethOK s0 M') : MethOK s0 M := by
  unfold MethOK RowsOK mNm wM mxM hndL at *
  rw [e]
  exact h
