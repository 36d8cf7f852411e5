/-! FROM THE STATEMENT TO THE PURE HEAP AT THE START (printed by gen/start.py) -/
set_option maxRecDepth 100000
abbrev NoA : Nat → Prop := fun _ => False
theorem noA {s : State} : ∀ a : Nat, a < s.heap.size → ¬ NoA a := fun _ _ z => z
section ST
variable {A : Array Value} {s : State}
theorem OF_slot {C n d : String} {v : Value} {a f : Nat} (h : va_OF C n d v a NoA s s.heap) (e1 : fO f = C) (e2 : fN f = n) (e3 : fD f = d) : ∃ cell : Cell, s.heap[a]? = some cell ∧ cell.vm ≠ .unknown ∧ cell.slots[(K0 s).2 f]? = some v ∧ ∃ cf kf fi fd, s.fieldFound? (fO f) (fN f) (fD f) = some (cf, kf, fi, fd) ∧ fd.isStatic = false := by
  obtain ⟨cf, k, i, fd, cell, h1, h2, h3, h4, h5, -⟩ := h
  subst e1 e2 e3
  refine ⟨cell, h3, h4, ?_, cf, k, i, fd, h1, h2⟩
  rw [K0_slot h1]
  exact h5
def svT (own : String) (k : Nat) : Term := .field (.string own k) "java/lang/String" "value" "[B"
def strOK (own : String) (k : Nat) (byt : List Int) (ps : List (Nat × List Bool)) : Bool :=
  lfOK (ps.getD 0 (0, [])) (.exactly (.string own k) "java/lang/String") && (lfOK (ps.getD 1 (0, [])) (.eq (.field (.string own k) "java/lang/String" "coder" "B") (.int 0)) && (lfOK (ps.getD 2 (0, [])) (.arrayOf (svT own k) .byte) && (lfOK (ps.getD 3 (0, [])) (.eq (.length (svT own k)) (.int (Int32.ofNat byt.length))) && (Nat.ble byt.length 1000 && (List.range byt.length).all fun j => lfOK (ps.getD (4 + j) (0, [])) (.eq (.elem (svT own k) (.int (Int32.ofNat j))) (.int (Int32.ofInt (byt.getD j 0))))))))
theorem strs_ok : (strP.zip strT).all (fun z => strOK z.2.2.1 z.2.2.2.1 z.2.2.2.2.2 z.1) = true := by decide +kernel
theorem tFs_str : tFs = strT.map fun z => (z.1, z.2.1, z.2.2.1) := by decide +kernel
/-- what is known of a constant String -/
def StrS (A : Array Value) (s : State) (own : String) (k : Nat) (byt : List Int) (a t : Nat) : Prop := (Term.string own k).eval A s none [] s = some (.ref a) ∧ (svT own k).eval A s none [] s = some (.ref t) ∧ va_O "java/lang/String" a NoA s s.heap ∧ va_OF "java/lang/String" "coder" "B" (.int 0) a NoA s s.heap ∧ va_OF "java/lang/String" "value" "[B" (.ref t) a NoA s s.heap ∧ va_T .byte t byt.length (fun j => .int (Int32.ofInt (byt.getD j 0))) NoA s s.heap ∧ byt.length ≤ 1000
theorem str_s (hN : ∀ k, (nrw k).before A s = true) {own : String} {k : Nat} {byt : List Int} {ps : List (Nat × List Bool)} (h : strOK own k byt ps = true) : ∃ a t : Nat, StrS A s own k byt a t := by
  unfold strOK at h
  simp only [Bool.and_eq_true, List.all_eq_true, List.mem_range, Nat.ble_eq] at h
  obtain ⟨h1, h2, h3, h4, h6, h5⟩ := h
  obtain ⟨a, c, cA, kA, q1, q2, q3, q4, q5, q6, -⟩ := Cond.exactly_spec (args := A) (first := s) (o := none) (s := s) (idx := []) (lfOK_s hN h1)
  obtain ⟨t, ht, hT⟩ := va_Tof (f := fun j => .int (Int32.ofInt (byt.getD j 0))) (A := NoA) (by omega) (lfOK_s hN h3) (va_eqt (lfOK_s hN h4)) (fun j hj => va_eqt (lfOK_s hN (h5 j hj))) noA
  exact ⟨a, t, q1, ht, ⟨cA, q3, q5, by rw [q6]; exact q2, fun z => z⟩, vk_OFof q1 (va_eqt (lfOK_s hN h2)) noA, vk_OFof q1 ht noA, hT, h6⟩
theorem str_at (hN : ∀ k, (nrw k).before A s = true) {z : Nat × String × Nat × String × List Int} (hz : z ∈ strT) : ∃ a t : Nat, StrS A s z.2.1 z.2.2.1 z.2.2.2.2 a t := by
  obtain ⟨p, hp⟩ := zip_mem (l := strP) (m := strT) (by decide) z hz
  exact str_s hN (List.all_eq_true.mp strs_ok _ hp)
theorem ocr_str {own : String} {k : Nat} {byt : List Int} {a t : Nat} (h : StrS A s own k byt a t) : OCr s 53 (keyT s A (.string own k)) := by
  obtain ⟨q1, q2, ⟨cO, o1, o2, o3, -⟩, q4, q5, -, -⟩ := h
  rw [keyT_ref q1]
  obtain ⟨c1, a1, a2, a3, -⟩ := OF_slot (f := 3568632022) q5 (by decide +kernel) (by decide +kernel) (by decide +kernel)
  obtain ⟨c2, b1, b2, b3, -⟩ := OF_slot (f := 3577020628) q4 (by decide +kernel) (by decide +kernel) (by decide +kernel)
  cases Option.some.inj (o1.symm.trans a1)
  cases Option.some.inj (o1.symm.trans b1)
  refine ⟨by omega, by omega, cO, o1, a2, o2, o3, fun f hf => ?_⟩
  have e : cF 53 = [3568632022, 3577020628] := by decide +kernel
  rw [e] at hf
  rcases List.mem_cons.mp hf with rfl | hf
  · exact ⟨_, a3, t + 1, rfl⟩
  · rcases List.mem_cons.mp hf with rfl | hf
    · exact ⟨_, b3, _, rfl⟩
    · cases hf
theorem toks_ok : ((tokP.zip tokQ).zip tokF).all (fun z => lfOK z.1.1 (.exactly (stT z.2) "AlgolHouse$Token") && lfOK z.1.2.2 (.eq (.field (stT z.2) "java/lang/Enum" "ordinal" "I") (.int z.1.2.1))) = true := by decide +kernel
theorem tok_s (hN : ∀ k, (nrw k).before A s = true) {f : Nat} (hf : f ∈ tokF) : ∃ a : Nat, (stT f).eval A s none [] s = some (.ref a) ∧ OCr s 55 (keyT s A (stT f)) := by
  obtain ⟨p, hp⟩ := zip_mem (l := tokP.zip tokQ) (m := tokF) (by decide) f hf
  have h := List.all_eq_true.mp toks_ok _ hp
  rw [Bool.and_eq_true] at h
  obtain ⟨a, c, cA, kA, q1, q2, q3, q4, q5, q6, -⟩ := Cond.exactly_spec (args := A) (first := s) (o := none) (s := s) (idx := []) (lfOK_s hN h.1)
  obtain ⟨cf, k, i, fd, cell, g1, g2, g3, g4, g5, -⟩ := vk_OFof (A := NoA) q1 (va_eqt (lfOK_s hN h.2)) noA
  cases Option.some.inj (q3.symm.trans g3)
  refine ⟨a, q1, ?_⟩
  rw [keyT_ref q1]
  refine ⟨by omega, by omega, cA, q3, g4, q5, by rw [q6]; exact q2, fun f hf => ?_⟩
  have e : cF 55 = [] := by decide +kernel
  rw [e] at hf
  cases hf
theorem boo_s {f : Nat} {v : Int32} (hv : v = 0 ∨ v = 1) (h1 : (Cond.exactly (stT f) "java/lang/Boolean").before A s = true) (h2 : (Cond.eq (.field (stT f) "java/lang/Boolean" "value" "Z") (.int v)).before A s = true) : ∃ a : Nat, (stT f).eval A s none [] s = some (.ref a) ∧ OCr s 54 (keyT s A (stT f)) ∧ va_OF "java/lang/Boolean" "value" "Z" (.int v) a NoA s s.heap := by
  obtain ⟨a, c, cA, kA, q1, q2, q3, q4, q5, q6, -⟩ := Cond.exactly_spec (args := A) (first := s) (o := none) (s := s) (idx := []) h1
  have hof := vk_OFof (A := NoA) q1 (va_eqt h2) noA
  obtain ⟨c2, b1, b2, b3, -⟩ := OF_slot (f := 3585474779) hof (by decide +kernel) (by decide +kernel) (by decide +kernel)
  cases Option.some.inj (q3.symm.trans b1)
  refine ⟨a, q1, ?_, hof⟩
  rw [keyT_ref q1]
  refine ⟨by omega, by omega, cA, q3, b2, q5, by rw [q6]; exact q2, fun f hf => ?_⟩
  have e : cF 54 = [3585474779] := by decide +kernel
  rw [e] at hf
  rcases List.mem_cons.mp hf with rfl | hf
  · exact ⟨_, b3, by rcases hv with rfl | rfl; exact Or.inl rfl; exact Or.inr rfl⟩
  · cases hf
theorem ocr_obj {C : String} {t f : Nat} {v : Value} {n d : String} {a : Nat} (ht : t = 50 ∨ t = 52 ∨ t = 53 ∨ t = 54 ∨ t = 55) (hC : cN t = C) (hF : cF t = [f]) (hO : va_O C a NoA s s.heap) (hV : va_OF C n d v a NoA s s.heap) (e1 : fO f = C) (e2 : fN f = n) (e3 : fD f = d) (hk : kOv f v) : OCr s t (a + 1) := by
  obtain ⟨cO, o1, o2, o3, -⟩ := hO
  obtain ⟨c1, a1, a2, a3, -⟩ := OF_slot hV e1 e2 e3
  cases Option.some.inj (o1.symm.trans a1)
  refine ⟨ht, by omega, cO, o1, a2, o2, by rw [hC]; exact o3, fun g hg => ?_⟩
  rw [hF] at hg
  rcases List.mem_cons.mp hg with rfl | hg
  · exact ⟨v, a3, hk⟩
  · cases hg
def elT (st : Term) (j : Nat) : Term := .elem st (.int (Int32.ofNat j))
/-- the cache of small Longs -/
theorem lng_Cof {st : Term} (hcl : st.closed = true) (hlen : (Term.length st).eval A s none [] s = some (.int (Int32.ofNat 256)))
    (hall : (Cond.all st (.and (.exactly (.elem st (.index 0)) "java/lang/Long") (.eq (.field (.elem st (.index 0)) "java/lang/Long" "value" "J") (.op1 .i2l (.sub (.index 0) (.int 128)))))).before A s = true) :
    ∀ k : Nat, k < 256 → ∃ a : Nat, (elT st k).eval A s none [] s = some (.ref a) ∧ va_O "java/lang/Long" a NoA s s.heap ∧ va_OF "java/lang/Long" "value" "J" (.long (vb_c k).toInt64) a NoA s s.heap := by
  obtain ⟨b, cell, ht, hat, hv⟩ := Term.length_spec hlen
  have hsz : ∀ k : Nat, k < 256 → k < cell.slots.size := by
    intro k hk
    apply Nat.not_le.mp
    intro hle
    have e : Int32.ofNat cell.slots.size = Int32.ofNat 256 := (Value.int.inj hv).symm
    have h1 : (Int32.ofNat cell.slots.size).toNatClampNeg = cell.slots.size := Int32.toNatClampNeg_ofNat_of_lt (by omega)
    have h2 : (Int32.ofNat 256).toNatClampNeg = 256 := Int32.toNatClampNeg_ofNat_of_lt (by omega)
    rw [e, h2] at h1
    omega
  have hall' := Cond.all_elim ht hat (by simpa [Cond.before, Cond.holds] using hall)
  intro k hk
  obtain ⟨hE, hF⟩ := va_andE (hall' k (hsz k hk))
  obtain ⟨a, c, cA, kA, q1, q2, q3, q4, q5, q6, -⟩ := Cond.exactly_spec (args := A) (first := s) (o := none) (s := s) (idx := [k]) (t := .elem st (.index 0)) (cls := "java/lang/Long") (by simp [Cond.holds, hE])
  have hfv := va_eqI hF (v := .long (vb_c k).toInt64) (by simp [Term.eval, vb_c]; rfl)
  refine ⟨a, ?_, ⟨cA, q3, q5, by rw [q6]; exact q2, fun z => z⟩, ?_⟩
  · rw [← q1]
    unfold elT
    simp only [Term.eval, Term.eval_closed none [k] st s hcl]
    rfl
  · cases hfo : s.fieldFound? "java/lang/Long" "value" "J" with
    | none =>
      rw [va_fe q1] at hfv
      simp [State.fieldOf?, State.fieldNamed?, hfo] at hfv
    | some x =>
      obtain ⟨cf, kf, fi, f⟩ := x
      obtain ⟨g1, cell2, g2, g3, -, -, g6⟩ := Term.field_spec hfo q1 hfv
      exact ⟨cf, kf, fi, f, cell2, hfo, g1, g2, g3, g6, fun z => z⟩
theorem acr_T {t r N : Nat} {f : Nat → Value} (ht : t = 64 ∨ t = 68 ∨ t = 70 ∨ t = 72 ∨ t = 76 ∨ t = 77) (h : va_T (aT t) r N f NoA s s.heap) (hN : N < 2147483648) (h72 : t = 72 → ∀ cell : Cell, s.heap[r]? = some cell → va_RA s cell.cls (aT 72)) (hv : ∀ j, j < N → (ak t = 2 → ∃ x, f j = rv x) ∧ (ak t = 0 → ∃ x, f j = .int x)) : ACr s t (r + 1) := by
  obtain ⟨cell, h1, h2, h3, h4, h5, h6, -⟩ := h
  exact ⟨ht, by omega, cell, N, h1, h3, h2, fun e => h72 e cell h1, hN, h4, h5, fun j hj => ⟨f j, h6 j hj, hv j hj⟩⟩
end ST
