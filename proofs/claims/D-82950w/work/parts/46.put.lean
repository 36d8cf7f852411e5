/-! THE START, PUT TOGETHER (printed by gen/start.py) -/
set_option maxRecDepth 100000
def oF0 : List (Nat × List Term) := [(53, strT.map fun z => .string z.2.1 z.2.2.1), (55, tokF.map stT), (54, [stT 4085252098, stT 4093640706]), (50, (List.range 256).map (elT (stT 4068474882))), (52, (List.range 256).map (elT (stT 4076863490)))]
def aF0 : List (Nat × List Term) := [(64, [.arg 0]), (68, strT.map fun z => svT z.2.1 z.2.2.1), (70, [stT 3665821698]), (72, [stT 4034920450, stT 4043309058]), (76, [stT 4068474882]), (77, [stT 4076863490])]
abbrev hS0 (s : State) (b : Nat) : PH := h0 s #[.ref b] oF0 aF0
theorem wrds_ok : ((List.range 183).all fun j => lfOK (wrdP.getD j (0, [])) (.eq (.elem (stT 3665821698) (.int (Int32.ofNat j))) (.int (Int32.ofInt (wrdL.getD j 0))))) = true := by decide +kernel
theorem str_num : (strT.all fun z => Nat.beq (z.1 % 4) 2 && decide (asc tFs z.1 = some (z.2.1, z.2.2.1))) = true := by decide +kernel
section ST2
variable {s : State} {b L : Nat} {xs : Nat → Int32}
/-- what the Statement gives, in short -/
def Giv (s : State) (b L : Nat) (xs : Nat → Int32) : Prop := (∀ w ∈ lw_tbl, w.before #[Value.ref b] s = true) ∧ (∀ k, (nrw k).before #[Value.ref b] s = true) ∧ va_X b L xs s s.heap ∧ L ≤ 320
theorem g_tru (G : Giv s b L xs) : ∃ a : Nat, (stT 4085252098).eval #[.ref b] s none [] s = some (.ref a) ∧ OCr s 54 (keyT s #[.ref b] (stT 4085252098)) ∧ va_OF "java/lang/Boolean" "value" "Z" (.int 1) a NoA s s.heap :=
  boo_s (f := 4085252098) (Or.inr rfl) (lfOK_s G.2.1 (q := (1, [true, false, true, true, false, false, false, true, true])) (by decide +kernel)) (lfOK_s G.2.1 (q := (1, [true, false, true, true, false, false, true, false])) (by decide +kernel))
theorem g_fal (G : Giv s b L xs) : ∃ a : Nat, (stT 4093640706).eval #[.ref b] s none [] s = some (.ref a) ∧ OCr s 54 (keyT s #[.ref b] (stT 4093640706)) ∧ va_OF "java/lang/Boolean" "value" "Z" (.int 0) a NoA s s.heap :=
  boo_s (f := 4093640706) (Or.inl rfl) (lfOK_s G.2.1 (q := (1, [true, false, true, true, false, false, true, true, false])) (by decide +kernel)) (lfOK_s G.2.1 (q := (1, [true, false, true, true, false, false, true, true, true])) (by decide +kernel))
theorem g_int (G : Giv s b L xs) : ∃ (ad : Nat → Nat) (t : Nat), (stT 4068474882).eval #[.ref b] s none [] s = some (.ref t) ∧ va_T (.object "java/lang/Integer") t 256 (fun j => .ref (ad j)) NoA s s.heap ∧ ∀ j, j < 256 → (elT (stT 4068474882) j).eval #[.ref b] s none [] s = some (.ref (ad j)) ∧ va_O "java/lang/Integer" (ad j) NoA s s.heap ∧ va_OF "java/lang/Integer" "value" "I" (.int (vb_c j)) (ad j) NoA s s.heap := by
  have hlen : (Term.length (stT 4068474882)).eval #[.ref b] s none [] s = some (.int (Int32.ofNat 256)) := va_eqt (lfOK_s G.2.1 (q := (1, [true, false, true, true, false, false, false, false])) (by decide +kernel))
  obtain ⟨ad, hC, hev⟩ := vb_Cof (A := NoA) (st := stT 4068474882) rfl hlen (lfOK_s G.2.1 (q := (1, [true, false, true, true, false, false, false, true, false])) (by decide +kernel)) noA
  obtain ⟨t, ht, hT⟩ := va_Tof (tm := stT 4068474882) (ty := .object "java/lang/Integer") (N := 256) (f := fun j => .ref (ad j)) (A := NoA) (by decide) (lfOK_s G.2.1 (q := (1, [true, false, true, false, true, true, true, true, true])) (by decide +kernel)) hlen hev noA
  exact ⟨ad, t, ht, hT, fun j hj => ⟨hev j hj, hC.1 j hj, hC.2 j hj⟩⟩
theorem g_lng (G : Giv s b L xs) : ∃ (ad : Nat → Nat) (t : Nat), (stT 4076863490).eval #[.ref b] s none [] s = some (.ref t) ∧ va_T (.object "java/lang/Long") t 256 (fun j => .ref (ad j)) NoA s s.heap ∧ ∀ j, j < 256 → (elT (stT 4076863490) j).eval #[.ref b] s none [] s = some (.ref (ad j)) ∧ va_O "java/lang/Long" (ad j) NoA s s.heap ∧ va_OF "java/lang/Long" "value" "J" (.long (vb_c j).toInt64) (ad j) NoA s s.heap := by
  have hlen : (Term.length (stT 4076863490)).eval #[.ref b] s none [] s = some (.int (Int32.ofNat 256)) := va_eqt (lfOK_s G.2.1 (q := (1, [true, false, true, false, true, true, false, true, true])) (by decide +kernel))
  have h0 := lng_Cof (A := #[.ref b]) (s := s) (st := stT 4076863490) rfl hlen (lfOK_s G.2.1 (q := (1, [true, false, true, false, true, true, true, false, false])) (by decide +kernel))
  have h1 : ∀ k : Nat, ∃ a : Nat, k < 256 → (elT (stT 4076863490) k).eval #[.ref b] s none [] s = some (.ref a) ∧ va_O "java/lang/Long" a NoA s s.heap ∧ va_OF "java/lang/Long" "value" "J" (.long (vb_c k).toInt64) a NoA s s.heap := by
    intro k
    by_cases hk : k < 256
    · obtain ⟨a, ha⟩ := h0 k hk
      exact ⟨a, fun _ => ha⟩
    · exact ⟨0, fun z => absurd z hk⟩
  obtain ⟨ad, had⟩ := Classical.axiomOfChoice h1
  obtain ⟨t, ht, hT⟩ := va_Tof (tm := stT 4076863490) (ty := .object "java/lang/Long") (N := 256) (f := fun j => .ref (ad j)) (A := NoA) (by decide) (lfOK_s G.2.1 (q := (1, [true, false, true, false, true, true, false, true, false])) (by decide +kernel)) hlen (fun j hj => (had j hj).1) noA
  exact ⟨ad, t, ht, hT, had⟩
theorem g_wrd (G : Giv s b L xs) : ∃ t : Nat, (stT 3665821698).eval #[.ref b] s none [] s = some (.ref t) ∧ va_T .char t 183 (fun j => .int (Int32.ofInt (wrdL.getD j 0))) NoA s s.heap :=
  va_Tof (tm := stT 3665821698) (ty := .char) (N := 183) (A := NoA) (by decide) (lfOK_s G.2.1 (q := (1, [true, false, true, true, false, true, true, true, false])) (by decide +kernel)) (va_eqt (lfOK_s G.2.1 (q := (1, [true, false, true, true, false, true, true, true, true])) (by decide +kernel))) (fun j hj => va_eqt (lfOK_s G.2.1 (List.all_eq_true.mp wrds_ok j (List.mem_range.mpr hj)))) noA
theorem g_emp {f : Nat} (G : Giv s b L xs) (h1 : (Cond.arrayOf (stT f) (.object "java/lang/Object")).before #[.ref b] s = true) (h2 : (Cond.eq (.length (stT f)) (.int 0)).before #[.ref b] s = true) (h3 : (Cond.exactly (stT f) "[Ljava/lang/Object;").before #[.ref b] s = true) : ∃ t : Nat, (stT f).eval #[.ref b] s none [] s = some (.ref t) ∧ va_T (.object "java/lang/Object") t 0 (fun _ => .null) NoA s s.heap ∧ ACr s 72 (t + 1) := by
  obtain ⟨t, ht, hT⟩ := va_Tof (tm := stT f) (ty := .object "java/lang/Object") (N := 0) (f := fun _ => .null) (A := NoA) (by decide) h1 (va_eqt h2) (fun j hj => by omega) noA
  refine ⟨t, ht, hT, acr_T (t := 72) (by omega) hT (by decide) (fun _ cell hcell => ?_) (fun j hj => by omega)⟩
  obtain ⟨a, c, cA, kA, q1, q2, q3, q4, q5, q6, -⟩ := Cond.exactly_spec (args := #[.ref b]) (first := s) (o := none) (s := s) (idx := []) h3
  cases Option.some.inj (ht.symm.trans q1)
  cases Option.some.inj (hcell.symm.trans q3)
  obtain ⟨comp, c2, k2, a1, -, a2, a3, a4⟩ := Cond.arrayOver_spec (G.1 _ (lw_at lw_m2 16 rfl))
  have a5 : s.vm.findClass "[Ljava/lang/Object;" = some c2 := a4
  cases Option.some.inj (q2.symm.trans a5)
  rw [q6]
  exact ⟨k2, comp, a2, a3, a1, a4⟩
theorem g_def (G : Giv s b L xs) : ∃ t : Nat, (stT 4034920450).eval #[.ref b] s none [] s = some (.ref t) ∧ va_T (.object "java/lang/Object") t 0 (fun _ => .null) NoA s s.heap ∧ ACr s 72 (t + 1) := g_emp (f := 4034920450) G (lfOK_s G.2.1 (q := (1, [false, false, false, false, false, true, false, true, true])) (by decide +kernel)) (lfOK_s G.2.1 (q := (1, [false, false, false, false, false, true, true, true, false])) (by decide +kernel)) (lfOK_s G.2.1 (q := (1, [false, false, false, false, false, true, true, false])) (by decide +kernel))
theorem g_emq (G : Giv s b L xs) : ∃ t : Nat, (stT 4043309058).eval #[.ref b] s none [] s = some (.ref t) ∧ va_T (.object "java/lang/Object") t 0 (fun _ => .null) NoA s s.heap ∧ ACr s 72 (t + 1) := g_emp (f := 4043309058) G (lfOK_s G.2.1 (q := (1, [false, false, false, false, true, false, false, false])) (by decide +kernel)) (lfOK_s G.2.1 (q := (1, [false, false, false, false, true, false, false, true, true])) (by decide +kernel)) (lfOK_s G.2.1 (q := (1, [false, false, false, false, true, false, false, true, false])) (by decide +kernel))
theorem hO0 (G : Giv s b L xs) : ∀ q ∈ oF0, ∀ x ∈ q.2, OCr s q.1 (keyT s #[.ref b] x) := by
  refine List.forall_mem_cons.mpr ⟨?_, List.forall_mem_cons.mpr ⟨?_, List.forall_mem_cons.mpr ⟨?_, List.forall_mem_cons.mpr ⟨?_, List.forall_mem_cons.mpr ⟨?_, fun q h => by cases h⟩⟩⟩⟩⟩
  · intro x hx
    obtain ⟨z, hz, rfl⟩ := List.mem_map.mp hx
    obtain ⟨a, t, h⟩ := str_at G.2.1 hz
    exact ocr_str h
  · intro x hx
    obtain ⟨f, hf, rfl⟩ := List.mem_map.mp hx
    obtain ⟨a, -, h⟩ := tok_s G.2.1 hf
    exact h
  · refine List.forall_mem_cons.mpr ⟨?_, List.forall_mem_cons.mpr ⟨?_, fun q h => by cases h⟩⟩
    · obtain ⟨a, -, h, -⟩ := g_tru G
      exact h
    · obtain ⟨a, -, h, -⟩ := g_fal G
      exact h
  · intro x hx
    obtain ⟨j, hj, rfl⟩ := List.mem_map.mp hx
    obtain ⟨ad, t, -, -, h⟩ := g_int G
    obtain ⟨h1, h2, h3⟩ := h j (List.mem_range.mp hj)
    rw [keyT_ref h1]
    exact ocr_obj (t := 50) (f := 3551683268) (by omega) rfl (by decide +kernel) h2 h3 (by decide +kernel) (by decide +kernel) (by decide +kernel) ⟨_, rfl⟩
  · intro x hx
    obtain ⟨j, hj, rfl⟩ := List.mem_map.mp hx
    obtain ⟨ad, t, -, -, h⟩ := g_lng G
    obtain ⟨h1, h2, h3⟩ := h j (List.mem_range.mp hj)
    rw [keyT_ref h1]
    exact ocr_obj (t := 52) (f := 3560203981) (by omega) rfl (by decide +kernel) h2 h3 (by decide +kernel) (by decide +kernel) (by decide +kernel) ⟨_, rfl⟩
theorem g_arg (G : Giv s b L xs) : (Term.arg 0).eval #[.ref b] s none [] s = some (.ref b) := rfl
theorem hA0 (G : Giv s b L xs) : ∀ q ∈ aF0, ∀ x ∈ q.2, ACr s q.1 (keyT s #[.ref b] x) := by
  refine List.forall_mem_cons.mpr ⟨?_, List.forall_mem_cons.mpr ⟨?_, List.forall_mem_cons.mpr ⟨?_, List.forall_mem_cons.mpr ⟨?_, List.forall_mem_cons.mpr ⟨?_, List.forall_mem_cons.mpr ⟨?_, fun q h => by cases h⟩⟩⟩⟩⟩⟩
  · refine List.forall_mem_cons.mpr ⟨?_, fun q h => by cases h⟩
    rw [keyT_ref (g_arg G)]
    obtain ⟨scr, h1, h2, h3, h4, h5⟩ := G.2.2.1
    have hL := G.2.2.2
    exact ⟨by omega, by omega, scr, L, h1, h3, h2, fun z => by omega, by omega, by omega, (by rw [h4]), fun j hj => ⟨_, h5 j hj, fun z => absurd z (by decide), fun _ => ⟨_, rfl⟩⟩⟩
  · intro x hx
    obtain ⟨z, hz, rfl⟩ := List.mem_map.mp hx
    obtain ⟨a, t, h⟩ := str_at G.2.1 hz
    rw [keyT_ref h.2.1]
    exact acr_T (t := 68) (by omega) h.2.2.2.2.2.1 (by have := h.2.2.2.2.2.2; omega) (fun z => by omega) (fun j hj => ⟨fun z => absurd z (by decide), fun _ => ⟨_, rfl⟩⟩)
  · refine List.forall_mem_cons.mpr ⟨?_, fun q h => by cases h⟩
    obtain ⟨t, h1, h2⟩ := g_wrd G
    rw [keyT_ref h1]
    exact acr_T (t := 70) (by omega) h2 (by decide) (fun z => by omega) (fun j hj => ⟨fun z => absurd z (by decide), fun _ => ⟨_, rfl⟩⟩)
  · refine List.forall_mem_cons.mpr ⟨?_, List.forall_mem_cons.mpr ⟨?_, fun q h => by cases h⟩⟩
    · obtain ⟨t, h1, -, h2⟩ := g_def G
      rw [keyT_ref h1]
      exact h2
    · obtain ⟨t, h1, -, h2⟩ := g_emq G
      rw [keyT_ref h1]
      exact h2
  · refine List.forall_mem_cons.mpr ⟨?_, fun q h => by cases h⟩
    obtain ⟨ad, t, h1, h2, -⟩ := g_int G
    rw [keyT_ref h1]
    exact acr_T (t := 76) (by omega) h2 (by decide) (fun z => by omega) (fun j hj => ⟨fun _ => ⟨ad j + 1, rfl⟩, fun z => absurd z (by decide)⟩)
  · refine List.forall_mem_cons.mpr ⟨?_, fun q h => by cases h⟩
    obtain ⟨ad, t, h1, h2, -⟩ := g_lng G
    rw [keyT_ref h1]
    exact acr_T (t := 77) (by omega) h2 (by decide) (fun z => by omega) (fun j hj => ⟨fun _ => ⟨ad j + 1, rfl⟩, fun z => absurd z (by decide)⟩)
theorem fv_st {f : Nat} {v : Value} {A : Array Value} {oF aF : List (Nat × List Term)} (hv : (stT f).eval A s none [] s = some v) (hk : kOv f v) (ha : asc tFs f = none) : fv (h0 s A oF aF) f 0 = v := by
  have e1 : gI (h0 s A oF aF) f 0 = vInt (some v) := by show vInt ((stT f).eval A s none [] s) = _; rw [hv]
  have e2 : gJ (h0 s A oF aF) f 0 = vLng (some v) := by show vLng ((stT f).eval A s none [] s) = _; rw [hv]
  have e3 : f % 4 = 2 → gR (h0 s A oF aF) f 0 = vRef (some v) := by
    intro e
    show cond (Nat.beq (f % 4) 1) (ftag s A aF (f / 4)) (sR s A f) = _
    rw [e]
    show sR s A f = _
    unfold sR
    rw [ha]
    show keyT s A (stT f) = _
    unfold keyT
    rw [hv]
    rfl
  unfold fv rdF
  unfold kOv at hk
  rw [e1, e2]
  rcases (by omega : f % 4 = 0 ∨ f % 4 = 1 ∨ f % 4 = 2 ∨ f % 4 = 3) with e | e | e | e
  · rw [e] at hk ⊢
    obtain ⟨x, rfl⟩ := hk
    show Value.int (Int32.ofInt x.toInt) = _
    rw [Int32.ofInt_toInt]
  · rw [e] at hk ⊢
    obtain ⟨x, rfl⟩ := hk
    show Value.long (Int64.ofInt x.toInt) = _
    rw [Int64.ofInt_toInt]
  · rw [e3 e]
    rw [e] at hk ⊢
    obtain ⟨x, rfl⟩ := hk
    exact vRef_rv x
  · rw [e] at hk ⊢
    rcases hk with rfl | rfl <;> rfl
theorem zst {f : Nat} {v : Value} (G : Giv s b L xs) (h1 : Cond.laysStatic (fO f) (fN f) (fD f) ∈ lw_tbl) (h2 : Cond.initialized (fO f) ∈ lw_tbl) (hv : (stT f).eval #[.ref b] s none [] s = some v) (hk : kOv f v) (ha : asc tFs f = none) : va_Z (fO f) (fN f) (fD f) (fv (hS0 s b) f 0) (fun _ => False) s s.heap := by
  rw [fv_st hv hk ha]
  exact va_Zof (G.1 _ h1) (G.1 _ h2) hv noA
theorem isR {t : Term} (h : (Cond.isRef t).before #[.ref b] s = true) : ∃ r : Nat, t.eval #[.ref b] s none [] s = some (rv r) := by
  obtain ⟨v, hv, hr⟩ := Cond.isRef_spec h
  cases v with
  | ref a => exact ⟨a + 1, hv⟩
  | null => exact ⟨0, hv⟩
  | _ => cases hr
theorem zRef {f : Nat} (G : Giv s b L xs) (h1 : Cond.laysStatic (fO f) (fN f) (fD f) ∈ lw_tbl) (h2 : Cond.initialized (fO f) ∈ lw_tbl) (hv : ∃ a : Nat, (stT f).eval #[.ref b] s none [] s = some (.ref a)) (e : f % 4 = 2) (ha : asc tFs f = none) : va_Z (fO f) (fN f) (fD f) (fv (hS0 s b) f 0) (fun _ => False) s s.heap := by
  obtain ⟨a, hv⟩ := hv
  exact zst G h1 h2 hv (by unfold kOv; rw [e]; exact ⟨a + 1, rfl⟩) ha
theorem zRv {f : Nat} (G : Giv s b L xs) (h1 : Cond.laysStatic (fO f) (fN f) (fD f) ∈ lw_tbl) (h2 : Cond.initialized (fO f) ∈ lw_tbl) (hv : ∃ r : Nat, (stT f).eval #[.ref b] s none [] s = some (rv r)) (e : f % 4 = 2) (ha : asc tFs f = none) : va_Z (fO f) (fN f) (fD f) (fv (hS0 s b) f 0) (fun _ => False) s s.heap := by
  obtain ⟨a, hv⟩ := hv
  exact zst G h1 h2 hv (by unfold kOv; rw [e]; exact ⟨a, rfl⟩) ha
theorem hS (G : Giv s b L xs) : ∀ f ∈ sFs, va_Z (fO f) (fN f) (fD f) (fv (hS0 s b) f 0) (fun _ => False) s s.heap := by
  have tk : ∀ f ∈ tokF, ∃ a : Nat, (stT f).eval #[.ref b] s none [] s = some (.ref a) := fun f hf => by obtain ⟨a, h, -⟩ := tok_s G.2.1 hf; exact ⟨a, h⟩
  refine List.forall_mem_cons.mpr ⟨zRef (f := 3598712834) G (lw_at lw_m4 226 rfl) (lw_at lw_m1 32 rfl) (tk 3598712834 (by decide)) (by decide) (by decide +kernel), List.forall_mem_cons.mpr ⟨zRef (f := 3607101442) G (lw_at lw_m4 224 rfl) (lw_at lw_m1 32 rfl) (tk 3607101442 (by decide)) (by decide) (by decide +kernel), List.forall_mem_cons.mpr ⟨zRef (f := 3615490050) G (lw_at lw_m4 235 rfl) (lw_at lw_m1 32 rfl) (tk 3615490050 (by decide)) (by decide) (by decide +kernel), List.forall_mem_cons.mpr ⟨zRef (f := 3623878658) G (lw_at lw_m4 237 rfl) (lw_at lw_m1 32 rfl) (tk 3623878658 (by decide)) (by decide) (by decide +kernel), List.forall_mem_cons.mpr ⟨zRef (f := 3632267266) G (lw_at lw_m5 3 rfl) (lw_at lw_m1 32 rfl) (tk 3632267266 (by decide)) (by decide) (by decide +kernel), List.forall_mem_cons.mpr ⟨zRef (f := 3640655874) G (lw_at lw_m5 12 rfl) (lw_at lw_m1 32 rfl) (tk 3640655874 (by decide)) (by decide) (by decide +kernel), List.forall_mem_cons.mpr ⟨zRef (f := 3649044482) G (lw_at lw_m5 18 rfl) (lw_at lw_m1 32 rfl) (tk 3649044482 (by decide)) (by decide) (by decide +kernel), List.forall_mem_cons.mpr ⟨zRef (f := 3657433090) G (lw_at lw_m5 20 rfl) (lw_at lw_m1 32 rfl) (tk 3657433090 (by decide)) (by decide) (by decide +kernel), List.forall_mem_cons.mpr ⟨zRef (f := 3665821698) G (lw_at lw_m21 78 rfl) (lw_at lw_m1 29 rfl) (by obtain ⟨t, h, -⟩ := g_wrd G; exact ⟨t, h⟩) (by decide) (by decide +kernel), List.forall_mem_cons.mpr ⟨zst (f := 4018143233) G (lw_at lw_m13 194 rfl) (lw_at lw_m1 1 rfl) (va_eqtl (lfOK_s G.2.1 (q := (1, [true, false, true, true, false, true, false, true, false])) (c := .eq (stT 4018143233) (.long 4611686019623699788)) (by decide +kernel))) ⟨_, rfl⟩ (by decide +kernel), List.forall_mem_cons.mpr ⟨zst (f := 4026531841) G (lw_at lw_m13 196 rfl) (lw_at lw_m1 1 rfl) (va_eqtl (lfOK_s G.2.1 (q := (1, [true, false, true, true, false, true, false, true, true])) (c := .eq (stT 4026531841) (.long 4633717295071316051)) (by decide +kernel))) ⟨_, rfl⟩ (by decide +kernel), List.forall_mem_cons.mpr ⟨zRef (f := 4034920450) G (lw_at lw_m1 199 rfl) (lw_at lw_m1 11 rfl) (by obtain ⟨t, h, -⟩ := g_def G; exact ⟨t, h⟩) (by decide) (by decide +kernel), List.forall_mem_cons.mpr ⟨zRef (f := 4043309058) G (lw_at lw_m2 18 rfl) (lw_at lw_m1 11 rfl) (by obtain ⟨t, h, -⟩ := g_emq G; exact ⟨t, h⟩) (by decide) (by decide +kernel), List.forall_mem_cons.mpr ⟨zst (f := 4060086272) G (lw_at lw_m6 131 rfl) (lw_at lw_m1 39 rfl) (va_eqt (lfOK_s G.2.1 (q := (1, [true, false, true, false, true, true, true, false, true])) (c := .eq (stT 4060086272) (.int 127)) (by decide +kernel))) ⟨_, rfl⟩ (by decide +kernel), List.forall_mem_cons.mpr ⟨zRef (f := 4068474882) G (lw_at lw_m6 133 rfl) (lw_at lw_m1 39 rfl) (by obtain ⟨ad, t, h, -⟩ := g_int G; exact ⟨t, h⟩) (by decide) (by decide +kernel), List.forall_mem_cons.mpr ⟨zRef (f := 4076863490) G (lw_at lw_m6 28 rfl) (lw_at lw_m1 38 rfl) (by obtain ⟨ad, t, h, -⟩ := g_lng G; exact ⟨t, h⟩) (by decide) (by decide +kernel), List.forall_mem_cons.mpr ⟨zRef (f := 4085252098) G (lw_at lw_m6 148 rfl) (lw_at lw_m1 40 rfl) (by obtain ⟨t, h, -⟩ := g_tru G; exact ⟨t, h⟩) (by decide) (by decide +kernel), List.forall_mem_cons.mpr ⟨zRef (f := 4093640706) G (lw_at lw_m6 150 rfl) (lw_at lw_m1 40 rfl) (by obtain ⟨t, h, -⟩ := g_fal G; exact ⟨t, h⟩) (by decide) (by decide +kernel), List.forall_mem_cons.mpr ⟨zst (f := 4102029315) G (lw_at lw_m1 103 rfl) (lw_at lw_m1 3 rfl) (va_eqt (lfOK_s G.2.1 (q := (1, [false, false, false, false, false, false, false, true, true])) (c := .eq (stT 4102029315) (.int 1)) (by decide +kernel))) (Or.inr rfl) (by decide +kernel), List.forall_mem_cons.mpr ⟨zRv (f := 4110417922) G (lw_at lw_m1 119 rfl) (lw_at lw_m1 5 rfl) (isR (lfOK_s G.2.1 (q := (1, [false, false, false, false, false, false, true, false])) (c := .isRef (stT 4110417922)) (by decide +kernel))) (by decide) (by decide +kernel), List.forall_mem_cons.mpr ⟨zRv (f := 4118806530) G (lw_at lw_m2 46 rfl) (lw_at lw_m1 14 rfl) (isR (lfOK_s G.2.1 (q := (1, [false, false, false, false, true, false, true, true, false])) (c := .isRef (stT 4118806530)) (by decide +kernel))) (by decide) (by decide +kernel), List.forall_mem_cons.mpr ⟨zRv (f := 4127195138) G (lw_at lw_m2 48 rfl) (lw_at lw_m1 14 rfl) (isR (lfOK_s G.2.1 (q := (1, [false, false, false, false, true, false, true, true, true])) (c := .isRef (stT 4127195138)) (by decide +kernel))) (by decide) (by decide +kernel), fun q h => by cases h⟩⟩⟩⟩⟩⟩⟩⟩⟩⟩⟩⟩⟩⟩⟩⟩⟩⟩⟩⟩⟩⟩
theorem hT (G : Giv s b L xs) : ∀ q ∈ tFs, ∃ tx, 0 < gR (hS0 s b) q.1 0 ∧ vk_R q.2.1 q.2.2 tx (gR (hS0 s b) q.1 0 - 1) s := by
  intro q hq
  rw [tFs_str] at hq
  obtain ⟨z, hz, rfl⟩ := List.mem_map.mp hq
  obtain ⟨a, t, h⟩ := str_at G.2.1 hz
  have h1 := List.all_eq_true.mp str_num z hz
  rw [Bool.and_eq_true, Nat.beq_eq, decide_eq_true_eq] at h1
  have e : gR (hS0 s b) z.1 0 = a + 1 := by
    show cond (Nat.beq (z.1 % 4) 1) (ftag s #[.ref b] aF0 (z.1 / 4)) (sR s #[.ref b] z.1) = _
    rw [h1.1]
    show sR s #[.ref b] z.1 = _
    unfold sR
    rw [h1.2]
    exact keyT_ref h.1
  refine ⟨z.2.2.2.1, ?_, ?_⟩
  · show 0 < gR (hS0 s b) z.1 0
    rw [e]; omega
  · show vk_R z.2.1 z.2.2.1 z.2.2.2.1 (gR (hS0 s b) z.1 0 - 1) s
    rw [e]
    exact vk_R.of (G.1 _ (strR z hz)) h.1
theorem repS (G : Giv s b L xs) : Rep s (K0 s) (hS0 s b) s.heap := rep0 (hO0 G) (hA0 G) (hS G) (hT G)
theorem hSl0 (G : Giv s b L xs) : ∀ t f, t ≤ 55 → mdT t = false → f ∈ cF t → ∃ cf kf fi fd, s.fieldFound? (fO f) (fN f) (fD f) = some (cf, kf, fi, fd) ∧ fd.isStatic = false := by
  intro t f ht hm hf
  have hin : t = 0 ∨ t = 50 ∨ t = 52 ∨ t = 53 ∨ t = 54 ∨ t = 55 := by
    unfold mdT at hm
    simp only [Bool.or_eq_false_iff, Bool.and_eq_false_iff] at hm
    rcases hm with ⟨h1 | h1, h2⟩
    · have : ¬ 1 ≤ t := fun z => by rw [Nat.ble_eq.mpr z] at h1; cases h1
      omega
    · have h3 : ¬ t ≤ 49 := fun z => by rw [Nat.ble_eq.mpr z] at h1; cases h1
      have h4 : t ≠ 51 := fun z => by rw [z] at h2; cases h2
      omega
  have of : ∀ {C n d : String} {v : Value} {a : Nat}, va_OF C n d v a NoA s s.heap → fO f = C → fN f = n → fD f = d → ∃ cf kf fi fd, s.fieldFound? (fO f) (fN f) (fD f) = some (cf, kf, fi, fd) ∧ fd.isStatic = false := by
    intro C n d v a h e1 e2 e3
    obtain ⟨c1, -, -, -, r⟩ := OF_slot (f := f) h e1 e2 e3
    exact r
  rcases hin with rfl | rfl | rfl | rfl | rfl | rfl
  · cases hf
  · rw [show cF 50 = [3551683268] by decide +kernel] at hf
    rcases List.mem_cons.mp hf with rfl | hf
    · obtain ⟨ad, t, -, -, h⟩ := g_int G
      exact of (h 0 (by decide)).2.2 (by decide +kernel) (by decide +kernel) (by decide +kernel)
    · cases hf
  · rw [show cF 52 = [3560203981] by decide +kernel] at hf
    rcases List.mem_cons.mp hf with rfl | hf
    · obtain ⟨ad, t, -, -, h⟩ := g_lng G
      exact of (h 0 (by decide)).2.2 (by decide +kernel) (by decide +kernel) (by decide +kernel)
    · cases hf
  · rw [show cF 53 = [3568632022, 3577020628] by decide +kernel] at hf
    obtain ⟨a, t, h⟩ := str_at G.2.1 (z := strT.head (by decide)) (List.head_mem _)
    rcases List.mem_cons.mp hf with rfl | hf
    · exact of h.2.2.2.2.1 (by decide +kernel) (by decide +kernel) (by decide +kernel)
    · rcases List.mem_cons.mp hf with rfl | hf
      · exact of h.2.2.2.1 (by decide +kernel) (by decide +kernel) (by decide +kernel)
      · cases hf
  · rw [show cF 54 = [3585474779] by decide +kernel] at hf
    rcases List.mem_cons.mp hf with rfl | hf
    · obtain ⟨a, -, -, h⟩ := g_tru G
      exact of h (by decide +kernel) (by decide +kernel) (by decide +kernel)
    · cases hf
  · rw [show cF 55 = [] by decide +kernel] at hf
    cases hf
theorem cxS (G : Giv s b L xs) : CX s #[.ref b] (K0 s) := cx0 G.1 hIns hLay (hSl0 G)
theorem miS (G : Giv s b L xs) : ∃ mi : Nat, va_Mi "[Ljava/lang/Object;" mi s := va_Mi.of (lfOK_s G.2.1 (q := (4, [false, true, false, false, true, false, false, true, true])) (by decide +kernel))
end ST2
