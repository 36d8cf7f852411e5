/-! THE PURE HEAP AT THE START, IN PURE WORDS (printed by gen/start.py) -/
set_option maxRecDepth 100000
def tokN : List (Nat × Nat) := [(3607101442, 3598712834), (3598712834, 3615490050), (3607101442, 3615490050), (3598712834, 3623878658), (3607101442, 3623878658), (3615490050, 3623878658), (3598712834, 3632267266), (3607101442, 3632267266), (3615490050, 3632267266), (3623878658, 3632267266), (3598712834, 3640655874), (3607101442, 3640655874), (3615490050, 3640655874), (3623878658, 3640655874), (3632267266, 3640655874), (3598712834, 3649044482), (3607101442, 3649044482), (3615490050, 3649044482), (3623878658, 3649044482), (3632267266, 3649044482), (3640655874, 3649044482), (3598712834, 3657433090), (3607101442, 3657433090), (3615490050, 3657433090), (3623878658, 3657433090), (3632267266, 3657433090), (3640655874, 3657433090), (3649044482, 3657433090)]
def tokM : List (Nat × List Bool) := [(1, [true, false, false, true, false, false, true, false]), (1, [true, false, false, true, false, true, false, true, false]), (1, [true, false, false, true, false, true, false, false]), (1, [true, false, false, true, false, true, true, true, true]), (1, [true, false, false, true, false, true, true, true, false]), (1, [true, false, false, true, true, false, false, false]), (1, [true, false, false, true, true, false, true, true, false]), (1, [true, false, false, true, true, false, true, false]), (1, [true, false, false, true, true, false, true, true, true]), (1, [true, false, false, true, true, true, false, false]), (1, [true, false, false, true, true, true, true, false, true]), (1, [true, false, false, true, true, true, true, false, false]), (1, [true, false, false, true, true, true, true, true, false]), (1, [true, false, false, true, true, true, true, true, true]), (1, [true, false, true, false, false, false, false, false]), (1, [true, false, true, false, false, false, true, true, false]), (1, [true, false, true, false, false, false, true, false]), (1, [true, false, true, false, false, false, true, true, true]), (1, [true, false, true, false, false, true, false, false]), (1, [true, false, true, false, false, true, false, true, false]), (1, [true, false, true, false, false, true, false, true, true]), (1, [true, false, true, false, true, false, false, false]), (1, [true, false, true, false, false, true, true, true, true]), (1, [true, false, true, false, true, false, false, true, false]), (1, [true, false, true, false, true, false, false, true, true]), (1, [true, false, true, false, true, false, true, false]), (1, [true, false, true, false, true, false, true, true, false]), (1, [true, false, true, false, true, false, true, true, true])]
/-- what is known of the constants: it stays true for good -/
def ConH (h : PH) : Prop :=
  (hc h 0 = 0 ∧ 0 < hn h ∧ (∀ r, hn h ≤ r → hc h r = 0) ∧ ∀ r, kc h r ≠ 0 → r < hn h ∧ mdA (hc h r) = false) ∧
  (gJ h 4018143233 0 = 4611686019623699788 ∧ gJ h 4026531841 0 = 4633717295071316051 ∧ gI h 4060086272 0 = 127 ∧ gI h 4102029315 0 = 1) ∧
  ((∀ f ∈ tokF, hc h (gR h f 0) = 55) ∧ ∀ q ∈ tokN, gR h q.1 0 ≠ gR h q.2 0) ∧
  (hc h (gR h 4085252098 0) = 54 ∧ gI h 3585474779 (gR h 4085252098 0) = 1 ∧ hc h (gR h 4093640706 0) = 54 ∧ gI h 3585474779 (gR h 4093640706 0) = 0) ∧
  (kc h (gR h 4034920450 0) = 72 ∧ hl h (gR h 4034920450 0) = 0 ∧ kc h (gR h 4043309058 0) = 72 ∧ hl h (gR h 4043309058 0) = 0 ∧ gR h 4034920450 0 ≠ gR h 4043309058 0) ∧
  (kc h (gR h 4068474882 0) = 76 ∧ hl h (gR h 4068474882 0) = 256 ∧ ∀ j : Nat, j < 256 → hc h (eR h (gR h 4068474882 0) j) = 50 ∧ gI h 3551683268 (eR h (gR h 4068474882 0) j) = (j : Int) - 128) ∧
  (kc h (gR h 4076863490 0) = 77 ∧ hl h (gR h 4076863490 0) = 256 ∧ ∀ j : Nat, j < 256 → hc h (eR h (gR h 4076863490 0) j) = 52 ∧ gJ h 3560203981 (eR h (gR h 4076863490 0) j) = (j : Int) - 128) ∧
  (∀ z ∈ strT, hc h (gR h z.1 0) = 53 ∧ gI h 3577020628 (gR h z.1 0) = 0 ∧ kc h (gR h 3568632022 (gR h z.1 0)) = 68 ∧ hl h (gR h 3568632022 (gR h z.1 0)) = z.2.2.2.2.length ∧ ∀ j : Nat, j < z.2.2.2.2.length → eI h (gR h 3568632022 (gR h z.1 0)) j = z.2.2.2.2.getD j 0) ∧
  (kc h (gR h 3665821698 0) = 70 ∧ hl h (gR h 3665821698 0) = 183 ∧ ∀ j : Nat, j < 183 → eI h (gR h 3665821698 0) j = wrdL.getD j 0)
/-- the script -/
def ScrH (h : PH) (b L : Nat) (xs : Nat → Int) : Prop := kc h (b + 1) = 64 ∧ hl h (b + 1) = L ∧ L ≤ 320 ∧ ∀ j : Nat, j < L → eI h (b + 1) j = xs j ∧ in32 (xs j)
section ST3
variable {s : State} {b L : Nat} {xs : Nat → Int32}
theorem st_key {f a : Nat} (hv : (stT f).eval #[.ref b] s none [] s = some (.ref a)) (e : f % 4 = 2) (ha : asc tFs f = none) : gR (hS0 s b) f 0 = a + 1 := by
  show cond (Nat.beq (f % 4) 1) (ftag s #[.ref b] aF0 (f / 4)) (sR s #[.ref b] f) = _
  rw [e]
  show sR s #[.ref b] f = _
  unfold sR
  rw [ha]
  exact keyT_ref hv
theorem st_str (G : Giv s b L xs) {z : Nat × String × Nat × String × List Int} (hz : z ∈ strT) {a : Nat} (h : (Term.string z.2.1 z.2.2.1).eval #[.ref b] s none [] s = some (.ref a)) : gR (hS0 s b) z.1 0 = a + 1 := by
  have h1 := List.all_eq_true.mp str_num z hz
  rw [Bool.and_eq_true, Nat.beq_eq, decide_eq_true_eq] at h1
  show cond (Nat.beq (z.1 % 4) 1) (ftag s #[.ref b] aF0 (z.1 / 4)) (sR s #[.ref b] z.1) = _
  rw [h1.1]
  show sR s #[.ref b] z.1 = _
  unfold sR
  rw [h1.2]
  exact keyT_ref h
theorem ob_gI {C n d : String} {x : Int32} {a f : Nat} (h : va_OF C n d (.int x) a NoA s s.heap) (e1 : fO f = C) (e2 : fN f = n) (e3 : fD f = d) : gI (hS0 s b) f (a + 1) = x.toInt := by
  obtain ⟨cell, h1, -, h2, -⟩ := OF_slot h e1 e2 e3
  show vInt (slotV s (a + 1) ((K0 s).2 f)) = _
  unfold slotV
  rw [Nat.add_sub_cancel, h1]
  show vInt (cell.slots[(K0 s).2 f]?) = _
  rw [h2]
  rfl
theorem ob_gJ {C n d : String} {x : Int64} {a f : Nat} (h : va_OF C n d (.long x) a NoA s s.heap) (e1 : fO f = C) (e2 : fN f = n) (e3 : fD f = d) : gJ (hS0 s b) f (a + 1) = x.toInt := by
  obtain ⟨cell, h1, -, h2, -⟩ := OF_slot h e1 e2 e3
  show vLng (slotV s (a + 1) ((K0 s).2 f)) = _
  unfold slotV
  rw [Nat.add_sub_cancel, h1]
  show vLng (cell.slots[(K0 s).2 f]?) = _
  rw [h2]
  rfl
theorem ob_gR {C n d : String} {x a f : Nat} (h : va_OF C n d (.ref x) a NoA s s.heap) (e1 : fO f = C) (e2 : fN f = n) (e3 : fD f = d) : gR (hS0 s b) f (a + 1) = x + 1 := by
  obtain ⟨cell, h1, -, h2, -⟩ := OF_slot h e1 e2 e3
  show vRef (slotV s (a + 1) ((K0 s).2 f)) = _
  unfold slotV
  rw [Nat.add_sub_cancel, h1]
  show vRef (cell.slots[(K0 s).2 f]?) = _
  rw [h2]
  rfl
theorem ar_len {ty : FieldType} {t N : Nat} {f : Nat → Value} (h : va_T ty t N f NoA s s.heap) (hN : N < 2147483648) (hk0 : kc (hS0 s b) (t + 1) ≠ 0) : hl (hS0 s b) (t + 1) = N := by
  obtain ⟨cell, h1, -, -, -, h2, -⟩ := h
  show cond (Nat.beq (ftag s #[.ref b] aF0 (t + 1)) 0) 0 _ = _
  rw [← kc_h0 (oF := oF0)]
  cases hq : Nat.beq (kc (hS0 s b) (t + 1)) 0 with
  | true => exact absurd (Nat.eq_of_beq_eq_true hq) hk0
  | false =>
    show (match s.heap[t + 1 - 1]? with
      | some c => c.slots.size.toInt32.toInt
      | none => 0) = _
    rw [Nat.add_sub_cancel, h1]
    show cell.slots.size.toInt32.toInt = N
    rw [h2, (Int32.ofInt_eq_ofNat (n := N)).symm]
    exact of32 ⟨by omega, by omega⟩
theorem ar_eI {ty : FieldType} {t N j : Nat} {f : Nat → Value} {x : Int32} (h : va_T ty t N f NoA s s.heap) (hj : j < N) (hx : f j = .int x) : eI (hS0 s b) (t + 1) j = x.toInt := by
  obtain ⟨cell, h1, -, -, -, -, h2, -⟩ := h
  show vInt (slotV s (t + 1) (Int.toNat (j : Int))) = _
  unfold slotV
  rw [Nat.add_sub_cancel, h1, Int.toNat_natCast]
  show vInt (cell.slots[j]?) = _
  rw [h2 j hj, hx]
  rfl
theorem ar_eR {ty : FieldType} {t N j x : Nat} {f : Nat → Value} (h : va_T ty t N f NoA s s.heap) (hj : j < N) (hx : f j = .ref x) : eR (hS0 s b) (t + 1) j = x + 1 := by
  obtain ⟨cell, h1, -, -, -, -, h2, -⟩ := h
  show vRef (slotV s (t + 1) (Int.toNat (j : Int))) = _
  unfold slotV
  rw [Nat.add_sub_cancel, h1, Int.toNat_natCast]
  show vRef (cell.slots[j]?) = _
  rw [h2 j hj, hx]
  rfl
theorem tagO (G : Giv s b L xs) {q : Nat × List Term} (hq : q ∈ oF0) {x : Term} (hx : x ∈ q.2) {a : Nat} (e : x.eval #[.ref b] s none [] s = some (.ref a)) : hc (hS0 s b) (a + 1) = q.1 := by
  have h := ftag_o (s := s) (A := #[.ref b]) OCr.inj (hO0 G) q hq x hx
  rw [keyT_ref e] at h
  exact h
theorem tagA (G : Giv s b L xs) {q : Nat × List Term} (hq : q ∈ aF0) {x : Term} (hx : x ∈ q.2) {a : Nat} (e : x.eval #[.ref b] s none [] s = some (.ref a)) : kc (hS0 s b) (a + 1) = q.1 := by
  have h := ftag_o (s := s) (A := #[.ref b]) ACr.inj (hA0 G) q hq x hx
  rw [keyT_ref e] at h
  rw [kc_h0]
  exact h
theorem oF_mem (k : Nat) {q : Nat × List Term} (h : oF0[k]? = some q) : q ∈ oF0 := List.mem_of_getElem? h
theorem aF_mem (k : Nat) {q : Nat × List Term} (h : aF0[k]? = some q) : q ∈ aF0 := List.mem_of_getElem? h
theorem tokn_ok : (tokM.zip tokN).all (fun z => lfOK z.1 (.not (.eq (stT z.2.1) (stT z.2.2)))) = true := by decide +kernel
theorem tokn_in : (tokN.all fun z => tokF.elem z.1 && tokF.elem z.2) = true := by decide +kernel
theorem vbc (j : Nat) (hj : j < 256) : (vb_c j).toInt = (j : Int) - 128 := by
  unfold vb_c
  have e1 : Int32.ofNat j = Int32.ofInt (j : Int) := (Int32.ofInt_eq_ofNat).symm
  have e2 : (128 : Int32) = Int32.ofInt 128 := by decide
  rw [e1, e2, c_sub, of32 (w32_in _)]
  exact w32_id (by omega) (by omega)
theorem vbl (j : Nat) (hj : j < 256) : (vb_c j).toInt64.toInt = (j : Int) - 128 := by rw [Int32.toInt_toInt64, vbc j hj]
theorem str_rng : (strT.all fun z => z.2.2.2.2.all fun x => decide (-128 ≤ x) && decide (x < 128)) = true := by decide +kernel
theorem wrd_rng : (wrdL.all fun x => decide (0 ≤ x) && decide (x < 65536)) = true := by decide +kernel
theorem tok_num : (tokF.all fun f => Nat.beq (f % 4) 2 && decide (asc tFs f = none)) = true := by decide +kernel
theorem g_scr (G : Giv s b L xs) : va_T .int b L (fun j => .int (xs j)) NoA s s.heap := by
  obtain ⟨scr, h1, h2, h3, h4, h5⟩ := G.2.2.1
  exact ⟨scr, h1, h2, h3, by omega, by rw [h4], h5, fun z => z⟩
theorem scrS (G : Giv s b L xs) : ScrH (hS0 s b) b L (fun j => (xs j).toInt) := by
  have e : kc (hS0 s b) (b + 1) = 64 := tagA G (aF_mem 0 rfl) (x := .arg 0) List.mem_cons_self (g_arg G)
  have hL := G.2.2.2
  exact ⟨e, ar_len (g_scr G) (by omega) (by omega), hL, fun j hj => ⟨ar_eI (g_scr G) hj rfl, Int32.le_toInt _, Int32.toInt_lt _⟩⟩
theorem getD_rng {l : List Int} {lo hi : Int} (h : l.all (fun x => decide (lo ≤ x) && decide (x < hi)) = true) {j : Nat} (hj : j < l.length) : lo ≤ l.getD j 0 ∧ l.getD j 0 < hi := by
  have e : l.getD j 0 = l[j] := by simp [List.getD, hj]
  have h1 := List.all_eq_true.mp h l[j] (List.getElem_mem hj)
  rw [Bool.and_eq_true, decide_eq_true_eq, decide_eq_true_eq] at h1
  rw [e]
  exact h1
theorem conS (G : Giv s b L xs) : ConH (hS0 s b) := by
  have R := repS G
  have key : ∀ {f a : Nat}, (stT f).eval #[.ref b] s none [] s = some (.ref a) → f % 4 = 2 → asc tFs f = none → gR (hS0 s b) f 0 = a + 1 := fun hv e ha => st_key hv e ha
  refine ⟨⟨R.2.1, Nat.succ_pos _, R.fresh, fun r hr => ?_⟩, ⟨?_, ?_, ?_, ?_⟩, ⟨fun f hf => ?_, fun q hq => ?_⟩, ?_, ?_, ?_, ?_, fun z hz => ?_, ?_⟩
  · have c := R.2.2.2.2.1.2 r hr
    refine ⟨Nat.lt_succ_of_le c.1, ?_⟩
    cases hm : mdA (hc (hS0 s b) r) with
    | false => rfl
    | true =>
      have h0 : hc (hS0 s b) r ≠ 0 := by have := (mdA_ge hm).1; omega
      have h1 := (R.2.2.1 r h0).1.2.2 (Or.inr hm)
      have h2 := c.1
      omega
  · show vLng ((stT 4018143233).eval #[.ref b] s none [] s) = _
    rw [va_eqtl (lfOK_s G.2.1 (q := (1, [true, false, true, true, false, true, false, true, false])) (c := .eq (stT 4018143233) (.long 4611686019623699788)) (by decide +kernel))]
    decide
  · show vLng ((stT 4026531841).eval #[.ref b] s none [] s) = _
    rw [va_eqtl (lfOK_s G.2.1 (q := (1, [true, false, true, true, false, true, false, true, true])) (c := .eq (stT 4026531841) (.long 4633717295071316051)) (by decide +kernel))]
    decide
  · show vInt ((stT 4060086272).eval #[.ref b] s none [] s) = _
    rw [va_eqt (lfOK_s G.2.1 (q := (1, [true, false, true, false, true, true, true, false, true])) (c := .eq (stT 4060086272) (.int 127)) (by decide +kernel))]
    decide
  · show vInt ((stT 4102029315).eval #[.ref b] s none [] s) = _
    rw [va_eqt (lfOK_s G.2.1 (q := (1, [false, false, false, false, false, false, false, true, true])) (c := .eq (stT 4102029315) (.int 1)) (by decide +kernel))]
    decide
  · have hn0 := List.all_eq_true.mp tok_num f hf
    rw [Bool.and_eq_true, Nat.beq_eq, decide_eq_true_eq] at hn0
    obtain ⟨a, hv, -⟩ := tok_s G.2.1 hf
    rw [key hv hn0.1 hn0.2]
    exact tagO G (oF_mem 1 rfl) (x := stT f) (List.mem_map.mpr ⟨f, hf, rfl⟩) hv
  · obtain ⟨p, hp⟩ := zip_mem (l := tokM) (m := tokN) (by decide) q hq
    have hne := lfOK_s G.2.1 (List.all_eq_true.mp tokn_ok _ hp)
    have hin := List.all_eq_true.mp tokn_in q hq
    rw [Bool.and_eq_true] at hin
    have m1 : q.1 ∈ tokF := by simpa using hin.1
    have m2 : q.2 ∈ tokF := by simpa using hin.2
    obtain ⟨a, hv, -⟩ := tok_s G.2.1 m1
    obtain ⟨c, hw, -⟩ := tok_s G.2.1 m2
    have n1 := List.all_eq_true.mp tok_num q.1 m1
    have n2 := List.all_eq_true.mp tok_num q.2 m2
    rw [Bool.and_eq_true, Nat.beq_eq, decide_eq_true_eq] at n1 n2
    rw [key hv n1.1 n1.2, key hw n2.1 n2.2]
    have := va_neR hne hv hw
    omega
  · obtain ⟨a, hv, -, ho⟩ := g_tru G
    obtain ⟨c, hw, -, ho2⟩ := g_fal G
    rw [key hv (by decide) (by decide +kernel), key hw (by decide) (by decide +kernel)]
    refine ⟨tagO G (oF_mem 2 rfl) (x := stT 4085252098) List.mem_cons_self hv, ?_, tagO G (oF_mem 2 rfl) (x := stT 4093640706) (List.mem_cons_of_mem _ List.mem_cons_self) hw, ?_⟩
    · rw [ob_gI (f := 3585474779) ho (by decide +kernel) (by decide +kernel) (by decide +kernel)]; decide
    · rw [ob_gI (f := 3585474779) ho2 (by decide +kernel) (by decide +kernel) (by decide +kernel)]; decide
  · obtain ⟨a, hv, hT, -⟩ := g_def G
    obtain ⟨c, hw, hT2, -⟩ := g_emq G
    rw [key hv (by decide) (by decide +kernel), key hw (by decide) (by decide +kernel)]
    have e1 : kc (hS0 s b) (a + 1) = 72 := tagA G (aF_mem 3 rfl) (x := stT 4034920450) List.mem_cons_self hv
    have e2 : kc (hS0 s b) (c + 1) = 72 := tagA G (aF_mem 3 rfl) (x := stT 4043309058) (List.mem_cons_of_mem _ List.mem_cons_self) hw
    refine ⟨e1, ar_len hT (by decide) (by omega), e2, ar_len hT2 (by decide) (by omega), ?_⟩
    have := va_neR (lfOK_s G.2.1 (q := (1, [false, false, false, false, true, false, true, false])) (c := .not (.eq (stT 4034920450) (stT 4043309058))) (by decide +kernel)) hv hw
    omega
  · obtain ⟨ad, t, hv, hT, hj⟩ := g_int G
    rw [key hv (by decide) (by decide +kernel)]
    have e1 : kc (hS0 s b) (t + 1) = 76 := tagA G (aF_mem 4 rfl) (x := stT 4068474882) List.mem_cons_self hv
    refine ⟨e1, ar_len hT (by decide) (by omega), fun j hj2 => ?_⟩
    obtain ⟨q1, q2, q3⟩ := hj j hj2
    rw [ar_eR hT hj2 rfl]
    refine ⟨tagO G (oF_mem 3 rfl) (x := elT (stT 4068474882) j) (List.mem_map.mpr ⟨j, List.mem_range.mpr hj2, rfl⟩) q1, ?_⟩
    rw [ob_gI (f := 3551683268) q3 (by decide +kernel) (by decide +kernel) (by decide +kernel)]
    exact vbc j hj2
  · obtain ⟨ad, t, hv, hT, hj⟩ := g_lng G
    rw [key hv (by decide) (by decide +kernel)]
    have e1 : kc (hS0 s b) (t + 1) = 77 := tagA G (aF_mem 5 rfl) (x := stT 4076863490) List.mem_cons_self hv
    refine ⟨e1, ar_len hT (by decide) (by omega), fun j hj2 => ?_⟩
    obtain ⟨q1, q2, q3⟩ := hj j hj2
    rw [ar_eR hT hj2 rfl]
    refine ⟨tagO G (oF_mem 4 rfl) (x := elT (stT 4076863490) j) (List.mem_map.mpr ⟨j, List.mem_range.mpr hj2, rfl⟩) q1, ?_⟩
    rw [ob_gJ (f := 3560203981) q3 (by decide +kernel) (by decide +kernel) (by decide +kernel)]
    exact vbl j hj2
  · obtain ⟨a, t, hq⟩ := str_at G.2.1 hz
    rw [st_str G hz hq.1, ob_gR (f := 3568632022) hq.2.2.2.2.1 (by decide +kernel) (by decide +kernel) (by decide +kernel)]
    have e1 : kc (hS0 s b) (t + 1) = 68 := tagA G (aF_mem 1 rfl) (x := svT z.2.1 z.2.2.1) (List.mem_map.mpr ⟨z, hz, rfl⟩) hq.2.1
    refine ⟨tagO G (oF_mem 0 rfl) (x := .string z.2.1 z.2.2.1) (List.mem_map.mpr ⟨z, hz, rfl⟩) hq.1, ?_, e1, ar_len hq.2.2.2.2.2.1 (by have := hq.2.2.2.2.2.2; omega) (by omega), fun j hj => ?_⟩
    · rw [ob_gI (f := 3577020628) hq.2.2.2.1 (by decide +kernel) (by decide +kernel) (by decide +kernel)]; decide
    · rw [ar_eI hq.2.2.2.2.2.1 hj rfl]
      have hr := getD_rng (List.all_eq_true.mp str_rng z hz) hj
      exact of32 ⟨by omega, by omega⟩
  · obtain ⟨t, hv, hT⟩ := g_wrd G
    rw [key hv (by decide) (by decide +kernel)]
    have e1 : kc (hS0 s b) (t + 1) = 70 := tagA G (aF_mem 2 rfl) (x := stT 3665821698) List.mem_cons_self hv
    refine ⟨e1, ar_len hT (by decide) (by omega), fun j hj => ?_⟩
    rw [ar_eI hT hj rfl]
    have hr := getD_rng wrd_rng (j := j) (by have e : wrdL.length = 183 := by decide
                                             omega)
    exact of32 ⟨by omega, by omega⟩
end ST3
/-- WHAT IS LEFT, in pure words -/
def PureLaw2 : Prop := ∀ (h : PH) (b L : Nat) (xs : Nat → Int), ConH h → ScrH h b L xs → hk h = 0 → hs h = 0 → ∃ h', F 2040 LAWM [vR (b + 1)] h = some (.inl (some (vI 1)), h')
theorem pure_of (P : PureLaw2) : PureLaw := fun s b L xs G => P (hS0 s b) b L _ (conS G) (scrS G) rfl rfl
theorem claim_of2 (P : PureLaw2) : Claimed_1_1 ∧ Claimed_1_2 := claim_of (pure_of P)
/-! constants stay -/
theorem ConH.keep {h h' : PH} (C : ConH h) (K : Kept h h') : ConH h' := by
  obtain ⟨⟨a1, a2, a3, a4⟩, ⟨b1, b2, b3, b4⟩, ⟨c1, c2⟩, ⟨d1, d2, d3, d4⟩, ⟨e1, e2, e3, e4, e5⟩, ⟨f1, f2, f3⟩, ⟨g1, g2, g3⟩, hS, ⟨i1, i2, i3⟩⟩ := C
  have sI : ∀ f, gI h' f 0 = gI h f 0 := fun f => (K.st a1 a2 f).1
  have sJ : ∀ f, gJ h' f 0 = gJ h f 0 := fun f => (K.st a1 a2 f).2.1
  have sR : ∀ f, gR h' f 0 = gR h f 0 := fun f => (K.st a1 a2 f).2.2
  have sk : ∀ r, kc h' r = kc h r := fun r => K.kc a1 a2 r
  have lt : ∀ r, hc h r ≠ 0 → r < hn h := fun r hr => by
    rcases Nat.lt_or_ge r (hn h) with z | z
    · exact z
    · exact absurd (a3 r z) hr
  have sc : ∀ r, r < hn h → hc h' r = hc h r := fun r hr => K.1.2.2.2.1 r hr
  have sl : ∀ r, r < hn h → hl h' r = hl h r := fun r hr => K.1.2.2.2.2 r hr
  have fI : ∀ f r, r < hn h → mdT (hc h r) = false → gI h' f r = gI h f r ∧ gJ h' f r = gJ h f r ∧ gR h' f r = gR h f r := fun f r hr hm => (K.2.2 r hr).1 f hm
  have eA : ∀ r j, kc h r ≠ 0 → eI h' r j = eI h r j ∧ eR h' r j = eR h r j := fun r j hr => ⟨((K.2.2 r (a4 r hr).1).2 (a4 r hr).2 j).1, ((K.2.2 r (a4 r hr).1).2 (a4 r hr).2 j).2.2⟩
  refine ⟨⟨?_, Nat.lt_of_lt_of_le a2 K.1.1, fun r hr => ?_, fun r hr => ?_⟩, ⟨by rw [sJ]; exact b1, by rw [sJ]; exact b2, by rw [sI]; exact b3, by rw [sI]; exact b4⟩, ⟨fun f hf => ?_, fun q hq => by rw [sR, sR]; exact c2 q hq⟩, ?_, ?_, ?_, ?_, fun z hz => ?_, ?_⟩
  · rw [sc 0 a2]; exact a1
  · rw [K.2.1 r hr]; exact a3 r (Nat.le_trans K.1.1 hr)
  · rw [sk] at hr
    have z := a4 r hr
    exact ⟨Nat.lt_of_lt_of_le z.1 K.1.1, by rw [sc r z.1]; exact z.2⟩
  · rw [sR, sc _ (lt _ (by rw [c1 f hf]; decide))]; exact c1 f hf
  · have l1 := lt (gR h 4085252098 0) (by rw [d1]; decide)
    have l2 := lt (gR h 4093640706 0) (by rw [d3]; decide)
    rw [sR, sR, sc _ l1, sc _ l2, (fI _ _ l1 (by rw [d1]; rfl)).1, (fI _ _ l2 (by rw [d3]; rfl)).1]
    exact ⟨d1, d2, d3, d4⟩
  · have k1 : kc h (gR h 4034920450 0) ≠ 0 := by rw [e1]; decide
    have k2 : kc h (gR h 4043309058 0) ≠ 0 := by rw [e3]; decide
    rw [sR, sR, sk, sk, sl _ (a4 _ k1).1, sl _ (a4 _ k2).1]
    exact ⟨e1, e2, e3, e4, e5⟩
  · have k1 : kc h (gR h 4068474882 0) ≠ 0 := by rw [f1]; decide
    rw [sR, sk, sl _ (a4 _ k1).1]
    refine ⟨f1, f2, fun j hj => ?_⟩
    have z := f3 j hj
    have l1 := lt _ (by rw [z.1]; decide)
    rw [(eA _ _ k1).2, sc _ l1, (fI _ _ l1 (by rw [z.1]; rfl)).1]
    exact z
  · have k1 : kc h (gR h 4076863490 0) ≠ 0 := by rw [g1]; decide
    rw [sR, sk, sl _ (a4 _ k1).1]
    refine ⟨g1, g2, fun j hj => ?_⟩
    have z := g3 j hj
    have l1 := lt _ (by rw [z.1]; decide)
    rw [(eA _ _ k1).2, sc _ l1, (fI _ _ l1 (by rw [z.1]; rfl)).2.1]
    exact z
  · obtain ⟨z1, z2, z3, z4, z5⟩ := hS z hz
    have l1 := lt _ (by rw [z1]; decide)
    have k1 : kc h (gR h 3568632022 (gR h z.1 0)) ≠ 0 := by rw [z3]; decide
    have q := fI 3568632022 _ l1 (by rw [z1]; rfl)
    rw [sR, sc _ l1, (fI 3577020628 _ l1 (by rw [z1]; rfl)).1, q.2.2, sk, sl _ (a4 _ k1).1]
    exact ⟨z1, z2, z3, z4, fun j hj => by rw [(eA _ _ k1).1]; exact z5 j hj⟩
  · have k1 : kc h (gR h 3665821698 0) ≠ 0 := by rw [i1]; decide
    rw [sR, sk, sl _ (a4 _ k1).1]
    exact ⟨i1, i2, fun j hj => by rw [(eA _ _ k1).1]; exact i3 j hj⟩
theorem ScrH.keep {h h' : PH} {b L : Nat} {xs : Nat → Int} (C : ConH h) (S : ScrH h b L xs) (K : Kept h h') : ScrH h' b L xs := by
  obtain ⟨⟨a1, a2, a3, a4⟩, -⟩ := C
  obtain ⟨s1, s2, s3, s4⟩ := S
  have k1 : kc h (b + 1) ≠ 0 := by rw [s1]; decide
  refine ⟨by rw [K.kc a1 a2]; exact s1, by rw [K.1.2.2.2.2 _ (a4 _ k1).1]; exact s2, s3, fun j hj => ?_⟩
  rw [((K.2.2 _ (a4 _ k1).1).2 (a4 _ k1).2 j).1]
  exact s4 j hj
