/-! SIMULATION: arrays (printed by gen/sim17.py) -/
set_option maxRecDepth 100000
theorem tcn {j : Int} (h0 : 0 ≤ j) (h1 : j < 2147483648) : (Int32.ofInt j).toNatClampNeg = j.toNat := by
  have : (Int32.ofInt j).toInt = j := of32 ⟨by omega, h1⟩
  unfold Int32.toNatClampNeg
  rw [this]
/-- an array's cell -/
theorem arr_cell {s0 : State} {K : KX} {h : PH} {H : Heap} {r : Nat} (hR : Rep s0 K h H) (h64 : 64 ≤ hc h r) : ∃ (a : Nat) (cell : Cell), r = a + 1 ∧ H[a]? = some cell ∧ cell.vm ≠ .unknown ∧ cell.vm.isStatics = false ∧ s0.isArrayOf cell (aT (hc h r)) ∧ (mdA (hc h r) = true → cell.vm = .none ∧ va_RA s0 cell.cls (aT (hc h r)) ∧ s0.heap.size ≤ a) ∧ (cell.slots.size : Int) = hl h r ∧ ∀ j : Nat, j < cell.slots.size → cell.slots[j]? = some (ev h (hc h r) r j) := by
  have h0 : hc h r ≠ 0 := by omega
  have hp := hR.pos h0
  obtain ⟨⟨q1, q2, q3⟩, q4, cell, c1, c2, c3, c4, c5⟩ := hR.2.2.1 r h0
  obtain ⟨a1, a2, a3, a4⟩ := c5 h64
  refine ⟨r - 1, cell, by omega, c1, c2, c3, a1, fun hm => ⟨(a2.1 hm).1, (a2.1 hm).2, ?_⟩, a3, a4⟩
  have := q3 (Or.inr hm)
  omega
theorem con_cell {s0 : State} {K : KX} {h : PH} {H : Heap} {r : Nat} (hR : Rep s0 K h H) (h0 : kc h r ≠ 0) : r ≤ s0.heap.size ∧ ∃ (a : Nat) (cell : Cell), r = a + 1 ∧ H[a]? = some cell ∧ cell.vm ≠ .unknown ∧ cell.vm.isStatics = false ∧ s0.isArrayOf cell (aT (kc h r)) ∧ (kc h r = 72 → va_RA s0 cell.cls (aT 72)) ∧ (hl h r).toNat ≤ cell.slots.size ∧ cell.slots.size.toInt32 = Int32.ofInt (hl h r) ∧ ∀ j : Nat, (j : Int) < hl h r → cell.slots[j]? = some (ev h (kc h r) r j) := by
  obtain ⟨c1, c2, c3, c4, cell, c5, c6, c7, c8, c9, c10, c12, c11⟩ := hR.2.2.2.2.1.2 r h0
  exact ⟨c1, r - 1, cell, by omega, c5, c6, c7, c8, c9, c10, c12, c11⟩
theorem arr_any {s0 : State} {K : KX} {h : PH} {H : Heap} {r lo hi : Nat} (hR : Rep s0 K h H) (hlo : 64 ≤ lo) (hg : inT lo hi (hc h r) ∨ inT lo hi (kc h r)) : ∃ (t a : Nat) (cell : Cell), inT lo hi t ∧ r = a + 1 ∧ H[a]? = some cell ∧ cell.vm ≠ .unknown ∧ cell.vm.isStatics = false ∧ s0.isArrayOf cell (aT t) ∧ (hl h r).toNat ≤ cell.slots.size ∧ cell.slots.size.toInt32 = Int32.ofInt (hl h r) ∧ ∀ j : Nat, (j : Int) < hl h r → cell.slots[j]? = some (ev h t r j) := by
  rcases hg with hg | hg
  · obtain ⟨a, cell, e, c1, c2, c3, c4, c5, c6, c7⟩ := arr_cell hR (r := r) (by have := hg.1; omega)
    exact ⟨_, a, cell, hg, e, c1, c2, c3, c4, by omega, by rw [← c6, Int32.ofInt_eq_ofNat], fun j hj => c7 j (by omega)⟩
  · obtain ⟨-, a, cell, e, c1, c2, c3, c4, c5, c6, c8, c7⟩ := con_cell hR (r := r) (by have := hg.1; omega)
    exact ⟨_, a, cell, hg, e, c1, c2, c3, c4, c6, c8, c7⟩
theorem arr_ix {s0 : State} {K : KX} {h : PH} {H : Heap} {r : Nat} {j : Int} {cell : Cell} (hR : Rep s0 K h H) (hz : (cell.slots.size : Int) = hl h r) (hj : inA j (hl h r)) : (Int32.ofInt j).toNatClampNeg = j.toNat ∧ j.toNat < cell.slots.size ∧ ((j.toNat : Nat) : Int) = j ∧ ¬ (Int32.ofInt j < 0 ∨ cell.slots.size ≤ (Int32.ofInt j).toNatClampNeg) := by
  have hb := (hR.wf).2.2.2.2 r
  have hjr : in32 j := ⟨by have := hj.1; omega, by have := hj.2; omega⟩
  have e := tcn hj.1 hjr.2
  have e2 : ((j.toNat : Nat) : Int) = j := Int.toNat_of_nonneg hj.1
  have e3 : j.toNat < cell.slots.size := by have := hj.2; omega
  refine ⟨e, e3, e2, ?_⟩
  rw [e]
  rintro (q | q)
  · have := (c_lt0 hjr).mp q
    have := hj.1
    omega
  · omega
theorem arr_ix2 {s0 : State} {K : KX} {h : PH} {H : Heap} {r : Nat} {j : Int} {cell : Cell} (hR : Rep s0 K h H) (hz : (hl h r).toNat ≤ cell.slots.size) (hj : inA j (hl h r)) : (Int32.ofInt j).toNatClampNeg = j.toNat ∧ j.toNat < cell.slots.size ∧ ((j.toNat : Nat) : Int) = j ∧ ¬ (Int32.ofInt j < 0 ∨ cell.slots.size ≤ (Int32.ofInt j).toNatClampNeg) := by
  have hb := (hR.wf).2.2.2.2 r
  have hjr : in32 j := ⟨by have := hj.1; omega, by have := hj.2; omega⟩
  have e := tcn hj.1 hjr.2
  have e2 : ((j.toNat : Nat) : Int) = j := Int.toNat_of_nonneg hj.1
  have e3 : j.toNat < cell.slots.size := by have := hj.2; omega
  refine ⟨e, e3, e2, ?_⟩
  rw [e]
  rintro (q | q)
  · have := (c_lt0 hjr).mp q
    have := hj.1
    omega
  · omega
theorem arr_mv {s0 s : State} {cell : Cell} {ty : FieldType} (hW : s0.WarmedH s.vm) (h : s0.isArrayOf cell ty) : s.isArrayOf cell ty := State.isArrayOf_alike hW.alike h
theorem wf_qI {h : PH} {r : Nat} {j v : Int} (hw : WFH h) (hv : in32 v) : WFH (qI h r j v) := by
  refine ⟨hw.1, hw.2.1, fun x y => ?_, hw.2.2.2.1, hw.2.2.2.2⟩
  show in32 (ue2 (eI h) r j v x y)
  unfold ue2
  split
  · exact hv
  · exact hw.2.2.1 x y
theorem wf_qJ {h : PH} {r : Nat} {j v : Int} (hw : WFH h) (hv : in64 v) : WFH (qJ h r j v) := by
  refine ⟨hw.1, hw.2.1, hw.2.2.1, fun x y => ?_, hw.2.2.2.2⟩
  show in64 (ue2 (eJ h) r j v x y)
  unfold ue2
  split
  · exact hv
  · exact hw.2.2.2.1 x y
theorem same_qI {h : PH} {r : Nat} {j v : Int} : SameE h (qI h r j v) r j := by
  refine ⟨rfl, rfl, rfl, rfl, fun _ _ => rfl, fun t q i hne => ?_, fun _ => rfl⟩
  have e : eI (qI h r j v) q i = eI h q i := by
    show ue2 (eI h) r j v q i = _
    unfold ue2
    rw [if_neg hne]
  unfold ev
  rw [e]
  rfl
theorem same_qJ {h : PH} {r : Nat} {j v : Int} : SameE h (qJ h r j v) r j := by
  refine ⟨rfl, rfl, rfl, rfl, fun _ _ => rfl, fun t q i hne => ?_, fun _ => rfl⟩
  have e : eJ (qJ h r j v) q i = eJ h q i := by
    show ue2 (eJ h) r j v q i = _
    unfold ue2
    rw [if_neg hne]
  unfold ev
  rw [e]
  rfl
theorem same_qR {h : PH} {r v : Nat} {j : Int} : SameE h (qR h r j v) r j := by
  refine ⟨rfl, rfl, rfl, rfl, fun _ _ => rfl, fun t q i hne => ?_, fun _ => rfl⟩
  have e : eR (qR h r j v) q i = eR h q i := by
    show ue2 (eR h) r j v q i = _
    unfold ue2
    rw [if_neg hne]
  unfold ev
  rw [e]
  rfl
theorem eI_qI {h : PH} {r : Nat} {j v : Int} : eI (qI h r j v) r j = v := by show ue2 (eI h) r j v r j = v; unfold ue2; rw [if_pos ⟨rfl, rfl⟩]
theorem eJ_qJ {h : PH} {r : Nat} {j v : Int} : eJ (qJ h r j v) r j = v := by show ue2 (eJ h) r j v r j = v; unfold ue2; rw [if_pos ⟨rfl, rfl⟩]
theorem eR_qR {h : PH} {r v : Nat} {j : Int} : eR (qR h r j v) r j = v := by show ue2 (eR h) r j v r j = v; unfold ue2; rw [if_pos ⟨rfl, rfl⟩]
theorem ge_same {a h h' : PH} (e1 : hk h' = hk h) (e2 : hs h' = hs h) (hG : Ge a h) : Ge a h' := by unfold Ge at *; rw [e1, e2]; exact hG
theorem fr_add {s0 : State} {locs : List Loc} {x : Loc} (hfr : ∀ q ∈ locs, fr0 s0 q.base) (hx : s0.heap.size ≤ x.base) : ∀ q ∈ locs ++ [x], fr0 s0 q.base := by
  intro q hq
  rcases List.mem_append.mp hq with e | e
  · exact hfr q e
  · rw [List.mem_singleton.mp e]; exact hx
theorem sim_arraylength {s0 : State} {K : KX} {p : Program} {l : Launch} {e : Env} {d : Nat} {s : State} {m : MethodId} {args : Array Value} {below : List Frame} {meth : Method} {c : Code} {M : Nat} {hS hE : PH} {o : Ot} {Ω : Om} {κ μ : List (Nat × Int)} {ini : Bool} {cf : Nat → List PV → PH → Rs} {k : Kt} (hx : p.tables.exec = Jvm.exec) (hW : s0.WarmedH s.vm) (hkk : SimK s0 K p l e d s m args below meth c hS hE o M k) : StepOK s0 K p l e d s m args below meth c hS hE o M Ω κ μ ini cf k .arraylength := by
  intro b len pc lp st h H ls locs hck hln hB he hlen hL hwl hws hR hG hfr
  obtain ⟨l', rfl, rfl⟩ := o1_s hck hln
  rcases st with _ | ⟨x | ⟨x | ⟨x | x⟩⟩, st⟩ <;> first | exact no_e (show (none : Rs) = some (o, hE) from he) | skip
  have he : gd (inT 64 77 (hc h x) ∨ inT 64 77 (kc h x)) (k (pc + 1) lp (vI (hl h x) :: st) h) = some (o, hE) := he
  obtain ⟨hg, he⟩ := gd_some he
  obtain ⟨t, a, cell, ht, rfl, c1, c2, c3, c4, c6, c5, c7⟩ := arr_any hR (by decide) hg
  have hb := (hR.wf).2.2.2.2 (a + 1)
  exact W.alen (n := Int32.ofInt (hl h (a + 1))) hx rfl c1 (arr_mv hW c4) c5 rfl rfl (dk_190 hB) (hkk _ _ _ _ _ _ _ he hlen hL hwl (WFv.cons (show in32 _ from ⟨by omega, by omega⟩) hws.tl) hR hG hfr)
theorem e70 {t : Nat} (h : inT 70 70 t) : t = 70 := by omega
theorem ty_int {t : Nat} (h : inT 64 65 t) : aT t = .int ∧ ak t = 0 := by
  have : t = 64 ∨ t = 65 := by omega
  rcases this with rfl | rfl <;> exact ⟨rfl, rfl⟩
theorem sim_iaload {s0 : State} {K : KX} {p : Program} {l : Launch} {e : Env} {d : Nat} {s : State} {m : MethodId} {args : Array Value} {below : List Frame} {meth : Method} {c : Code} {M : Nat} {hS hE : PH} {o : Ot} {Ω : Om} {κ μ : List (Nat × Int)} {ini : Bool} {cf : Nat → List PV → PH → Rs} {k : Kt} (hx : p.tables.exec = Jvm.exec) (hW : s0.WarmedH s.vm) (hkk : SimK s0 K p l e d s m args below meth c hS hE o M k) : StepOK s0 K p l e d s m args below meth c hS hE o M Ω κ μ ini cf k .iaload := by
  intro b len pc lp st h H ls locs hck hln hB he hlen hL hwl hws hR hG hfr
  obtain ⟨l', rfl, rfl⟩ := o1_s hck hln
  rcases st with _ | ⟨y | ⟨y | ⟨y | y⟩⟩, _ | ⟨x | ⟨x | ⟨x | x⟩⟩, st⟩⟩ <;> first | exact no_e (show (none : Rs) = some (o, hE) from he) | skip
  have he : gd ((inT 64 65 (hc h x) ∨ inT 64 65 (kc h x)) ∧ inA y (hl h x)) (k (pc + 1) lp (vI (eI h x y) :: st) h) = some (o, hE) := he
  obtain ⟨hg, he⟩ := gd_some he
  obtain ⟨t, a, cell, ht, rfl, c1, c2, c3, c4, c6, c5, c7⟩ := arr_any hR (by decide) hg.1
  obtain ⟨i1, i2, i3, i4⟩ := arr_ix2 hR c6 hg.2
  have c8 := c7 y.toNat (by have := hg.2.2; omega)
  rw [i3] at c8
  have c9 : ev h t (a + 1) y = .int (Int32.ofInt (eI h (a + 1) y)) := by unfold ev; rw [(ty_int ht).2]; rfl
  rw [c9] at c8
  exact W.iald hx rfl c1 (arr_mv hW ((ty_int ht).1 ▸ c4)) c2 i4 (by rw [i1]; exact c8) rfl rfl (dk_46 hB) (hkk _ _ _ _ _ _ _ he hlen hL hwl (WFv.cons ((hR.wf).2.2.1 _ _) hws.tl.tl) hR hG hfr)
theorem sim_laload {s0 : State} {K : KX} {p : Program} {l : Launch} {e : Env} {d : Nat} {s : State} {m : MethodId} {args : Array Value} {below : List Frame} {meth : Method} {c : Code} {M : Nat} {hS hE : PH} {o : Ot} {Ω : Om} {κ μ : List (Nat × Int)} {ini : Bool} {cf : Nat → List PV → PH → Rs} {k : Kt} (hx : p.tables.exec = Jvm.exec) (hW : s0.WarmedH s.vm) (hkk : SimK s0 K p l e d s m args below meth c hS hE o M k) : StepOK s0 K p l e d s m args below meth c hS hE o M Ω κ μ ini cf k .laload := by
  intro b len pc lp st h H ls locs hck hln hB he hlen hL hwl hws hR hG hfr
  obtain ⟨l', rfl, rfl⟩ := o1_s hck hln
  rcases st with _ | ⟨y | ⟨y | ⟨y | y⟩⟩, _ | ⟨x | ⟨x | ⟨x | x⟩⟩, st⟩⟩ <;> first | exact no_e (show (none : Rs) = some (o, hE) from he) | skip
  have he : gd (hc h x = 66 ∧ inA y (hl h x)) (k (pc + 1) lp (vJ (eJ h x y) :: st) h) = some (o, hE) := he
  obtain ⟨hg, he⟩ := gd_some he
  obtain ⟨a, cell, rfl, c1, c2, c3, c4, c5, c6, c7⟩ := arr_cell hR (r := x) (by omega)
  obtain ⟨i1, i2, i3, i4⟩ := arr_ix hR c6 hg.2
  have c8 := c7 _ i2
  rw [i3] at c8
  have c9 : ev h (hc h (a + 1)) (a + 1) y = .long (Int64.ofInt (eJ h (a + 1) y)) := by unfold ev; rw [hg.1]; rfl
  rw [c9] at c8
  exact W.lald hx rfl c1 (arr_mv hW ((show s0.isArrayOf cell .long from by rw [hg.1] at c4; exact c4))) c2 i4 (by rw [i1]; exact c8) rfl rfl (dk_47 hB) (hkk _ _ _ _ _ _ _ he hlen hL hwl (WFv.cons ((hR.wf).2.2.2.1 _ _) hws.tl.tl) hR hG hfr)
theorem sim_caload {s0 : State} {K : KX} {p : Program} {l : Launch} {e : Env} {d : Nat} {s : State} {m : MethodId} {args : Array Value} {below : List Frame} {meth : Method} {c : Code} {M : Nat} {hS hE : PH} {o : Ot} {Ω : Om} {κ μ : List (Nat × Int)} {ini : Bool} {cf : Nat → List PV → PH → Rs} {k : Kt} (hx : p.tables.exec = Jvm.exec) (hW : s0.WarmedH s.vm) (hkk : SimK s0 K p l e d s m args below meth c hS hE o M k) : StepOK s0 K p l e d s m args below meth c hS hE o M Ω κ μ ini cf k .caload := by
  intro b len pc lp st h H ls locs hck hln hB he hlen hL hwl hws hR hG hfr
  obtain ⟨l', rfl, rfl⟩ := o1_s hck hln
  rcases st with _ | ⟨y | ⟨y | ⟨y | y⟩⟩, _ | ⟨x | ⟨x | ⟨x | x⟩⟩, st⟩⟩ <;> first | exact no_e (show (none : Rs) = some (o, hE) from he) | skip
  have he : gd ((inT 70 70 (hc h x) ∨ inT 70 70 (kc h x)) ∧ inA y (hl h x)) (k (pc + 1) lp (vI (eI h x y) :: st) h) = some (o, hE) := he
  obtain ⟨hg, he⟩ := gd_some he
  obtain ⟨t, a, cell, ht, rfl, c1, c2, c3, c4, c6, c5, c7⟩ := arr_any hR (by decide) hg.1
  obtain ⟨i1, i2, i3, i4⟩ := arr_ix2 hR c6 hg.2
  have c8 := c7 y.toNat (by have := hg.2.2; omega)
  rw [i3] at c8
  have c9 : ev h t (a + 1) y = .int (Int32.ofInt (eI h (a + 1) y)) := by unfold ev; rw [e70 ht]; rfl
  rw [c9] at c8
  exact W.cald hx rfl c1 (arr_mv hW ((show s0.isArrayOf cell .char from by rw [e70 ht] at c4; exact c4))) c2 i4 (by rw [i1]; exact c8) rfl rfl (dk_52 hB) (hkk _ _ _ _ _ _ _ he hlen hL hwl (WFv.cons ((hR.wf).2.2.1 _ _) hws.tl.tl) hR hG hfr)
theorem ty_ref {t : Nat} (h : inT 71 77 t) : (∃ C, aT t = .object C) ∧ ak t = 2 := by
  have : t = 71 ∨ t = 72 ∨ t = 73 ∨ t = 74 ∨ t = 75 ∨ t = 76 ∨ t = 77 := by omega
  rcases this with rfl | rfl | rfl | rfl | rfl | rfl | rfl <;> exact ⟨⟨_, rfl⟩, rfl⟩
theorem nz_in (x : Int) : in32 (nz x) := by unfold nz in32; split <;> omega
theorem sim_aaload {s0 : State} {K : KX} {p : Program} {l : Launch} {e : Env} {d : Nat} {s : State} {m : MethodId} {args : Array Value} {below : List Frame} {meth : Method} {c : Code} {M : Nat} {hS hE : PH} {o : Ot} {Ω : Om} {κ μ : List (Nat × Int)} {ini : Bool} {cf : Nat → List PV → PH → Rs} {k : Kt} (hx : p.tables.exec = Jvm.exec) (hW : s0.WarmedH s.vm) (hkk : SimK s0 K p l e d s m args below meth c hS hE o M k) : StepOK s0 K p l e d s m args below meth c hS hE o M Ω κ μ ini cf k .aaload := by
  intro b len pc lp st h H ls locs hck hln hB he hlen hL hwl hws hR hG hfr
  obtain ⟨l', rfl, rfl⟩ := o1_s hck hln
  rcases st with _ | ⟨y | ⟨y | ⟨y | y⟩⟩, _ | ⟨x | ⟨x | ⟨x | x⟩⟩, st⟩⟩ <;> first | exact no_e (show (none : Rs) = some (o, hE) from he) | skip
  have he : gd ((inT 71 77 (hc h x) ∨ inT 71 77 (kc h x)) ∧ inA y (hl h x)) (k (pc + 1) lp (vR (eR h x y) :: st) h) = some (o, hE) := he
  obtain ⟨hg, he⟩ := gd_some he
  obtain ⟨t, a, cell, ht, rfl, c1, c2, c3, c4, c6, c5, c7⟩ := arr_any hR (by decide) hg.1
  obtain ⟨i1, i2, i3, i4⟩ := arr_ix2 hR c6 hg.2
  have c8 := c7 y.toNat (by have := hg.2.2; omega)
  rw [i3] at c8
  obtain ⟨⟨C, hC⟩, hak⟩ := ty_ref ht
  have c9 : ev h t (a + 1) y = rv (eR h (a + 1) y) := by unfold ev; rw [hak]; rfl
  rw [c9] at c8
  rw [hC] at c4
  exact W.aald hx rfl c1 (arr_mv hW c4) rfl c2 i4 (by rw [i1]; exact c8) rfl rfl (dk_50 hB) (hkk _ _ _ _ _ _ _ he hlen hL hwl (WFv.cons trivial hws.tl.tl) hR hG hfr)
theorem sim_baload {s0 : State} {K : KX} {p : Program} {l : Launch} {e : Env} {d : Nat} {s : State} {m : MethodId} {args : Array Value} {below : List Frame} {meth : Method} {c : Code} {M : Nat} {hS hE : PH} {o : Ot} {Ω : Om} {κ μ : List (Nat × Int)} {ini : Bool} {cf : Nat → List PV → PH → Rs} {k : Kt} (hx : p.tables.exec = Jvm.exec) (hW : s0.WarmedH s.vm) (hkk : SimK s0 K p l e d s m args below meth c hS hE o M k) : StepOK s0 K p l e d s m args below meth c hS hE o M Ω κ μ ini cf k .baload := by
  intro b len pc lp st h H ls locs hck hln hB he hlen hL hwl hws hR hG hfr
  obtain ⟨l', rfl, rfl⟩ := o1_s hck hln
  rcases st with _ | ⟨y | ⟨y | ⟨y | y⟩⟩, _ | ⟨x | ⟨x | ⟨x | x⟩⟩, st⟩⟩ <;> first | exact no_e (show (none : Rs) = some (o, hE) from he) | skip
  have he : gd ((inT 67 69 (hc h x) ∨ inT 68 68 (kc h x)) ∧ inA y (hl h x)) (k (pc + 1) lp (vI (if hc h x = 69 then nz (eI h x y) else eI h x y) :: st) h) = some (o, hE) := he
  obtain ⟨hg, he⟩ := gd_some he
  rcases hg.1 with hg1 | hg1
  · obtain ⟨a, cell, rfl, c1, c2, c3, c4, c5, c6, c7⟩ := arr_cell hR (r := x) (by have := hg1.1; omega)
    obtain ⟨i1, i2, i3, i4⟩ := arr_ix hR c6 hg.2
    have c8 := c7 _ i2
    rw [i3] at c8
    by_cases h69 : hc h (a + 1) = 69
    · rw [if_pos h69] at he
      have c9 : ev h (hc h (a + 1)) (a + 1) y = .int (Int32.ofInt (nz (eI h (a + 1) y))) := by unfold ev; rw [h69]; rfl
      rw [c9] at c8
      rw [h69] at c4
      exact W.zald hx rfl c1 (arr_mv hW c4) c2 i4 (by rw [i1]; exact c8) rfl rfl (dk_51 hB) (hkk _ _ _ _ _ _ _ he hlen hL hwl (WFv.cons (nz_in _) hws.tl.tl) hR hG hfr)
    · rw [if_neg h69] at he
      have hh : hc h (a + 1) = 67 ∨ hc h (a + 1) = 68 := by have := hg1.1; have := hg1.2; omega
      have c9 : ev h (hc h (a + 1)) (a + 1) y = .int (Int32.ofInt (eI h (a + 1) y)) := by unfold ev; rcases hh with e | e <;> rw [e] <;> rfl
      rw [c9] at c8
      have c4 : s0.isArrayOf cell .byte := by rcases hh with e | e <;> (rw [e] at c4; exact c4)
      exact W.bald hx rfl c1 (arr_mv hW c4) c2 i4 (by rw [i1]; exact c8) rfl rfl (dk_51 hB) (hkk _ _ _ _ _ _ _ he hlen hL hwl (WFv.cons ((hR.wf).2.2.1 _ _) hws.tl.tl) hR hG hfr)
  · obtain ⟨hle, a, cell, rfl, c1, c2, c3, c4, c5, c6, c10, c7⟩ := con_cell hR (r := x) (by have := hg1.1; omega)
    have hk68 : kc h (a + 1) = 68 := by have := hg1.1; have := hg1.2; omega
    obtain ⟨i1, i2, i3, i4⟩ := arr_ix2 hR c6 hg.2
    have c8 := c7 y.toNat (by have := hg.2.2; omega)
    rw [i3] at c8
    have h69 : ¬ hc h (a + 1) = 69 := by intro z; have := (hR.2.2.1 (a + 1) (by omega)).1.2.2 (Or.inr (by rw [z]; rfl)); omega
    rw [if_neg h69] at he
    have c9 : ev h (kc h (a + 1)) (a + 1) y = .int (Int32.ofInt (eI h (a + 1) y)) := by unfold ev; rw [hk68]; rfl
    rw [c9] at c8
    rw [hk68] at c4
    exact W.bald hx rfl c1 (arr_mv hW c4) c2 i4 (by rw [i1]; exact c8) rfl rfl (dk_51 hB) (hkk _ _ _ _ _ _ _ he hlen hL hwl (WFv.cons ((hR.wf).2.2.1 _ _) hws.tl.tl) hR hG hfr)
theorem sim_iastore {s0 : State} {K : KX} {p : Program} {l : Launch} {e : Env} {d : Nat} {s : State} {m : MethodId} {args : Array Value} {below : List Frame} {meth : Method} {c : Code} {M : Nat} {hS hE : PH} {o : Ot} {Ω : Om} {κ μ : List (Nat × Int)} {ini : Bool} {cf : Nat → List PV → PH → Rs} {k : Kt} (hx : p.tables.exec = Jvm.exec) (hW : s0.WarmedH s.vm) (hkk : SimK s0 K p l e d s m args below meth c hS hE o M k) : StepOK s0 K p l e d s m args below meth c hS hE o M Ω κ μ ini cf k .iastore := by
  intro b len pc lp st h H ls locs hck hln hB he hlen hL hwl hws hR hG hfr
  obtain ⟨l', rfl, rfl⟩ := o1_s hck hln
  rcases st with _ | ⟨z | ⟨z | ⟨z | z⟩⟩, _ | ⟨y | ⟨y | ⟨y | y⟩⟩, _ | ⟨x | ⟨x | ⟨x | x⟩⟩, st⟩⟩⟩ <;> first | exact no_e (show (none : Rs) = some (o, hE) from he) | skip
  have he : gd (hc h x = 65 ∧ inA y (hl h x)) (k (pc + 1) lp st (qI h x y z)) = some (o, hE) := he
  obtain ⟨hg, he⟩ := gd_some he
  obtain ⟨a, cell, rfl, c1, c2, c3, c4, c5, c6, c7⟩ := arr_cell hR (r := x) (by omega)
  obtain ⟨i1, i2, i3, i4⟩ := arr_ix hR c6 hg.2
  have hm : mdA (hc h (a + 1)) = true := by rw [hg.1]; rfl
  have c4 : s0.isArrayOf cell .int := by rw [hg.1] at c4; exact c4
  refine W.iast hx rfl c1 (arr_mv hW c4) c2 i4 rfl rfl (dk_79 hB) (fun H' e1 e2 e3 => ?_)
  rw [i1] at e1 ⊢
  have hS2 : SameE h (qI h (a + 1) y z) (a + 1) ((y.toNat : Nat) : Int) := by rw [i3]; exact same_qI
  have hev : ev (qI h (a + 1) y z) (hc h (a + 1)) (a + 1) ((y.toNat : Nat) : Int) = .int (Int32.ofInt z) := by rw [i3]; unfold ev; rw [hg.1]; show Value.int (Int32.ofInt (eI (qI h (a + 1) y z) (a + 1) y)) = _; rw [eI_qI]
  have hR' := Rep.putE (r := a + 1) hR (by omega) hm i2 hS2 (wf_qI hR.wf hws.hd) c1 (by rw [hev]; exact e1) e2 e3
  have hw := hkk _ _ _ _ _ ls _ he hlen hL hwl hws.tl.tl.tl hR' (ge_same rfl rfl hG) (fr_add (x := ⟨a, y.toNat⟩) hfr (c5 hm).2.2)
  exact hw
theorem sim_lastore {s0 : State} {K : KX} {p : Program} {l : Launch} {e : Env} {d : Nat} {s : State} {m : MethodId} {args : Array Value} {below : List Frame} {meth : Method} {c : Code} {M : Nat} {hS hE : PH} {o : Ot} {Ω : Om} {κ μ : List (Nat × Int)} {ini : Bool} {cf : Nat → List PV → PH → Rs} {k : Kt} (hx : p.tables.exec = Jvm.exec) (hW : s0.WarmedH s.vm) (hkk : SimK s0 K p l e d s m args below meth c hS hE o M k) : StepOK s0 K p l e d s m args below meth c hS hE o M Ω κ μ ini cf k .lastore := by
  intro b len pc lp st h H ls locs hck hln hB he hlen hL hwl hws hR hG hfr
  obtain ⟨l', rfl, rfl⟩ := o1_s hck hln
  rcases st with _ | ⟨z | ⟨z | ⟨z | z⟩⟩, _ | ⟨y | ⟨y | ⟨y | y⟩⟩, _ | ⟨x | ⟨x | ⟨x | x⟩⟩, st⟩⟩⟩ <;> first | exact no_e (show (none : Rs) = some (o, hE) from he) | skip
  have he : gd (hc h x = 66 ∧ inA y (hl h x)) (k (pc + 1) lp st (qJ h x y z)) = some (o, hE) := he
  obtain ⟨hg, he⟩ := gd_some he
  obtain ⟨a, cell, rfl, c1, c2, c3, c4, c5, c6, c7⟩ := arr_cell hR (r := x) (by omega)
  obtain ⟨i1, i2, i3, i4⟩ := arr_ix hR c6 hg.2
  have hm : mdA (hc h (a + 1)) = true := by rw [hg.1]; rfl
  have c4 : s0.isArrayOf cell .long := by rw [hg.1] at c4; exact c4
  refine W.last hx rfl c1 (arr_mv hW c4) c2 i4 rfl rfl (dk_80 hB) (fun H' e1 e2 e3 => ?_)
  rw [i1] at e1 ⊢
  have hS2 : SameE h (qJ h (a + 1) y z) (a + 1) ((y.toNat : Nat) : Int) := by rw [i3]; exact same_qJ
  have hev : ev (qJ h (a + 1) y z) (hc h (a + 1)) (a + 1) ((y.toNat : Nat) : Int) = .long (Int64.ofInt z) := by rw [i3]; unfold ev; rw [hg.1]; show Value.long (Int64.ofInt (eJ (qJ h (a + 1) y z) (a + 1) y)) = _; rw [eJ_qJ]
  have hR' := Rep.putE (r := a + 1) hR (by omega) hm i2 hS2 (wf_qJ hR.wf hws.hd) c1 (by rw [hev]; exact e1) e2 e3
  have hw := hkk _ _ _ _ _ ls _ he hlen hL hwl hws.tl.tl.tl hR' (ge_same rfl rfl hG) (fr_add (x := ⟨a, y.toNat⟩) hfr (c5 hm).2.2)
  exact hw
theorem sim_bastore {s0 : State} {K : KX} {p : Program} {l : Launch} {e : Env} {d : Nat} {s : State} {m : MethodId} {args : Array Value} {below : List Frame} {meth : Method} {c : Code} {M : Nat} {hS hE : PH} {o : Ot} {Ω : Om} {κ μ : List (Nat × Int)} {ini : Bool} {cf : Nat → List PV → PH → Rs} {k : Kt} (hx : p.tables.exec = Jvm.exec) (hW : s0.WarmedH s.vm) (hkk : SimK s0 K p l e d s m args below meth c hS hE o M k) : StepOK s0 K p l e d s m args below meth c hS hE o M Ω κ μ ini cf k .bastore := by
  intro b len pc lp st h H ls locs hck hln hB he hlen hL hwl hws hR hG hfr
  obtain ⟨l', rfl, rfl⟩ := o1_s hck hln
  rcases st with _ | ⟨z | ⟨z | ⟨z | z⟩⟩, _ | ⟨y | ⟨y | ⟨y | y⟩⟩, _ | ⟨x | ⟨x | ⟨x | x⟩⟩, st⟩⟩⟩ <;> first | exact no_e (show (none : Rs) = some (o, hE) from he) | skip
  have he : gd ((hc h x = 67 ∨ hc h x = 69 ∧ (z = 0 ∨ z = 1)) ∧ inA y (hl h x)) (k (pc + 1) lp st (qI h x y (if hc h x = 69 then z else w8 z))) = some (o, hE) := he
  obtain ⟨hg, he⟩ := gd_some he
  obtain ⟨a, cell, rfl, c1, c2, c3, c4, c5, c6, c7⟩ := arr_cell hR (r := x) (by have := hg.1; omega)
  obtain ⟨i1, i2, i3, i4⟩ := arr_ix hR c6 hg.2
  rcases hg.1 with h67 | ⟨h69, hz⟩
  · rw [if_neg (by omega)] at he
    have hm : mdA (hc h (a + 1)) = true := by rw [h67]; rfl
    have c4 : s0.isArrayOf cell .byte := by rw [h67] at c4; exact c4
    refine W.bast hx rfl c1 (arr_mv hW c4) c2 i4 rfl rfl (dk_84 hB) (fun H' e1 e2 e3 => ?_)
    rw [i1] at e1 ⊢
    have hS2 : SameE h (qI h (a + 1) y (w8 z)) (a + 1) ((y.toNat : Nat) : Int) := by rw [i3]; exact same_qI
    have hev : ev (qI h (a + 1) y (w8 z)) (hc h (a + 1)) (a + 1) ((y.toNat : Nat) : Int) = narrow .byte (.int (Int32.ofInt z)) := by rw [i3]; unfold ev; rw [h67]; show Value.int (Int32.ofInt (eI (qI h (a + 1) y (w8 z)) (a + 1) y)) = Value.int (Int32.ofInt z).toInt8.toInt32; rw [eI_qI, c_w8 hws.hd]
    have hR' := Rep.putE (r := a + 1) hR (by omega) hm i2 hS2 (wf_qI hR.wf (w8_in _)) c1 (by rw [hev]; exact e1) e2 e3
    have hw := hkk _ _ _ _ _ ls _ he hlen hL hwl hws.tl.tl.tl hR' (ge_same rfl rfl hG) (fr_add (x := ⟨a, y.toNat⟩) hfr (c5 hm).2.2)
    exact hw
  · rw [if_pos h69] at he
    have hm : mdA (hc h (a + 1)) = true := by rw [h69]; rfl
    have c4 : s0.isArrayOf cell .boolean := by rw [h69] at c4; exact c4
    refine W.zast hx rfl c1 (arr_mv hW c4) c2 i4 rfl rfl (dk_84 hB) (fun H' e1 e2 e3 => ?_)
    rw [i1] at e1 ⊢
    have hS2 : SameE h (qI h (a + 1) y z) (a + 1) ((y.toNat : Nat) : Int) := by rw [i3]; exact same_qI
    have hev : ev (qI h (a + 1) y z) (hc h (a + 1)) (a + 1) ((y.toNat : Nat) : Int) = narrow .boolean (.int (Int32.ofInt z)) := by rw [i3]; unfold ev; rw [h69]; show Value.int (Int32.ofInt (nz (eI (qI h (a + 1) y z) (a + 1) y))) = _; rw [eI_qI]; rcases hz with rfl | rfl <;> rfl
    have hR' := Rep.putE (r := a + 1) hR (by omega) hm i2 hS2 (wf_qI hR.wf hws.hd) c1 (by rw [hev]; exact e1) e2 e3
    have hw := hkk _ _ _ _ _ ls _ he hlen hL hwl hws.tl.tl.tl hR' (ge_same rfl rfl hG) (fr_add (x := ⟨a, y.toNat⟩) hfr (c5 hm).2.2)
    exact hw
