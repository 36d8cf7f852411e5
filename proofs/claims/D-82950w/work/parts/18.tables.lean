/-! SIMULATION: constants, fields, statics, new cells, casts (printed by gen/sim18.py) -/
set_option maxRecDepth 100000
/-- words of the tables at a later state -/
theorem tg {s0 U : State} {a0 : Array Value} {K : KX} (hC : CX s0 a0 K) (hW : s0.WarmedH U.vm) (a : Array Value) {w : Cond} (h : w ∈ lw_all) : w.before a U = true := word_at hW (lw_self w h).2 (hC.1 w (lw_all_tbl h))
theorem tfn {s0 U : State} {a0 : Array Value} {K : KX} (hC : CX s0 a0 K) (hW : s0.WarmedH U.vm) (a : Array Value) {x y z u v : String} {i : Nat} (h : Cond.fieldLinkNest x i y z u v ∈ lw_tbl) : (Cond.fieldLinkNest x i y z u v).before a U = true := va_Nw.use rfl (va_Nw.warmF hW (va_Nw.of rfl (hC.1 _ h)))
theorem tmn {s0 U : State} {a0 : Array Value} {K : KX} (hC : CX s0 a0 K) (hW : s0.WarmedH U.vm) (a : Array Value) {x v : String} {y : MethodName} {i : Nat} (h : Cond.methodLinkNest x i y v ∈ lw_tbl) : (Cond.methodLinkNest x i y v).before a U = true := va_Nw.use rfl (va_Nw.warmM hW (va_Nw.of rfl (hC.1 _ h)))
theorem tca {s0 U : State} {a0 : Array Value} {K : KX} (hC : CX s0 a0 K) (hW : s0.WarmedH U.vm) {x y : String} (h : Cond.castable x y ∈ lw_tbl) : va_Nw (.castable x y) U := va_Nw.warmC hW (va_Nw.of rfl (hC.1 _ h))
theorem tde {s0 U : State} {a0 : Array Value} {K : KX} (hC : CX s0 a0 K) (hW : s0.WarmedH U.vm) {x : MethodName} (h : Cond.declares x ∈ lw_tbl) : va_Nw (.declares x) U := va_Nw.warmD hW (va_Nw.of rfl (hC.1 _ h))
theorem tao {s0 U : State} {a0 : Array Value} {K : KX} (hC : CX s0 a0 K) (hW : s0.WarmedH U.vm) (a : Array Value) {x : String} (h : Cond.arrayOver (.object x) ∈ lw_tbl) : (Cond.arrayOver (.object x)).before a U = true := va_AO.use (va_AO.moved hW.alike (va_AO.of (hC.1 _ h)))
/-- links of a class's entries -/
def rfO (ref : String) (f : Nat) : Prop := ref = fO f ∨ Cond.sameField ref (fO f) (fN f) (fD f) ∈ lw_all
def FLk (own : String) (idx f : Nat) : Prop := ∃ ref, (Cond.fieldLink own idx ref (fN f) (fD f) ∈ lw_all ∨ ∃ host, Cond.fieldLinkNest own idx ref (fN f) (fD f) host ∈ lw_tbl) ∧ rfO ref f
def PLk (own : String) (idx f : Nat) : Prop := FLk own idx f ∧ fFin f = false
def PFk (own : String) (idx f : Nat) : Prop := fFin f = true ∧ fO f = own ∧ ∃ ref, Cond.fieldLink own idx ref (fN f) (fD f) ∈ lw_all ∧ rfO ref f
def TLk (own : String) (idx f : Nat) : Prop := (f, own, idx) ∈ tFs
def NLk (own : String) (idx t : Nat) : Prop := Cond.classLink own idx (cN t) ∈ lw_all ∧ Cond.instantiable (cN t) (slt t) ∈ lw_all ∧ Cond.initialized (cN t) ∈ lw_all
def ALk (own : String) (idx t : Nat) : Prop := ∃ C, aT t = .object C ∧ Cond.classLink own idx C ∈ lw_all ∧ Cond.arrayOver (.object C) ∈ lw_tbl
def XLk (own : String) (idx q : Nat) : Prop := (∃ nm, Cond.classLink own idx nm ∈ lw_all ∧ ∀ t, q % 128 ≤ t → t ≤ q / 128 → (1 ≤ t ∧ t ≤ 55) ∧ (cN t = nm ∨ Cond.castable (cN t) nm ∈ lw_tbl)) ∨ q = 8385 ∧ Cond.classLink own idx "[I" ∈ lw_all
def YLk (s0 : State) (own : String) (idx q : Nat) : Prop := ∃ nm, Cond.classLink own idx nm ∈ lw_all ∧ ∀ t, q / 16384 % 128 ≤ t → t ≤ q / 2097152 → (1 ≤ t ∧ t ≤ 55) ∧ (inT (q % 128) (q / 128 % 128) t → cN t = nm ∨ Cond.castable (cN t) nm ∈ lw_tbl) ∧ (¬ inT (q % 128) (q / 128 % 128) t → va_Nc (cN t) nm s0)
theorem rfO.at {s0 U : State} {a0 : Array Value} {K : KX} (hC : CX s0 a0 K) (hW : s0.WarmedH U.vm) {ref : String} {f : Nat} (h : rfO ref f) (x : ClassId × Class × Nat × Field) (hx : U.fieldFound? (fO f) (fN f) (fD f) = some x) : U.fieldFound? ref (fN f) (fD f) = some x := by
  rcases h with rfl | h
  · exact hx
  · exact u_same (tg hC hW #[] h) x hx
/-- fields' types -/
def fTy (f : Nat) : FieldType := (parseFieldDescriptor (fD f)).getD .int
def kOK (f : Nat) : Bool := (parseFieldDescriptor (fD f)).isSome && match f % 4, fTy f with
  | 0, .int => true
  | 0, .byte => Nat.beq (f / 512 % 128) 0
  | 1, .long => true
  | 2, .object _ => true
  | 2, .array _ => true
  | 3, .boolean => true
  | _, _ => false
theorem iF_ty : (iFs.all kOK) = true := by decide +kernel
theorem fTy_s {f : Nat} (hf : f ∈ iFs) : parseFieldDescriptor (fD f) = some (fTy f) := by
  have h := List.all_eq_true.mp iF_ty f hf
  unfold kOK at h
  simp only [Bool.and_eq_true] at h
  unfold fTy
  cases hp : parseFieldDescriptor (fD f) with
  | none => rw [hp] at h; cases h.1
  | some t => rfl
theorem fk_lt (f : Nat) : f % 4 = 0 ∨ f % 4 = 1 ∨ f % 4 = 2 ∨ f % 4 = 3 := by omega
theorem kOK_s {f : Nat} (hf : f ∈ iFs) : (f % 4 = 0 ∧ (fTy f = .int ∨ fTy f = .byte ∧ f / 512 % 128 = 0)) ∨ (f % 4 = 1 ∧ fTy f = .long) ∨ (f % 4 = 2 ∧ ((∃ n, fTy f = .object n) ∨ ∃ t, fTy f = .array t)) ∨ (f % 4 = 3 ∧ fTy f = .boolean) := by
  have h := List.all_eq_true.mp iF_ty f hf
  unfold kOK at h
  simp only [Bool.and_eq_true] at h
  have h2 := h.2
  rcases fk_lt f with e | e | e | e <;> rw [e] at h2 <;> cases ht : fTy f <;> rw [ht] at h2 <;> simp [e] at h2 ⊢ <;> try exact h2
theorem iF_mem {f t : Nat} (hf : f ∈ iFs) (h : inT (f / 4 % 128) (f / 65536 % 128) t) : f ∈ cF t ∧ 1 ≤ t ∧ t ≤ 55 := by
  have h1 := List.all_eq_true.mp iF_hi f hf
  simp only [Bool.and_eq_true, decide_eq_true_eq] at h1
  have ht : t ≤ 55 := by have := h.2; omega
  have h2 := List.all_eq_true.mp (List.all_eq_true.mp iF_lo f hf) t (List.mem_range.mpr (by omega))
  simp only [Bool.or_eq_true, Bool.not_eq_true', Bool.and_eq_false_imp, decide_eq_true_eq, decide_eq_false_iff_not] at h2
  refine ⟨?_, by have := h.1; omega, ht⟩
  rcases h2 with h2 | h2
  · exact absurd h.2 (h2 h.1)
  · exact List.elem_iff.mp h2
theorem iF_put {f t : Nat} (hf : f ∈ iFs) (h : inT (f / 4 % 128) (f / 512 % 128) t) : f ∈ cF t ∧ mdT t = true := by
  have h3 : f / 512 % 128 < 128 := Nat.mod_lt _ (by decide)
  have h2 := List.all_eq_true.mp (List.all_eq_true.mp iF_hw f hf) t (List.mem_range.mpr (by have := h.2; omega))
  simp only [Bool.or_eq_true, Bool.not_eq_true', Bool.and_eq_false_imp, Bool.and_eq_true, decide_eq_true_eq, decide_eq_false_iff_not] at h2
  rcases h2 with h2 | h2
  · exact absurd h.2 (h2 h.1)
  · exact ⟨List.elem_iff.mp h2.1.1, h2.1.2⟩
theorem cF_iF {f t : Nat} (ht : t ≤ 55) (hf : f ∈ cF t) : f ∈ iFs := by
  have h := List.all_eq_true.mp (List.all_eq_true.mp cF_in t (List.mem_range.mpr (by omega))) f hf
  exact List.elem_iff.mp h
/-- an object's cell -/
theorem obj_cell {s0 : State} {K : KX} {h : PH} {H : Heap} {r : Nat} (hR : Rep s0 K h H) (h1 : 1 ≤ hc h r) (h2 : hc h r ≤ 55) : ∃ (a : Nat) (cell : Cell), r = a + 1 ∧ H[a]? = some cell ∧ cell.vm ≠ .unknown ∧ cell.vm.isStatics = false ∧ cell.cls = K.1 (hc h r) ∧ (mdT (hc h r) = true → cell.vm = .none ∧ s0.heap.size ≤ a) ∧ ∀ f ∈ cF (hc h r), cell.slots[K.2 f]? = some (fv h f r) := by
  have h0 : hc h r ≠ 0 := by omega
  have hp := hR.pos h0
  obtain ⟨⟨q1, q2, q3⟩, q4, cell, c1, c2, c3, c4, c5⟩ := hR.2.2.1 r h0
  obtain ⟨a1, a2, a3⟩ := c4 (by omega)
  refine ⟨r - 1, cell, by omega, c1, c2, c3, a1, fun hm => ⟨a2 hm, ?_⟩, a3⟩
  have := q3 (Or.inl hm)
  omega
theorem wf_rdF {h : PH} (hw : WFH h) (f r : Nat) : wfv (rdF h f r) := by
  unfold rdF
  rcases fk_lt f with e | e | e | e <;> rw [e]
  · exact hw.1 f r
  · exact hw.2.1 f r
  · exact trivial
  · exact nz_in _
theorem sim_iconst {s0 : State} {a0 : Array Value} {K : KX} {own : String} {p : Program} {l : Launch} {e : Env} {d : Nat} {s : State} {m : MethodId} {args : Array Value} {below : List Frame} {meth : Method} {c : Code} {M : Nat} {hS hE : PH} {o : Ot} {Ω : Om} {κ μ : List (Nat × Int)} {ini : Bool} {cf : Nat → List PV → PH → Rs} {k : Kt} (hx : p.tables.exec = Jvm.exec) (hC : CX s0 a0 K) (hW : s0.WarmedH s.vm) (hown : s.vm.findClass own = some m.cls) (hκ : ∀ q ∈ κ, Cond.constant own q.1 (Int32.ofInt q.2) ∈ lw_all) (hkk : SimK s0 K p l e d s m args below meth c hS hE o M k) (z : Int) : StepOK s0 K p l e d s m args below meth c hS hE o M Ω κ μ ini cf k (.iconst z) := by
  intro b len pc lp st h H ls locs hck hln hB he hlen hL hwl hws hR hG hfr
  obtain ⟨hz, hck⟩ := cond_s hck hln
  simp only [Bool.and_eq_true, decide_eq_true_eq] at hz
  have hm := f0_s hck hln
  simp only [List.mem_cons, List.not_mem_nil, or_false] at hm
  have hwz : wfv (vI z) := hz
  rcases hm with hm | hm | hm | hm | hm
  · have hd := ck_s hm.symm hln hB
    have e : len = 1 := by
      have hm := hm.symm
      simp only [ck] at hm
      repeat (split at hm; · exact (o1_s hm hln).choose_spec.2)
      exact absurd hm.symm hln
    subst e
    exact lv_iconst hx rfl hd rfl (hkk _ _ _ _ _ _ _ he hlen hL hwl (WFv.cons hwz hws) hR hG hfr)
  · obtain ⟨hz2, hm⟩ := cond_s hm.symm hln
    simp only [Bool.and_eq_true, decide_eq_true_eq] at hz2
    have hd := ck_s hm hln hB
    have e : len = 2 := by
      simp only [ck] at hm
      split at hm
      · split at hm
        · exact hm.symm
        · exact absurd hm.symm hln
      · exact absurd hm.symm hln
    subst e
    exact lv_bipush hx rfl hd (c_i8 hz2.1 hz2.2) (hkk _ _ _ _ _ _ _ he hlen hL hwl (WFv.cons hwz hws) hR hG hfr)
  · obtain ⟨hz2, hm⟩ := cond_s hm.symm hln
    simp only [Bool.and_eq_true, decide_eq_true_eq] at hz2
    have hd := ck_s hm hln hB
    have e : len = 3 := by obtain ⟨y, z, l', rfl, e2, e⟩ := o3s_s hm hln; exact e
    subst e
    exact lv_sipush hx rfl hd (c_i16 hz2.1 hz2.2) (hkk _ _ _ _ _ _ _ he hlen hL hwl (WFv.cons hwz hws) hR hG hfr)
  · obtain ⟨y, l', rfl, hin, rfl⟩ := c2_s hm.symm hln
    exact lv_ldc hx rfl hown (tg hC hW args (hκ _ hin)) (dk_18 hB) (hkk _ _ _ _ _ _ _ he hlen hL hwl (WFv.cons hwz hws) hR hG hfr)
  · obtain ⟨y, y2, l', rfl, hin, rfl⟩ := c3_s hm.symm hln
    exact lv_ldcw hx rfl hown (tg hC hW args (hκ _ hin)) (dk_19 hB) (hkk _ _ _ _ _ _ _ he hlen hL hwl (WFv.cons hwz hws) hR hG hfr)
theorem sim_sipush {s0 : State} {a0 : Array Value} {K : KX} {own : String} {p : Program} {l : Launch} {e : Env} {d : Nat} {s : State} {m : MethodId} {args : Array Value} {below : List Frame} {meth : Method} {c : Code} {M : Nat} {hS hE : PH} {o : Ot} {Ω : Om} {κ μ : List (Nat × Int)} {ini : Bool} {cf : Nat → List PV → PH → Rs} {k : Kt} (hx : p.tables.exec = Jvm.exec) (hC : CX s0 a0 K) (hW : s0.WarmedH s.vm) (hown : s.vm.findClass own = some m.cls) (hμ : ∀ q ∈ μ, Cond.constantLong own q.1 (Int64.ofInt q.2) ∈ lw_all) (hkk : SimK s0 K p l e d s m args below meth c hS hE o M k) (z : Int) : StepOK s0 K p l e d s m args below meth c hS hE o M Ω κ μ ini cf k (.sipush z) := by
  intro b len pc lp st h H ls locs hck hln hB he hlen hL hwl hws hR hG hfr
  obtain ⟨hz, hck⟩ := cond_s hck hln
  simp only [Bool.and_eq_true, decide_eq_true_eq] at hz
  have hm := f0_s hck hln
  simp only [List.mem_cons, List.not_mem_nil, or_false] at hm
  have hwz : wfv (vJ z) := hz
  rcases hm with hm | hm | hm
  · obtain ⟨hz2, hm2⟩ := cond_s hm.symm hln
    have hz2 : z = 0 := of_decide_eq_true hz2
    subst hz2
    obtain ⟨l', rfl, rfl⟩ := o1_s hm2 hln
    exact lv_lconst (n := 0) hx rfl (dk_9 hB) rfl (hkk _ _ _ _ _ _ _ he hlen hL hwl (WFv.cons hwz hws) hR hG hfr)
  · obtain ⟨hz2, hm2⟩ := cond_s hm.symm hln
    have hz2 : z = 1 := of_decide_eq_true hz2
    subst hz2
    obtain ⟨l', rfl, rfl⟩ := o1_s hm2 hln
    exact lv_lconst (n := 1) hx rfl (dk_10 hB) rfl (hkk _ _ _ _ _ _ _ he hlen hL hwl (WFv.cons hwz hws) hR hG hfr)
  · obtain ⟨y, y2, l', rfl, hin, rfl⟩ := c3_s hm.symm hln
    exact lv_ldc2 hx rfl hown (tg hC hW args (hμ _ hin)) (dk_20 hB) (hkk _ _ _ _ _ _ _ he hlen hL hwl (WFv.cons hwz hws) hR hG hfr)
theorem sim_getfield {s0 : State} {a0 : Array Value} {K : KX} {own : String} {p : Program} {l : Launch} {e : Env} {d : Nat} {s : State} {m : MethodId} {args : Array Value} {below : List Frame} {meth : Method} {c : Code} {M : Nat} {hS hE : PH} {o : Ot} {Ω : Om} {κ μ : List (Nat × Int)} {ini : Bool} {cf : Nat → List PV → PH → Rs} {k : Kt} (hx : p.tables.exec = Jvm.exec) (hC : CX s0 a0 K) (hW : s0.WarmedH s.vm) (hown : s.vm.findClass own = some m.cls) (hΩ : ∀ q ∈ (nth Ω 0).getD [], q.2 ∈ iFs ∧ FLk own q.1 q.2) (hkk : SimK s0 K p l e d s m args below meth c hS hE o M k) (f : Nat) : StepOK s0 K p l e d s m args below meth c hS hE o M Ω κ μ ini cf k (.getfield f) := by
  intro b len pc lp st h H ls locs hck hln hB he hlen hL hwl hws hR hG hfr
  obtain ⟨y, y2, l', rfl, hin, rfl⟩ := l3_s hck hln
  rcases st with _ | ⟨x | ⟨x | ⟨x | x⟩⟩, st⟩ <;> first | exact no_e (show (none : Rs) = some (o, hE) from he) | skip
  have he : gd (inT (f / 4 % 128) (f / 65536 % 128) (hc h x)) (k (pc + 3) lp (rdF h f x :: st) h) = some (o, hE) := he
  obtain ⟨hg, he⟩ := gd_some he
  obtain ⟨hfi, ref, hlk, hrf⟩ := hΩ _ hin
  obtain ⟨hf, t1, t55⟩ := iF_mem hfi hg
  obtain ⟨a, cell, rfl, c1, c2, c3, c4, c5, c6⟩ := obj_cell hR t1 t55
  obtain ⟨cf1, kf, fi, fd, g1, g2, g3⟩ := SlotI.moved hW.alike (hC.2.2.2.1 _ f t55 hf)
  have g4 := rfO.at hC hW hrf _ g1
  have c7 := c6 f hf
  rw [← g3] at c7
  rcases hlk with hlk | ⟨host, hlk⟩
  · exact W.getf hx rfl hown (tg hC hW args hlk) g4 g2 c1 c2 c7 rfl rfl (dk_180 hB) (hkk _ _ _ _ _ _ _ he hlen hL hwl (WFv.cons (wf_rdF hR.wf f _) hws.tl) hR hG hfr)
  · exact va_Wgetf hx rfl hown (tfn hC hW args hlk) g4 g2 c1 c2 c7 rfl rfl (dk_180 hB) (hkk _ _ _ _ _ _ _ he hlen hL hwl (WFv.cons (wf_rdF hR.wf f _) hws.tl) hR hG hfr)
theorem ldcwS {p : Program} {l : Launch} {e : Env} {R : Room} {s : State} {m : MethodId} {args : Array Value} {below : List Frame} {meth : Method} {c : Code} {H : Heap} {locs : List Loc} {cells slots : Nat} {Q : State → Prop} {cc : ByteArray} {pc : Nat} {ls : Array Slot} {rest : List Value} (hexec : p.tables.exec = Jvm.exec) (hb : c.code = cc) {own tx : String} {index q : Nat} (hown : s.vm.findClass own = some m.cls) (hZ : vk_R own index tx q s) (hdg : decode cc pc = .ok (.ldc_w index, 3))
    (k : W p l e R s m args below meth c H locs cells slots Q (F0 m (pc + 3) ls (.ref q :: rest))) : W p l e R s m args below meth c H locs cells slots Q (F0 m pc ls rest) := by
  intro T hT X
  obtain ⟨t, a1, b1⟩ := k T hT X
  refine ⟨t, ?_, b1⟩
  obtain ⟨k', cf, i, a', hk, hcf, hcp, -, hr, hev'⟩ := Cond.stringRef_spec hown hZ.1
  cases hZ.2.symm.trans hev'
  obtain ⟨k2, hk2, he⟩ := X.warmed.alike.2.2 _ _ hk
  have hr' : k2.resolved[index]? = some (some (.string q)) := by
    rcases X.warmed.entry hk hk2 index with h | ⟨h, -⟩
    · rw [h]; exact hr
    · rw [hr] at h; cases h
  subst hb
  jvm_step X.here [hexec, hdg, ldc_w.wp_string (e := e) (s := T) (f := F0 m pc ls rest) X.here.top hk2 (by rw [he]; exact hcf) hcp hr']
  exact a1
theorem sim_getstatic {s0 : State} {a0 : Array Value} {K : KX} {own : String} {p : Program} {l : Launch} {e : Env} {d : Nat} {s : State} {m : MethodId} {args : Array Value} {below : List Frame} {meth : Method} {c : Code} {M : Nat} {hS hE : PH} {o : Ot} {Ω : Om} {κ μ : List (Nat × Int)} {ini : Bool} {cf : Nat → List PV → PH → Rs} {k : Kt} (hx : p.tables.exec = Jvm.exec) (hC : CX s0 a0 K) (hW : s0.WarmedH s.vm) (hown : s.vm.findClass own = some m.cls) (hΩ : ∀ q ∈ (nth Ω 3).getD [], q.2 ∈ sFs ∧ FLk own q.1 q.2) (hT : ∀ q ∈ (nth Ω 4).getD [], TLk own q.1 q.2 ∧ q.2 % 4 = 2) (hkk : SimK s0 K p l e d s m args below meth c hS hE o M k) (f : Nat) : StepOK s0 K p l e d s m args below meth c hS hE o M Ω κ μ ini cf k (.getstatic f) := by
  intro b len pc lp st h H ls locs hck hln hB he hlen hL hwl hws hR hG hfr
  have hm := f0_s hck hln
  simp only [List.mem_cons, List.not_mem_nil, or_false] at hm
  rcases hm with hm | hm | hm
  · obtain ⟨y, y2, l', rfl, hin, rfl⟩ := l3_s hm.symm hln
    obtain ⟨hfi, ref, hlk, hrf⟩ := hΩ _ hin
    obtain ⟨cf1, kf, fi, fd, a, ca, z1, z2, z3, z4, z5, z6, z7, z8⟩ := va_Z.moved hW.alike (hR.2.2.2.1 f hfi)
    have g4 := rfO.at hC hW hrf _ z1
    have hun : ca.vm ≠ .unknown := fun q => by rw [q] at z6; cases z6
    rcases hlk with hlk | ⟨host, hlk⟩
    · exact W.gets hx rfl hown (tg hC hW args hlk) g4 z2 z3 z4 z5 hun z7 rfl (dk_178 hB) (hkk _ _ _ _ _ _ _ he hlen hL hwl (WFv.cons (wf_rdF hR.wf f _) hws) hR hG hfr)
    · exact va_WgetsN hx rfl hown (tfn hC hW args hlk) g4 z2 z3 z4 z5 hun z7 rfl (dk_178 hB) (hkk _ _ _ _ _ _ _ he hlen hL hwl (WFv.cons (wf_rdF hR.wf f _) hws) hR hG hfr)
  · obtain ⟨y, l', rfl, hin, rfl⟩ := l2_s hm.symm hln
    obtain ⟨hT, hT2⟩ := hT _ hin
    obtain ⟨tx, hp, hvk⟩ := hR.2.2.2.2.1.1 _ hT
    have hvk := vk_R.warm hW hvk
    have e1 : rdF h f 0 = vR (gR h f 0) := by unfold rdF; rw [hT2]; rfl
    obtain ⟨q, hq⟩ : ∃ q, gR h f 0 = q + 1 := ⟨gR h f 0 - 1, by have : 0 < gR h f 0 := hp; omega⟩
    have he : k (pc + 2) lp (rdF h f 0 :: st) h = some (o, hE) := he
    rw [e1, hq] at he
    have e2 : gR h f 0 - 1 = q := by omega
    have hvk2 : vk_R own y tx (gR h f 0 - 1) s := hvk
    rw [e2] at hvk2
    exact va_ldcS hx rfl hown hvk2 (dk_18 hB) (hkk _ _ _ _ _ _ _ he hlen hL hwl (WFv.cons trivial hws) hR hG hfr)
  · obtain ⟨y, y2, l', rfl, hin, rfl⟩ := l3_s hm.symm hln
    obtain ⟨hT, hT2⟩ := hT _ hin
    obtain ⟨tx, hp, hvk⟩ := hR.2.2.2.2.1.1 _ hT
    have hvk := vk_R.warm hW hvk
    have e1 : rdF h f 0 = vR (gR h f 0) := by unfold rdF; rw [hT2]; rfl
    obtain ⟨q, hq⟩ : ∃ q, gR h f 0 = q + 1 := ⟨gR h f 0 - 1, by have : 0 < gR h f 0 := hp; omega⟩
    have he : k (pc + 3) lp (rdF h f 0 :: st) h = some (o, hE) := he
    rw [e1, hq] at he
    have e2 : gR h f 0 - 1 = q := by omega
    have hvk2 : vk_R own (y * 256 + y2) tx (gR h f 0 - 1) s := hvk
    rw [e2] at hvk2
    exact ldcwS hx rfl hown hvk2 (dk_19 hB) (hkk _ _ _ _ _ _ _ he hlen hL hwl (WFv.cons trivial hws) hR hG hfr)
