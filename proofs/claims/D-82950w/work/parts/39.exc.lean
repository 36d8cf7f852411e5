/-! EXCEPTIONS WITHOUT A MESSAGE (printed by gen/exc.py) -/
set_option maxRecDepth 100000
theorem ex_thr {s0 : State} {a0 : Array Value} {K : KX} {vm : Vm} (hC : CX s0 a0 K) (hW : s0.WarmedH (s0.setVm vm).vm) : ∀ c ∈ Bundle.throwableAtoms, c.before a0 (s0.setVm vm) = true := List.forall_mem_cons.mpr ⟨tg hC hW a0 (lw_g (lw_at lw_m1 14 rfl) rfl), List.forall_mem_cons.mpr ⟨tg hC hW a0 (lw_g (lw_at lw_m2 41 rfl) rfl), List.forall_mem_cons.mpr ⟨tg hC hW a0 (lw_g (lw_at lw_m2 50 rfl) rfl), List.forall_mem_cons.mpr ⟨tg hC hW a0 (lw_g (lw_at lw_m2 56 rfl) rfl), List.forall_mem_cons.mpr ⟨tg hC hW a0 (lw_g (lw_at lw_m2 59 rfl) rfl), List.forall_mem_cons.mpr ⟨tg hC hW a0 (lw_g (lw_at lw_m2 61 rfl) rfl), List.forall_mem_cons.mpr ⟨tg hC hW a0 (lw_g (lw_at lw_m2 42 rfl) rfl), List.forall_mem_cons.mpr ⟨tg hC hW a0 (lw_g (lw_at lw_m2 43 rfl) rfl), List.forall_mem_cons.mpr ⟨tg hC hW a0 (lw_g (lw_at lw_m1 83 rfl) rfl), List.forall_mem_cons.mpr ⟨tg hC hW a0 (lw_g (lw_at lw_m1 84 rfl) rfl), List.forall_mem_cons.mpr ⟨tg hC hW a0 (lw_g (lw_at lw_m2 44 rfl) rfl), List.forall_mem_cons.mpr ⟨tg hC hW a0 (lw_g (lw_at lw_m2 49 rfl) rfl), List.forall_mem_cons.mpr ⟨tg hC hW a0 (lw_g (lw_at lw_m2 57 rfl) rfl), List.forall_mem_cons.mpr ⟨tg hC hW a0 (lw_g (lw_at lw_m3 36 rfl) rfl), List.forall_mem_cons.mpr ⟨tg hC hW a0 (lw_g (lw_at lw_m2 31 rfl) rfl), List.forall_mem_cons.mpr ⟨tg hC hW a0 (lw_g (lw_at lw_m3 37 rfl) rfl), List.forall_mem_cons.mpr ⟨tg hC hW a0 (lw_g (lw_at lw_m2 33 rfl) rfl), List.forall_mem_cons.mpr ⟨tg hC hW a0 (lw_g (lw_at lw_m3 38 rfl) rfl), List.forall_mem_cons.mpr ⟨tg hC hW a0 (lw_g (lw_at lw_m2 35 rfl) rfl), List.forall_mem_cons.mpr ⟨tg hC hW a0 (lw_g (lw_at lw_m2 45 rfl) rfl), List.forall_mem_cons.mpr ⟨Cond.laysStatic_setVm hW.alike (hC.1 _ (lw_at lw_m2 46 rfl)), List.forall_mem_cons.mpr ⟨tg hC hW a0 (lw_g (lw_at lw_m2 47 rfl) rfl), List.forall_mem_cons.mpr ⟨Cond.laysStatic_setVm hW.alike (hC.1 _ (lw_at lw_m2 48 rfl)), List.forall_mem_cons.mpr ⟨tg hC hW a0 (lw_g (lw_at lw_m2 37 rfl) rfl), fun _ h => by cases h⟩⟩⟩⟩⟩⟩⟩⟩⟩⟩⟩⟩⟩⟩⟩⟩⟩⟩⟩⟩⟩⟩⟩⟩
def exUp : List String := ["java/lang/RuntimeException", "java/lang/Exception"]
theorem ex_ch45 {s0 s : State} {a0 : Array Value} {K : KX} (hC : CX s0 a0 K) (hW : s0.WarmedH s.vm) : ∀ c ∈ Bundle.chain0Atoms "java/lang/IllegalArgumentException" exUp, c.before a0 s = true := List.forall_mem_cons.mpr ⟨tg hC hW a0 (lw_g (lw_at lw_m14 136 rfl) rfl), List.forall_mem_cons.mpr ⟨tg hC hW a0 (lw_g (lw_at lw_m14 137 rfl) rfl), List.forall_mem_cons.mpr ⟨tg hC hW a0 (lw_g (lw_at lw_m14 138 rfl) rfl), List.forall_mem_cons.mpr ⟨tg hC hW a0 (lw_g (lw_at lw_m4 203 rfl) rfl), List.forall_mem_cons.mpr ⟨va_Nw.use rfl (tde hC hW (lw_at lw_m2 22 rfl)), List.forall_mem_cons.mpr ⟨tg hC hW a0 (lw_g (lw_at lw_m4 203 rfl) rfl), List.forall_mem_cons.mpr ⟨tg hC hW a0 (lw_g (lw_at lw_m4 204 rfl) rfl), List.forall_mem_cons.mpr ⟨tg hC hW a0 (lw_g (lw_at lw_m4 205 rfl) rfl), List.forall_mem_cons.mpr ⟨tg hC hW a0 (lw_g (lw_at lw_m4 206 rfl) rfl), List.forall_mem_cons.mpr ⟨va_Nw.use rfl (tde hC hW (lw_at lw_m2 24 rfl)), List.forall_mem_cons.mpr ⟨tg hC hW a0 (lw_g (lw_at lw_m4 206 rfl) rfl), List.forall_mem_cons.mpr ⟨tg hC hW a0 (lw_g (lw_at lw_m4 207 rfl) rfl), List.forall_mem_cons.mpr ⟨tg hC hW a0 (lw_g (lw_at lw_m4 208 rfl) rfl), List.forall_mem_cons.mpr ⟨tg hC hW a0 (lw_g (lw_at lw_m2 42 rfl) rfl), List.forall_mem_cons.mpr ⟨va_Nw.use rfl (tde hC hW (lw_at lw_m2 26 rfl)), fun _ h => by cases h⟩⟩⟩⟩⟩⟩⟩⟩⟩⟩⟩⟩⟩⟩⟩
theorem ex_ch46 {s0 s : State} {a0 : Array Value} {K : KX} (hC : CX s0 a0 K) (hW : s0.WarmedH s.vm) : ∀ c ∈ Bundle.chain0Atoms "java/lang/IllegalStateException" exUp, c.before a0 s = true := List.forall_mem_cons.mpr ⟨tg hC hW a0 (lw_g (lw_at lw_m4 200 rfl) rfl), List.forall_mem_cons.mpr ⟨tg hC hW a0 (lw_g (lw_at lw_m4 201 rfl) rfl), List.forall_mem_cons.mpr ⟨tg hC hW a0 (lw_g (lw_at lw_m4 202 rfl) rfl), List.forall_mem_cons.mpr ⟨tg hC hW a0 (lw_g (lw_at lw_m4 203 rfl) rfl), List.forall_mem_cons.mpr ⟨va_Nw.use rfl (tde hC hW (lw_at lw_m2 22 rfl)), List.forall_mem_cons.mpr ⟨tg hC hW a0 (lw_g (lw_at lw_m4 203 rfl) rfl), List.forall_mem_cons.mpr ⟨tg hC hW a0 (lw_g (lw_at lw_m4 204 rfl) rfl), List.forall_mem_cons.mpr ⟨tg hC hW a0 (lw_g (lw_at lw_m4 205 rfl) rfl), List.forall_mem_cons.mpr ⟨tg hC hW a0 (lw_g (lw_at lw_m4 206 rfl) rfl), List.forall_mem_cons.mpr ⟨va_Nw.use rfl (tde hC hW (lw_at lw_m2 24 rfl)), List.forall_mem_cons.mpr ⟨tg hC hW a0 (lw_g (lw_at lw_m4 206 rfl) rfl), List.forall_mem_cons.mpr ⟨tg hC hW a0 (lw_g (lw_at lw_m4 207 rfl) rfl), List.forall_mem_cons.mpr ⟨tg hC hW a0 (lw_g (lw_at lw_m4 208 rfl) rfl), List.forall_mem_cons.mpr ⟨tg hC hW a0 (lw_g (lw_at lw_m2 42 rfl) rfl), List.forall_mem_cons.mpr ⟨va_Nw.use rfl (tde hC hW (lw_at lw_m2 26 rfl)), fun _ h => by cases h⟩⟩⟩⟩⟩⟩⟩⟩⟩⟩⟩⟩⟩⟩⟩
theorem ex_ch47 {s0 s : State} {a0 : Array Value} {K : KX} (hC : CX s0 a0 K) (hW : s0.WarmedH s.vm) : ∀ c ∈ Bundle.chain0Atoms "java/lang/IndexOutOfBoundsException" exUp, c.before a0 s = true := List.forall_mem_cons.mpr ⟨tg hC hW a0 (lw_g (lw_at lw_m14 182 rfl) rfl), List.forall_mem_cons.mpr ⟨tg hC hW a0 (lw_g (lw_at lw_m14 183 rfl) rfl), List.forall_mem_cons.mpr ⟨tg hC hW a0 (lw_g (lw_at lw_m14 184 rfl) rfl), List.forall_mem_cons.mpr ⟨tg hC hW a0 (lw_g (lw_at lw_m4 203 rfl) rfl), List.forall_mem_cons.mpr ⟨va_Nw.use rfl (tde hC hW (lw_at lw_m2 22 rfl)), List.forall_mem_cons.mpr ⟨tg hC hW a0 (lw_g (lw_at lw_m4 203 rfl) rfl), List.forall_mem_cons.mpr ⟨tg hC hW a0 (lw_g (lw_at lw_m4 204 rfl) rfl), List.forall_mem_cons.mpr ⟨tg hC hW a0 (lw_g (lw_at lw_m4 205 rfl) rfl), List.forall_mem_cons.mpr ⟨tg hC hW a0 (lw_g (lw_at lw_m4 206 rfl) rfl), List.forall_mem_cons.mpr ⟨va_Nw.use rfl (tde hC hW (lw_at lw_m2 24 rfl)), List.forall_mem_cons.mpr ⟨tg hC hW a0 (lw_g (lw_at lw_m4 206 rfl) rfl), List.forall_mem_cons.mpr ⟨tg hC hW a0 (lw_g (lw_at lw_m4 207 rfl) rfl), List.forall_mem_cons.mpr ⟨tg hC hW a0 (lw_g (lw_at lw_m4 208 rfl) rfl), List.forall_mem_cons.mpr ⟨tg hC hW a0 (lw_g (lw_at lw_m2 42 rfl) rfl), List.forall_mem_cons.mpr ⟨va_Nw.use rfl (tde hC hW (lw_at lw_m2 26 rfl)), fun _ h => by cases h⟩⟩⟩⟩⟩⟩⟩⟩⟩⟩⟩⟩⟩⟩⟩
/-- the words of one such class -/
def exW (X : String) : List Cond := [.instantiable X 6, .selects X Bundle.tFill0 Bundle.tFill0, .selects X Bundle.tFill Bundle.tFill, .lays X Bundle.tN "cause" "Ljava/lang/Throwable;", .lays X Bundle.tN "stackTrace" Bundle.steD, .lays X Bundle.tN "suppressedExceptions" Bundle.listD, .fieldLink Bundle.tN 198 Bundle.tN "backtrace" "Ljava/lang/Object;", .lays Bundle.tN Bundle.tN "backtrace" "Ljava/lang/Object;", .lays X Bundle.tN "backtrace" "Ljava/lang/Object;"]
theorem ex_w45 {s0 s : State} {a0 : Array Value} {K : KX} (hC : CX s0 a0 K) (hW : s0.WarmedH s.vm) : ∀ c ∈ exW "java/lang/IllegalArgumentException", c.before a0 s = true := List.forall_mem_cons.mpr ⟨tg hC hW a0 (lw_g (lw_at lw_m2 20 rfl) rfl), List.forall_mem_cons.mpr ⟨tg hC hW a0 (lw_g (lw_at lw_m2 28 rfl) rfl), List.forall_mem_cons.mpr ⟨tg hC hW a0 (lw_g (lw_at lw_m2 29 rfl) rfl), List.forall_mem_cons.mpr ⟨tg hC hW a0 (lw_g (lw_at lw_m2 30 rfl) rfl), List.forall_mem_cons.mpr ⟨tg hC hW a0 (lw_g (lw_at lw_m2 32 rfl) rfl), List.forall_mem_cons.mpr ⟨tg hC hW a0 (lw_g (lw_at lw_m2 34 rfl) rfl), List.forall_mem_cons.mpr ⟨tg hC hW a0 (lw_g (lw_at lw_m2 40 rfl) rfl), List.forall_mem_cons.mpr ⟨tg hC hW a0 (lw_g (lw_at lw_m2 39 rfl) rfl), List.forall_mem_cons.mpr ⟨tg hC hW a0 (lw_g (lw_at lw_m2 38 rfl) rfl), fun _ h => by cases h⟩⟩⟩⟩⟩⟩⟩⟩⟩
theorem ex_w46 {s0 s : State} {a0 : Array Value} {K : KX} (hC : CX s0 a0 K) (hW : s0.WarmedH s.vm) : ∀ c ∈ exW "java/lang/IllegalStateException", c.before a0 s = true := List.forall_mem_cons.mpr ⟨tg hC hW a0 (lw_g (lw_at lw_m4 191 rfl) rfl), List.forall_mem_cons.mpr ⟨tg hC hW a0 (lw_g (lw_at lw_m4 193 rfl) rfl), List.forall_mem_cons.mpr ⟨tg hC hW a0 (lw_g (lw_at lw_m2 54 rfl) rfl), List.forall_mem_cons.mpr ⟨tg hC hW a0 (lw_g (lw_at lw_m4 194 rfl) rfl), List.forall_mem_cons.mpr ⟨tg hC hW a0 (lw_g (lw_at lw_m4 195 rfl) rfl), List.forall_mem_cons.mpr ⟨tg hC hW a0 (lw_g (lw_at lw_m4 196 rfl) rfl), List.forall_mem_cons.mpr ⟨tg hC hW a0 (lw_g (lw_at lw_m2 40 rfl) rfl), List.forall_mem_cons.mpr ⟨tg hC hW a0 (lw_g (lw_at lw_m2 39 rfl) rfl), List.forall_mem_cons.mpr ⟨tg hC hW a0 (lw_g (lw_at lw_m4 198 rfl) rfl), fun _ h => by cases h⟩⟩⟩⟩⟩⟩⟩⟩⟩
theorem ex_w47 {s0 s : State} {a0 : Array Value} {K : KX} (hC : CX s0 a0 K) (hW : s0.WarmedH s.vm) : ∀ c ∈ exW "java/lang/IndexOutOfBoundsException", c.before a0 s = true := List.forall_mem_cons.mpr ⟨tg hC hW a0 (lw_g (lw_at lw_m14 173 rfl) rfl), List.forall_mem_cons.mpr ⟨tg hC hW a0 (lw_g (lw_at lw_m14 175 rfl) rfl), List.forall_mem_cons.mpr ⟨tg hC hW a0 (lw_g (lw_at lw_m2 55 rfl) rfl), List.forall_mem_cons.mpr ⟨tg hC hW a0 (lw_g (lw_at lw_m14 176 rfl) rfl), List.forall_mem_cons.mpr ⟨tg hC hW a0 (lw_g (lw_at lw_m14 177 rfl) rfl), List.forall_mem_cons.mpr ⟨tg hC hW a0 (lw_g (lw_at lw_m14 178 rfl) rfl), List.forall_mem_cons.mpr ⟨tg hC hW a0 (lw_g (lw_at lw_m2 40 rfl) rfl), List.forall_mem_cons.mpr ⟨tg hC hW a0 (lw_g (lw_at lw_m2 39 rfl) rfl), List.forall_mem_cons.mpr ⟨tg hC hW a0 (lw_g (lw_at lw_m14 180 rfl) rfl), fun _ h => by cases h⟩⟩⟩⟩⟩⟩⟩⟩⟩
theorem links_mv {T : ThrowableC} {pl : Platform} {s0 s : State} (L : T.Links pl (s0.setVm s.vm)) : T.Links pl s := by
  cases L
  constructor <;> assumption
theorem exT_c {P : Nat → Prop} {t : Nat} (h : exT t) (h45 : P 45) (h46 : P 46) (h47 : P 47) : P t := by
  rcases (by have := h.1; have := h.2; omega : t = 45 ∨ t = 46 ∨ t = 47) with rfl | rfl | rfl
  · exact h45
  · exact h46
  · exact h47
theorem ex_ch {s0 s : State} {a0 : Array Value} {K : KX} (hC : CX s0 a0 K) (hW : s0.WarmedH s.vm) {t : Nat} (ht : exT t) : ∀ c ∈ Bundle.chain0Atoms (cN t) exUp, c.before a0 s = true :=
  exT_c (P := fun t => ∀ c ∈ Bundle.chain0Atoms (cN t) exUp, c.before a0 s = true) ht (ex_ch45 hC hW) (ex_ch46 hC hW) (ex_ch47 hC hW)
theorem ex_w {s0 s : State} {a0 : Array Value} {K : KX} (hC : CX s0 a0 K) (hW : s0.WarmedH s.vm) {t : Nat} (ht : exT t) : ∀ c ∈ exW (cN t), c.before a0 s = true :=
  exT_c (P := fun t => ∀ c ∈ exW (cN t), c.before a0 s = true) ht (ex_w45 hC hW) (ex_w46 hC hW) (ex_w47 hC hW)
theorem ex_fit {t : Nat} (ht : exT t) : Bundle.fit (cN t) = true := exT_c (P := fun t => Bundle.fit (cN t) = true) ht (by decide +kernel) (by decide +kernel) (by decide +kernel)
theorem ex_names : ∀ n ∈ exUp, Bundle.fit n = true := List.forall_mem_cons.mpr ⟨by decide +kernel, List.forall_mem_cons.mpr ⟨by decide +kernel, fun _ h => by cases h⟩⟩
section EXC
variable {p : Program} {l : Launch} {e : Env} {R : Room} {s : State} {m : MethodId} {args : Array Value} {below : List Frame} {meth : Method} {c : Code} {V : State} {locs : List Loc} {cells slots : Nat}
set_option maxHeartbeats 4000000 in
theorem exc_stand (X : Stand p l e R s m args below meth c V locs cells slots) (hexec : p.tables.exec = Jvm.exec) (htr : e.platform.stackTraces = false) {s0 : State} {a0 : Array Value} {K : KX} (hC : CX s0 a0 K) (hW : s0.WarmedH s.vm)
    {own : String} (hown : s.vm.findClass own = some m.cls) {t ic : Nat} (ht : exT t) (hlk : Cond.methodLink own ic ⟨cN t, "<init>", "()V"⟩ ∈ lw_all)
    {h : PH} {H : Heap} (hR : Rep s0 K h H) {kX : Class} (hkX : s.vm.classes[K.1 t]? = some kX) (hcell : V.heap[H.size]? = some (freshCell (K.1 t) kX)) (hold : ∀ q, q < H.size → V.heap[q]? = H[q]?)
    {g : JFrame} (hg : g.method = m) (hsize : g.locals.size = c.maxLocals) {rest : List Value} (hstack : g.stack = .ref H.size :: .ref H.size :: rest)
    (hd6 : decode c.code g.pc = .ok (.invokespecial ic, 3)) (hRf : 5 < R.frames) (hRl : 2 * g.monitorRoom + ((Value.ref H.size :: rest).map fun v => v.category).sum + 80 ≤ R.locals) :
    ∃ (vm : Vm) (fin : Cell) (L : List Loc), (∀ q ∈ L, q.base = H.size) ∧ Stand p l e R s m args below meth c ((V.setVm vm).setCell H.size fin) (locs ++ L) cells slots ∧
      fin = (((freshCell (K.1 t) kX).setSlot (K.2 3459210930) (.ref H.size)).setSlot (K.2 3467599538) (rv (gR h 4118806530 0))).setSlot (K.2 3475988146) (rv (gR h 4127195138 0)) ∧
      ∀ target, Steps p.tables e below (((V.setVm vm).setCell H.size fin).setTop { g with pc := g.pc + 3, stack := .ref H.size :: rest }) target → Steps p.tables e below (V.setTop g) target := by
  have howns : e.platform.frameOwnsMonitors = true := by rw [X.admits.platform]
  have hfin : e.platform.finalization = false := by rw [X.admits.platform]
  have hpl : e.platform.magicAccessors = ({} : Platform).magicAccessors := by rw [X.admits.platform]
  obtain ⟨T, Z, L1, LZ, Y⟩ := ThrowableC.of_atoms (args := a0) howns hfin hpl (ex_thr (vm := s.vm) hC hW)
  have L := links_mv L1
  have hw := ex_w hC hW ht
  obtain ⟨P1, Ps, hlen, LP1, hLP, hP1m, hlink1, hlink⟩ := Bundle.chain0 (args := a0) (s := s) hpl (show s.methodNamed? (Bundle.init0 Bundle.tN) = some (Z.m T.toThrowableT) from Y.init0) exUp (cN t) (ex_fit ht) ex_names (ex_ch hC hW ht)
  have hfound : s.vm.findClass (cN t) = some P1.m.cls := findClass_of_methodNamed hP1m
  have hK1 : s.vm.findClass (cN t) = some (K.1 t) := by rw [hW.alike.findClass]; exact hC.2.1 t (by have := ht.1; omega) (by have := ht.2; omega)
  have hKc : K.1 t = P1.m.cls := Option.some.inj (hK1.symm.trans hfound)
  obtain ⟨c1, kX', hc1, hk, hord, -, -, hn6⟩ := Cond.instantiable_spec (hw _ List.mem_cons_self)
  cases Option.some.inj (hc1.symm.trans hK1)
  cases Option.some.inj (hkX.symm.trans hk)
  have hsel0 : selectMethod e.platform s.vm (K.1 t) T.fill0 = .method T.fill0 := by
    obtain ⟨c2, r2, m2, q1, q2, q3, q4, -⟩ := Cond.selects_spec (hw (.selects (cN t) Bundle.tFill0 Bundle.tFill0) (by simp [exW]))
    cases Option.some.inj (q1.symm.trans hK1)
    have hY : s.methodNamed? Bundle.tFill0 = some T.fill0 := Y.fill0
    cases Option.some.inj (q2.symm.trans (State.methodFound?_of_named hY (by decide)))
    cases Option.some.inj (q3.symm.trans hY)
    rw [Launch.admits_selectMethod X.admits]; exact q4
  have hselF : selectMethod e.platform s.vm (K.1 t) T.fill = .method T.fill := by
    obtain ⟨c2, r2, m2, q1, q2, q3, q4, -⟩ := Cond.selects_spec (hw (.selects (cN t) Bundle.tFill Bundle.tFill) (by simp [exW]))
    cases Option.some.inj (q1.symm.trans hK1)
    have hY : s.methodNamed? Bundle.tFill = some T.fill := Y.fill
    cases Option.some.inj (q2.symm.trans (State.methodFound?_of_named hY (by decide)))
    cases Option.some.inj (q3.symm.trans hY)
    rw [Launch.admits_selectMethod X.admits]; exact q4
  obtain ⟨cf, kf, fi, fU, aS, cellS, z1, z2, z3, z4, z5, z6, z7, z8⟩ := va_Z.moved (U := s) hW.alike (hR.2.2.2.1 4118806530 (List.mem_of_getElem? (i := 20) rfl))
  have z1 : s.fieldFound? Bundle.tN "UNASSIGNED_STACK" Bundle.steD = some (cf, kf, fi, fU) := z1
  have y1 : s.fieldFound? Bundle.tN "UNASSIGNED_STACK" Bundle.steD = some (T.cT, T.kT, T.i13, T.fUnassigned) := Y.unassigned
  cases Option.some.inj (z1.symm.trans y1)
  cases Option.some.inj (z4.symm.trans L.statics)
  obtain ⟨cf, kf, fi, fU, aS, cellS', w1, w2, w3, w4, w5, w6, w7, w8⟩ := va_Z.moved (U := s) hW.alike (hR.2.2.2.1 4127195138 (List.mem_of_getElem? (i := 21) rfl))
  have w1 : s.fieldFound? Bundle.tN "SUPPRESSED_SENTINEL" Bundle.listD = some (cf, kf, fi, fU) := w1
  have y2 : s.fieldFound? Bundle.tN "SUPPRESSED_SENTINEL" Bundle.listD = some (T.cT, T.kT, T.i20, T.fSentinel) := Y.sentinel
  cases Option.some.inj (w1.symm.trans y2)
  cases Option.some.inj (w4.symm.trans L.statics)
  cases Option.some.inj (z5.symm.trans w5)
  have hltS : T.aS < H.size := (Array.getElem?_eq_some_iff.mp z5).1
  have hcellS : V.heap[T.aS]? = some cellS := by rw [hold _ hltS]; exact z5
  have rvR : ∀ n : Nat, (rv n).isRef = true := fun n => by cases n <;> rfl
  have hknownS : cellS.vm ≠ .unknown := by
    intro hu
    rw [hu] at z6
    cases z6
  obtain ⟨ci198, i198, fB, hk198, hg198, ha198, hsB, -, hnB, htB, hffB⟩ := Cond.ownField (t := .object "java/lang/Object") (show s.vm.findClass Bundle.tN = some T.cT from Y.found) L.cls (by decide +kernel) (hw (.fieldLink Bundle.tN 198 Bundle.tN "backtrace" "Ljava/lang/Object;") (by simp [exW])) (hw (.lays Bundle.tN Bundle.tN "backtrace" "Ljava/lang/Object;") (by simp [exW])) e.platform hpl
  have yC : s.fieldFound? Bundle.tN "cause" "Ljava/lang/Throwable;" = some (T.cT, T.kT, T.i7, T.fCause) := Y.cause
  have yS : s.fieldFound? Bundle.tN "stackTrace" Bundle.steD = some (T.cT, T.kT, T.i17, T.fStack) := Y.stack
  have yP : s.fieldFound? Bundle.tN "suppressedExceptions" Bundle.listD = some (T.cT, T.kT, T.i24, T.fSupp) := Y.supp
  obtain ⟨tyC, dC, hdC, hdnC⟩ := Cond.laysAt hK1 hk yC (hw (.lays (cN t) Bundle.tN "cause" "Ljava/lang/Throwable;") (by simp [exW]))
  obtain ⟨tyS, dS, hdS, hdnS⟩ := Cond.laysAt hK1 hk yS (hw (.lays (cN t) Bundle.tN "stackTrace" Bundle.steD) (by simp [exW]))
  obtain ⟨tyP, dP, hdP, hdnP⟩ := Cond.laysAt hK1 hk yP (hw (.lays (cN t) Bundle.tN "suppressedExceptions" Bundle.listD) (by simp [exW]))
  obtain ⟨tyB, dB, hdB, hdnB⟩ := Cond.laysAt hK1 hk hffB (hw (.lays (cN t) Bundle.tN "backtrace" "Ljava/lang/Object;") (by simp [exW]))
  have bC := Cond.laysApart hdB hdC hdnB hdnC (by rw [hnB, Y.causeName]; decide)
  have bS := Cond.laysApart hdB hdS hdnB hdnS (by rw [hnB, Y.stackName]; decide)
  have bP := Cond.laysApart hdB hdP hdnB hdnP (by rw [hnB, Y.suppName]; decide)
  have hskip : SkipFacts T e.platform s (fun u => u) ⟨rv (gR h 4118806530 0), rvR _⟩ ((preparedCellV T.toThrowableT (freshCell (K.1 t) kX) H.size ⟨rv (gR h 4118806530 0), rvR _⟩ ⟨rv (gR h 4127195138 0), rvR _⟩).withEntry V.cur) :=
    ⟨{ ci198 := ci198, i198 := i198, fBack := fB }, ⟨hk198, hg198, ha198, hsB⟩, by
      have := fresh_default (c := K.1 t) tyB
      rw [htB] at this
      simpa [preparedCellV, Cell.setSlot, Cell.withEntry, Array.getElem?_setIfInBounds, bC, bS, bP, bC.symm, bS.symm, bP.symm, defaultValue] using this, fun _ _ => rfl⟩
  obtain ⟨tm, methC, cdC, kC, vm₁, hnC, -, -, -, -, -, -, -, hW₁, st1⟩ := Steps.initCold (tb := p.tables) (e := e) (below := below) (s := s) (U := V) X.here hexec X.warmed hpl hown (t := Bundle.init0 (cN t)) rfl rfl (Bundle.fit_spec (ex_fit ht)).2
    (tg hC hW a0 hlk) (ex_ch hC hW ht (.instanceMethod (Bundle.init0 (cN t))) (by simp [exUp, Bundle.chain0Atoms, Bundle.passAtoms])) (bytes := Bundle.five) (maxL := 1) (ex_ch hC hW ht (.code (Bundle.init0 (cN t)) Bundle.five 1 none) (by simp [exUp, Bundle.chain0Atoms, Bundle.passAtoms]))
    (f := g) hg (a := H.size) (rest := .ref H.size :: rest) hstack hd6
  cases Option.some.inj (hnC.symm.trans hP1m)
  have X₁ := X.noted hW₁
  obtain ⟨vm₂, X₂, st2⟩ := X₁.ctorPlainOffV hexec (g := { g with stack := .ref H.size :: rest }) hg hsize T L Z LZ (P1 :: Ps)
    (fun P hP => by rcases List.mem_cons.mp hP with rfl | hP; exact LP1; exact hLP P hP) ⟨hlink1, hlink⟩ (u0 := ⟨rv (gR h 4118806530 0), rvR _⟩) (sen := ⟨rv (gR h 4127195138 0), rvR _⟩) (self := H.size) (cell := freshCell (K.1 t) kX) (cellS := cellS)
    hcell (fun _ => by simp) (by simp) rfl rfl hsel0 hselF hcellS (Nat.ne_of_lt hltS) hknownS z7 w7
    (Takes.of_laid hk hord tyC (by rw [Y.causeType]; rfl)) (Takes.of_laid hk hord tyS (by rw [Y.stackType]; exact fits_refV_array _ _)) (Takes.of_laid hk hord tyP (by rw [Y.suppType]; exact fits_refV_object _ _)) Y.objLocals hskip htr [] hd6
    (by simp only [List.length_cons, hlen]; show 2 + 1 + 2 < R.frames; omega) (by simp only [List.length_cons, hlen]; exact hRl)
  have hml : mdT t = true := exT_c (P := fun t => mdT t = true) ht rfl rfl rfl
  have ht55 : t ≤ 55 := by have := ht.2; omega
  have slot : ∀ (f : Nat) (cc : ClassId) (kk : Class) (ii : Nat) (fd : Field), f ∈ cF t → s.fieldFound? (fO f) (fN f) (fD f) = some (cc, kk, ii, fd) → fd.slot = K.2 f := by
    intro f cc kk ii fd hf hfd
    obtain ⟨cf1, kf1, fi1, fd1, g1, g2, g3⟩ := SlotI.moved hW.alike (hC.2.2.2.1 _ f ht55 hf)
    cases Option.some.inj (g1.symm.trans hfd)
    exact g3
  have sC : T.fCause.slot = K.2 3459210930 := slot 3459210930 _ _ _ _ (exT_c (P := fun t => 3459210930 ∈ cF t) ht (by decide +kernel) (by decide +kernel) (by decide +kernel)) yC
  have sS : T.fStack.slot = K.2 3467599538 := slot 3467599538 _ _ _ _ (exT_c (P := fun t => 3467599538 ∈ cF t) ht (by decide +kernel) (by decide +kernel) (by decide +kernel)) yS
  have sP : T.fSupp.slot = K.2 3475988146 := slot 3475988146 _ _ _ _ (exT_c (P := fun t => 3475988146 ∈ cF t) ht (by decide +kernel) (by decide +kernel) (by decide +kernel)) yP
  have nSP := Cond.laysApart hdS hdP hdnS hdnP (by rw [Y.stackName, Y.suppName]; decide)
  have lS : T.fStack.slot < kX.instanceTypes.size := (Array.getElem?_eq_some_iff.mp tyS).1
  refine ⟨vm₂, _, _, ?_, X₂, ?_, fun target hs => st1 target fun acts => ?_⟩
  · intro q hq
    simp only [List.mem_cons, List.not_mem_nil, or_false] at hq
    rcases hq with rfl | rfl | rfl | rfl <;> rfl
  · rw [← sC, ← sS, ← sP]
    refine Cell.setSlot_same ?_
    simp [preparedCellV, Cell.setSlot, Array.getElem?_setIfInBounds, nSP, nSP.symm, lS]
  · rw [doInvoke_state]
    exact st2 target hs
end EXC
theorem ex_b {Ω : Om} {t : Nat} {b : List Nat} {len : Nat} (h : (match b with
    | 187 :: y :: z :: 89 :: 183 :: y2 :: z2 :: _ => cond (inL Ω 15 (y * 256 + z) t && inL Ω 16 (y2 * 256 + z2) t) 7 0
    | _ => 0) = len) (hln : len ≠ 0) : ∃ y z y2 z2 l, b = 187 :: y :: z :: 89 :: 183 :: y2 :: z2 :: l ∧ (y * 256 + z, t) ∈ (nth Ω 15).getD [] ∧ (y2 * 256 + z2, t) ∈ (nth Ω 16).getD [] ∧ len = 7 := by
  split at h
  · rename_i y z y2 z2 l
    cases h1 : inL Ω 15 (y * 256 + z) t && inL Ω 16 (y2 * 256 + z2) t with
    | false => rw [h1] at h; exact absurd h.symm hln
    | true =>
      rw [h1] at h
      rw [Bool.and_eq_true] at h1
      exact ⟨y, z, y2, z2, l, rfl, inL_s h1.1, inL_s h1.2, h.symm⟩
  · exact absurd h.symm hln
theorem setH {H : Heap} {a : Nat} {x : Cell} (ha : a < H.size) : (H.setIfInBounds a x)[a]? = some x ∧ (H.setIfInBounds a x).size = H.size ∧ ∀ q, q ≠ a → (H.setIfInBounds a x)[q]? = H[q]? := by
  refine ⟨by simp [Array.getElem?_setIfInBounds, ha], by simp, fun q hq => ?_⟩
  rw [Array.getElem?_setIfInBounds, if_neg (fun e => hq e.symm)]
theorem ge_nE {hS h : PH} {t n : Nat} (hG : Ge hS h) (hr : rmO h n) : Ge hS (nE h t n) := ge_nO (t := t) hG hr
theorem fv_R {h : PH} {f r : Nat} (hf : f % 4 = 2) : fv h f r = rv (gR h f r) := by
  unfold fv rdF
  rw [hf]
  rfl
theorem Rep.putR {s0 : State} {a0 : Array Value} {K : KX} {h : PH} {H : Heap} {f r v : Nat} {cell : Cell} (hC : CX s0 a0 K) (R : Rep s0 K h H) (hm : mdT (hc h r) = true) (hf : f ∈ cF (hc h r)) (h4 : f % 4 = 2) (hr : r ≠ 0) (hcell : H[r - 1]? = some cell) : Rep s0 K (pR h f r v) (H.setIfInBounds (r - 1) (cell.setSlot (K.2 f) (rv v))) := by
  have hlt : r - 1 < H.size := (Array.getElem?_eq_some_iff.mp hcell).1
  obtain ⟨u1, u2, u3⟩ := setH (x := cell.setSlot (K.2 f) (rv v)) hlt
  refine Rep.putF (r := r) (f := f) (cell := cell) hC R hm hf (same_pR hr) R.wf hcell ?_ u2 u3
  rw [u1, fv_R h4, gR_pR]
theorem rep_nE {s0 : State} {a0 : Array Value} {K : KX} {h : PH} {H H' : Heap} {f1 f2 f3 v1 v2 v3 r : Nat} {cell : Cell} (hC : CX s0 a0 K) (R : Rep s0 K h H') (hm : mdT (hc h r) = true) (m1 : f1 ∈ cF (hc h r)) (m2 : f2 ∈ cF (hc h r)) (m3 : f3 ∈ cF (hc h r)) (q1 : f1 % 4 = 2) (q2 : f2 % 4 = 2) (q3 : f3 % 4 = 2) (hr : r ≠ 0) (hcell : H'[r - 1]? = some cell) :
    Rep s0 K (pR (pR (pR h f1 r v1) f2 r v2) f3 r v3) (H'.setIfInBounds (r - 1) (((cell.setSlot (K.2 f1) (rv v1)).setSlot (K.2 f2) (rv v2)).setSlot (K.2 f3) (rv v3))) := by
  have hlt : r - 1 < H'.size := (Array.getElem?_eq_some_iff.mp hcell).1
  have R1 := Rep.putR (v := v1) hC R hm m1 q1 hr hcell
  have c1 := (setH (x := cell.setSlot (K.2 f1) (rv v1)) hlt).1
  have R2 := Rep.putR (v := v2) hC R1 hm m2 q2 hr c1
  have l2 : r - 1 < (H'.setIfInBounds (r - 1) (cell.setSlot (K.2 f1) (rv v1))).size := by simpa using hlt
  have c2 := (setH (x := (cell.setSlot (K.2 f1) (rv v1)).setSlot (K.2 f2) (rv v2)) l2).1
  have R3 := Rep.putR (v := v3) hC R2 hm m3 q3 hr c2
  have e1 : (H'.setIfInBounds (r - 1) (cell.setSlot (K.2 f1) (rv v1))).setIfInBounds (r - 1) ((cell.setSlot (K.2 f1) (rv v1)).setSlot (K.2 f2) (rv v2)) = H'.setIfInBounds (r - 1) ((cell.setSlot (K.2 f1) (rv v1)).setSlot (K.2 f2) (rv v2)) := by simp
  rw [e1] at R3
  have e2 : ∀ x y : Cell, (H'.setIfInBounds (r - 1) x).setIfInBounds (r - 1) y = H'.setIfInBounds (r - 1) y := fun x y => by simp
  rw [e2] at R3
  exact R3
set_option maxHeartbeats 2000000 in
theorem excOK {l : Launch} {s0 : State} {a0 : Array Value} {K : KX} (hl0 : l.stackTraces = false) (hC : CX s0 a0 K) : ExcOK l s0 a0 K := by
  intro own p e d s m args below meth c M hS hE o Ω κ μ ini k hx hW hown hml hO hRs hkk t z b len pc lp st h H ls locs hck hln hB he hlen hL hwl hws hR hG hfr
  obtain ⟨y, y1, y2, y3, l', rfl, hin, hin2, rfl⟩ := ex_b hck hln
  obtain ⟨O1, O2, O3, O4, O5, O6, O7, O8, O9, O10, O11, O12, O13, O14, O15, O16, O17, O18, O19⟩ := hO
  obtain ⟨ht, hcl, hins, hini⟩ : exT t ∧ NLk own (y * 256 + y1) t := O18 _ hin
  obtain ⟨-, hlk⟩ := O19 _ hin2
  have he : gd (rmO h (slt t) ∧ stw st ≤ 8) (k (pc + 7) lp (vR (hn h) :: st) (nE h t (slt t))) = some (o, hE) := he
  obtain ⟨⟨hg, hstw⟩, he⟩ := gd_some he
  have hmd : mdT t = true := exT_c (P := fun t => mdT t = true) ht rfl rfl rfl
  have hml2 := md_lt hmd
  have hHn : H.size + 1 = hn h := hR.1
  obtain ⟨hfc, kC0, hkC0, hkind⟩ := classAt_moved hW.alike (hC.2.2.1 _ hmd)
  refine W.newcK hx rfl hown (tg hC hW args hcl) (tg hC hW args hins) (tg hC hW args hini) rfl (dk_187 hB) (by show _ ≤ cLim - hk hS; have := hg.1; have := hG.1; omega) (by show _ ≤ sLim - hs hS; have := hg.2; have := hG.2.1; omega) hfc rfl (fun H' kC hkC e1 e2 e3 => ?_)
  have hz1 : hn h - 1 = H.size := by omega
  have hR2 : Rep s0 K (nO h t (slt t)) H' := by
    refine Rep.grow (k := t) hR rfl rfl rfl ⟨by have := hml2.1; omega, fun _ => hml2.2.2⟩ (fun r hr => rfl) (fun f r hr => fv_nO f r hr) (fun t r j hr => rfl) (fun f => ?_) (wf_nO hR.wf) e2 e3 ?_
    · show (if 0 = hn h then 0 else gR h f 0) = gR h f 0; rw [if_neg (hn0 hR)]
    · refine ⟨blank (K.1 t) kC, hz1 ▸ e1, fun q => (by cases q), rfl, fun _ => ?_, fun q => (by rw [hc_nO] at q; have := hml2.1; omega)⟩
      rw [hc_nO]
      refine ⟨rfl, fun _ => rfl, fun f hf => ?_⟩
      have hfi := cF_iF hml2.2.2 hf
      obtain ⟨cf1, kf, fi, fd, g1, g2, g3⟩ := SlotI.moved hW.alike (hC.2.2.2.1 _ f hml2.2.2 hf)
      have hlay : (Cond.lays (cN t) (fO f) (fN f) (fD f)).before args s = true ∨ (Cond.laysFinal (cN t) (fO f) (fN f) (fD f)).before args s = true := by
        have hlw := hC.2.2.2.2.1 _ f hmd hf
        unfold layW at hlw
        split at hlw
        · exact Or.inr (word_at hW (by left; rfl) (hC.1 _ hlw))
        · exact Or.inl (word_at hW (by left; rfl) (hC.1 _ hlw))
      have h3 := (u_facts hfc hkC hlay g1).2.2
      rw [(State.fieldFound?_type g1 (fTy_s hfi)).2] at h3
      rw [← g3, fv_nO0 hfi]
      exact k2_blank h3
  show W p l e _ s m args below meth c H' locs _ _ _ (F0 m (pc + 3) ls (.ref H.size :: st.map cv))
  refine lv_dup hx rfl (dk_89 (show BytesAt c.code (pc + 3) (89 :: 183 :: y2 :: y3 :: l') from hB.drop 3)) rfl ?_
  intro T hT X
  have hsize : ls.size = c.maxLocals := by rw [hml, ← hlen]; exact hL.1
  have htr : e.platform.stackTraces = false := by rw [X.admits.platform]; exact hl0
  obtain ⟨vm, fin, L, hLb, X2, hfin, hst⟩ := exc_stand X hx htr hC hW hown ht hlk hR hkC (by rw [hT]; exact e1) (fun q hq => by rw [hT]; exact e3 q hq) (g := F0 m (pc + 3 + 1) ls (.ref H.size :: .ref H.size :: st.map cv)) rfl hsize rfl (dk_183 (show BytesAt c.code (pc + 3 + 1) (183 :: y2 :: y3 :: l') from hB.drop 4)) (by show 5 < d + 1 + 8; omega) (by show 2 * 0 + (1 + ((st.map cv).map fun v => v.category).sum) + 80 ≤ 46 * (d + 1) + 400; rw [stw_sum]; omega)
  have hlt : H.size < H'.size := by rw [e2]; omega
  have hc1 : hc (nO h t (slt t)) (hn h) = t := hc_nO
  have hn1 : hn h ≠ 0 := by omega
  have m1 : 3459210930 ∈ cF t := exT_c (P := fun t => 3459210930 ∈ cF t) ht (by decide +kernel) (by decide +kernel) (by decide +kernel)
  have m2 : 3467599538 ∈ cF t := exT_c (P := fun t => 3467599538 ∈ cF t) ht (by decide +kernel) (by decide +kernel) (by decide +kernel)
  have m3 : 3475988146 ∈ cF t := exT_c (P := fun t => 3475988146 ∈ cF t) ht (by decide +kernel) (by decide +kernel) (by decide +kernel)
  have rvn : rv (hn h) = .ref H.size := by rw [← hHn]; rfl
  have e1' : H'[hn h - 1]? = some (blank (K.1 t) kC) := by rw [hz1]; exact e1
  have R3 := rep_nE (f1 := 3459210930) (f2 := 3467599538) (f3 := 3475988146) (v1 := hn h) (v2 := gR h 4118806530 0) (v3 := gR h 4127195138 0) (H := H) hC hR2 (by rw [hc1]; exact hmd) (by rw [hc1]; exact m1) (by rw [hc1]; exact m2) (by rw [hc1]; exact m3) (by decide) (by decide) (by decide) hn1 e1'
  rw [hz1, rvn] at R3
  have R3 : Rep s0 K (nE h t (slt t)) (H'.setIfInBounds H.size ((((blank (K.1 t) kC).setSlot (K.2 3459210930) (.ref H.size)).setSlot (K.2 3467599538) (rv (gR h 4118806530 0))).setSlot (K.2 3475988146) (rv (gR h 4127195138 0)))) := R3
  have ec : hk h - hk hS + 1 = hk h + 1 - hk hS := by have := hG.1; omega
  have es : hs h - hs hS + slt t = hs h + slt t - hs hS := by have := hG.2.1; omega
  rw [ec, es] at X2
  have hfr2 : ∀ q ∈ locs ++ L, fr0 s0 q.base := by
    intro q hq
    rcases List.mem_append.mp hq with z | z
    · exact hfr q z
    · show s0.heap.size ≤ q.base
      rw [hLb q z]
      have := hR.2.2.2.2.2.2
      omega
  obtain ⟨tf, a1, b1⟩ := hkk (pc + 7) lp (vR (hn h) :: st) (nE h t (slt t)) _ ls (locs ++ L) he hlen hL hwl (WFv.cons trivial hws) R3 (ge_nE hG hg) hfr2 ((T.setVm vm).setCell H.size fin) (by show T.heap.setIfInBounds H.size fin = _; rw [hT, hfin]; rfl) X2
  refine ⟨tf, hst tf ?_, b1⟩
  have ef : F0 m (pc + 7) ls ((vR (hn h) :: st).map cv) = { F0 m (pc + 3 + 1) ls (.ref H.size :: .ref H.size :: st.map cv) with pc := pc + 3 + 1 + 3, stack := .ref H.size :: st.map cv } := by
    show F0 m (pc + 7) ls (rv (hn h) :: st.map cv) = _
    rw [rvn]
  rw [ef] at a1
  exact a1
