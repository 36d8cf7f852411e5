/-! SIMULATION OF THE INVOKE INSTRUCTIONS -/
set_option maxRecDepth 100000
def npar (desc : String) : Option Nat := (parseMethodDescriptor desc).map fun d => d.parameters.length
theorem npar_s {desc : String} {n : Nat} (h : npar desc = some n) : ∀ sig, parseMethodDescriptor desc = some sig → n = sig.parameters.length := by
  intro sig hs
  unfold npar at h
  rw [hs] at h
  exact (Option.some.inj h).symm
def notMH (c : String) : Prop := c ≠ "java/lang/invoke/MethodHandle" ∧ c ≠ "java/lang/invoke/VarHandle"
def SMk (own : String) (idx m : Nat) : Prop := MOK m ∧ npar (mNm m).desc = some (m % 16) ∧ (Cond.static (mNm m) ∈ lw_all ∧ Cond.initialized (mNm m).cls ∈ lw_all) ∧ (Cond.methodLink own idx (mNm m) ∈ lw_all ∨ ∃ host, Cond.methodLinkNest own idx (mNm m) host ∈ lw_tbl)
def IMk (own : String) (idx m : Nat) : Prop := MOK m ∧ npar (mNm m).desc = some (m % 16 - 1) ∧ 1 ≤ m % 16 ∧ (mNm m).name = "<init>" ∧ Cond.instanceMethod (mNm m) ∈ lw_all ∧ (∃ b n, wM m = .code (mNm m) b n none) ∧ (Cond.methodLink own idx (mNm m) ∈ lw_all ∨ ∃ host, Cond.methodLinkNest own idx (mNm m) host ∈ lw_tbl)
def Dcl (z : MethodName) : Prop := Cond.declares z ∈ lw_tbl ∨ Cond.instanceMethod z ∈ lw_all ∧ ∃ b n r, Cond.code z b n r ∈ lw_all
/-- a virtual call at an entry comes to y at a receiver of tag t -/
def VT (own : String) (idx : Nat) (y : MethodName) (t na : Nat) : Prop := Cond.instanceMethod y ∈ lw_all ∧ ((npar y.desc = some na ∧ Cond.selects (cN t) y y ∈ lw_all ∧ (Cond.methodLink own idx y ∈ lw_all ∨ ∃ host, Cond.methodLinkNest own idx y host ∈ lw_tbl)) ∨ ∃ (x : MethodName) (owner : String), npar x.desc = some na ∧ Cond.methodLink own idx x ∈ lw_all ∧ Cond.sameMethod x.cls owner x.name x.desc ∈ lw_all ∧ Dcl ⟨owner, x.name, x.desc⟩ ∧ notMH owner ∧ Cond.selects (cN t) x y ∈ lw_all)
def VMk (own : String) (idx m : Nat) : Prop := MOK m ∧ 1 ≤ m % 16 ∧ ∀ t, inT (m / 16 % 128) (m / 2048 % 128) t → (1 ≤ t ∧ t ≤ 55) ∧ VT own idx (mNm m) t (m % 16 - 1)
def PMk (own : String) (idx p na : Nat) : Prop := 1 ≤ na ∧ ∀ t m, dsp p t = some m → MOK m ∧ (1 ≤ t ∧ t ≤ 55) ∧ VT own idx (mNm m) t (na - 1)
def JMk (own : String) (idx m : Nat) : Prop := MOK m ∧ m % 16 = 1 ∧ ∃ (x : MethodName), npar x.desc = some 0 ∧ notMH x.cls ∧ Cond.methodLink own idx x ∈ lw_all ∧ Cond.declares x ∈ lw_tbl ∧ Cond.interfaceMethod x.cls x.cls x.name x.desc ∈ lw_tbl ∧ Cond.publicMethod (mNm m) ∈ lw_tbl ∧ Cond.instanceMethod (mNm m) ∈ lw_all ∧ ∀ t, inT (m / 16 % 128) (m / 2048 % 128) t → (1 ≤ t ∧ t ≤ 55) ∧ Cond.unhidden (cN t) x.name x.desc ∈ lw_tbl ∧ Cond.castable (cN t) x.cls ∈ lw_tbl ∧ Cond.selects (cN t) x (mNm m) ∈ lw_all
theorem popN_s : ∀ (n : Nat) (acc st : List PV) (a st' : List PV), popN n acc st = some (a, st') → ∃ pre, pre.length = n ∧ st = pre ++ st' ∧ a = pre.reverse ++ acc
  | 0, acc, st, a, st', h => by unfold popN at h; cases h; exact ⟨[], rfl, rfl, rfl⟩
  | n + 1, acc, v :: st, a, st', h => by
    unfold popN at h
    obtain ⟨pre, h1, h2, h3⟩ := popN_s n (v :: acc) st a st' h
    exact ⟨v :: pre, by simp [h1], by rw [h2]; rfl, by rw [h3]; simp⟩
  | n + 1, acc, [], a, st', h => by unfold popN at h; cases h
theorem WFv.app {a b : List PV} (h : WFv (a ++ b)) : WFv a ∧ WFv b := ⟨fun v hv => h v (List.mem_append_left _ hv), fun v hv => h v (List.mem_append_right _ hv)⟩
theorem WFv.rev {a : List PV} (h : WFv a) : WFv a.reverse := fun v hv => h v (List.mem_reverse.mp hv)
theorem pop_args {n : Nat} {st av st' : List PV} (h : popN n [] st = some (av, st')) (hw : WFv st) : st.map cv = (av.map cv).reverse ++ st'.map cv ∧ av.length = n ∧ WFv av ∧ WFv st' := by
  obtain ⟨pre, h1, h2, h3⟩ := popN_s n [] st av st' h
  rw [List.append_nil] at h3
  subst h3
  rw [h2] at hw
  refine ⟨by rw [h2]; simp, by simp [h1], hw.app.1.rev, hw.app.2⟩
section IV
variable {s0 : State} {a0 : Array Value} {K : KX} {own : String} {p : Program} {l : Launch} {e : Env} {R : Room} {d : Nat} {s : State} {m : MethodId} {args : Array Value} {below : List Frame} {meth : Method} {c : Code} {T : State} {locs : List Loc} {cells slots : Nat} {g : JFrame} {argsL rest : List Value} {idx : Nat}
/-- a virtual call comes into its callee -/
theorem into_v (X : Stand p l e R s m args below meth c T locs cells slots) (hx : p.tables.exec = Jvm.exec) (hC : CX s0 a0 K) (hW : s0.WarmedH s.vm) (hown : s.vm.findClass own = some m.cls) {M t na : Nat} (hM : MOK M) (hv : VT own idx (mNm M) t na)
    {b : Addr} {cellB : Cell} (hcell : T.heap[b]? = some cellB) (hobj : cellB.vm.isStatics = false) (hcls : s.vm.findClass (cN t) = some cellB.cls)
    (hg : g.method = m) (hlen : argsL.length = na) (hstack : g.stack = argsL.reverse ++ .ref b :: rest) (hdg : decode c.code g.pc = .ok (.invokevirtual idx, 3)) :
    Into p l e R s m args below meth c T locs cells slots g (mNm M) (Value.ref b :: argsL).toArray rest := by
  obtain ⟨hi, ⟨hp, hs, hl | ⟨host, hl⟩⟩ | ⟨x, owner, hp, hl, hsm, hdc, hmh, hs⟩⟩ := hv
  · exact intoV X hx hown (tg hC hW args hl) (tg hC hW args hi) (tg hC hW args hs) (SigOf.ok hC hW hM) hM.2.2.2.2 hcell hobj hcls hg (fun sig h => by rw [hlen]; exact npar_s hp sig h) hstack hdg
  · exact intoVN X hx hown (tmn hC hW args hl) (tg hC hW args hi) (tg hC hW args hs) (SigOf.ok hC hW hM) hM.2.2.2.2 hcell hobj hcls hg (fun sig h => by rw [hlen]; exact npar_s hp sig h) hstack hdg
  · have hdc2 : va_Decl s ⟨owner, x.name, x.desc⟩ := by
      rcases hdc with hdc | ⟨h1, b, n, r, h2⟩
      · exact va_Decl.abs (tde hC hW hdc)
      · exact va_Decl.of (tg hC hW args h1) (tg hC hW args h2)
    exact intoVU X hx hown (tg hC hW args hl) (tg hC hW args hsm) hdc2 hmh (tg hC hW args hs) (tg hC hW args hi) hcell hobj hcls hg (fun sig h => by rw [hlen]; exact npar_s hp sig h) hstack hdg
theorem into_f (X : Stand p l e R s m args below meth c T locs cells slots) (hexec : p.tables.exec = Jvm.exec) {C : String} {count : Nat} {x y : MethodName}
    (hown : s.vm.findClass own = some m.cls) (hlink : (Cond.methodLink own idx x).before args s = true) (hdecl : (Cond.declares x).before args s = true) (hface : (Cond.interfaceMethod x.cls x.cls x.name x.desc).before args s = true) (hpub : (Cond.publicMethod y).before args s = true) (hunh : (Cond.unhidden C x.name x.desc).before args s = true) (hcast : (Cond.castable C x.cls).before args s = true) (hx : notMH x.cls)
    (hsel : (Cond.selects C x y).before args s = true) (hinst : (Cond.instanceMethod y).before args s = true)
    {b : Addr} {cellB : Cell} (hcell : T.heap[b]? = some cellB) (hobj : cellB.vm.isStatics = false) (hcls : s.vm.findClass C = some cellB.cls)
    (hg : g.method = m) (hlen : ∀ sig, parseMethodDescriptor x.desc = some sig → argsL.length = sig.parameters.length)
    (hstack : g.stack = argsL.reverse ++ .ref b :: rest) (hdg : decode c.code g.pc = .ok (.invokeinterface idx count, 5)) :
    Into p l e R s m args below meth c T locs cells slots g y (Value.ref b :: argsL).toArray rest := by
  obtain ⟨r0, r, hn, hrm, hstR, hsigR⟩ := Cond.declares_spec hdecl
  obtain ⟨cL, kL, r1, hcL, hkL, hiL, hfoundL, hn1⟩ := Cond.interfaceMethod_spec hface
  cases hn.symm.trans hn1
  have hr0cls : r0.cls = cL := Option.some.inj ((findClass_of_methodNamed hn).symm.trans hcL)
  obtain ⟨hnameR, hdescR⟩ := name_of_methodNamed hn hrm
  obtain ⟨mk, methM, hnamed, hmethM, -, habM⟩ := Cond.instanceMethod_spec hinst
  obtain ⟨c2, r2, m2, q1, q2, q3, q4, -⟩ := Cond.selects_spec hsel
  cases hcls.symm.trans q1
  cases hfoundL.symm.trans q2
  cases hnamed.symm.trans q3
  have hselP : selectMethod e.platform s.vm cellB.cls r0 = .method mk := by rw [Launch.admits_selectMethod X.admits]; exact q4
  have hpubM : hasFlag methM.accessFlags Acc.public_ = true := Cond.publicMethod_spec hnamed hmethM hpub
  have hway : ((cellB.cls :: s.vm.superclasses cellB.cls).any fun k => (declaredIn s.vm r.name r.desc k).any fun (_, z) => z.isPrivate || z.isStatic) = false := by
    rw [hnameR, hdescR]; exact Cond.unhidden_spec hcls hunh
  obtain ⟨c3, t3, w1, w2, w3⟩ := Cond.castable_spec hcast
  cases hcls.symm.trans w1
  cases hcL.symm.trans w2
  obtain ⟨kB, hkB, -⟩ := Vm.findClass_spec hcls
  obtain ⟨vm₁, X₁, hstep₁⟩ := X.invokeinterface hexec hown hlink hn hrm hstR (by rw [hr0cls]; exact hkL) hiL hx (a := b) (cell := cellB) (kcell := kB) hcell
    (fun z h => by rw [h] at hobj; cases hobj) hkB (by rw [hr0cls]; exact w3) hselP hmethM hway hpubM habM (g := g) hg (argsL := argsL) (rest := rest) (hlen _ hsigR) hstack hdg
  exact ⟨vm₁, mk, X₁, X₁.named hnamed, fun target h => hstep₁ _ fun acts => by rw [doInvoke_state]; exact h⟩
end IV
theorem dk_185 {code : ByteArray} {pc y z : Nat} {l : List Nat} (h : BytesAt code pc (185 :: y :: z :: 1 :: 0 :: l)) : decode code pc = .ok (.invokeinterface (y * 256 + z) 1, 5) := by
  obtain ⟨h0, hb⟩ := h.one
  obtain ⟨h1, hb1⟩ := h.tail.one
  obtain ⟨h2, hb2⟩ := h.tail.tail.one
  obtain ⟨h3, hb3⟩ := h.tail.tail.tail.one
  obtain ⟨h4, hb4⟩ := h.tail.tail.tail.tail.one
  refine dk_dec ?_
  unfold Decoder.instr
  rw [dk_bind (u1_run h0 hb)]
  show (Decoder.invokeinterface pc).runAt code (pc + 1) = _
  unfold Decoder.invokeinterface
  rw [dk_bind (u2_run h1 hb1 h2 hb2), dk_bind (u1_run h3 hb3), dk_bind (u1_run h4 hb4)]
  rfl
