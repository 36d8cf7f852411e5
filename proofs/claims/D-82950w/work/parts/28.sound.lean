/-! CALLS OF THE PURE MACHINE ARE CALLS OF THE MACHINE -/
set_option maxRecDepth 100000
def lvV (lp : List PV) (i : Nat) : Option Value := match lget lp i, lget lp (i + 1) with
  | .inl x, _ => some (.int (Int32.ofInt x))
  | .inr (.inr (.inl r)), _ => some (rv r)
  | .inr (.inl x), .inr (.inr (.inr _)) => some (.long (Int64.ofInt x))
  | _, _ => none
theorem lvE_V {lp : List PV} {i : Nat} {q : Nat × Value} (h : lvE lp i = some q) : lvV lp i = some q.2 := by
  unfold lvE at h
  unfold lvV
  rcases ha : lget lp i with x | ⟨x | ⟨x | x⟩⟩ <;> rcases hb : lget lp (i + 1) with y | ⟨y | ⟨y | y⟩⟩ <;> rw [ha, hb] at h <;> first | (rw [← Option.some.inj h]) | cases h
theorem lget_rep : ∀ (k j : Nat), lget (List.replicate k vX) j = vX
  | 0, j => by cases j <;> rfl
  | k + 1, 0 => rfl
  | k + 1, j + 1 => lget_rep k j
theorem ent_mem : ∀ (av : List PV) (k i0 j : Nat) (v : Value), lvV (entL av ++ List.replicate k vX) j = some v → (i0 + j, v) ∈ lv_args i0 (av.map cv)
  | [], k, i0, j, v, h => by
    have h : lvV (List.replicate k vX) j = some v := h
    unfold lvV at h
    rw [lget_rep] at h
    cases h
  | .inl x :: l, k, i0, 0, v, h => by
    have h : some (Value.int (Int32.ofInt x)) = some v := h
    cases h
    exact List.mem_cons_self
  | .inl x :: l, k, i0, j + 1, v, h => by
    have h1 := ent_mem l k (i0 + 1) j v h
    have e : i0 + (j + 1) = i0 + 1 + j := by omega
    rw [e]
    exact List.mem_cons_of_mem _ h1
  | .inr (.inl x) :: l, k, i0, 0, v, h => by
    have h : some (Value.long (Int64.ofInt x)) = some v := h
    cases h
    exact List.mem_cons_self
  | .inr (.inl x) :: l, k, i0, 1, v, h => by
    exfalso
    have h : lvV (vJ x :: vX :: (entL l ++ List.replicate k vX)) 1 = some v := h
    unfold lvV at h
    have e : lget (vJ x :: vX :: (entL l ++ List.replicate k vX)) 1 = vX := rfl
    rw [e] at h
    cases h
  | .inr (.inl x) :: l, k, i0, j + 2, v, h => by
    have h1 := ent_mem l k (i0 + 2) j v h
    have e : i0 + (j + 2) = i0 + 2 + j := by omega
    rw [e]
    exact List.mem_cons_of_mem _ h1
  | .inr (.inr (.inl r)) :: l, k, i0, 0, v, h => by
    have h : some (rv r) = some v := h
    cases h
    exact List.mem_cons_self
  | .inr (.inr (.inl r)) :: l, k, i0, j + 1, v, h => by
    have h1 := ent_mem l k (i0 + 1) j v h
    have e : i0 + (j + 1) = i0 + 1 + j := by omega
    rw [e]
    have e2 : lv_args i0 ((Sum.inr (Sum.inr (Sum.inl r)) :: l : List PV).map cv) = (i0, rv r) :: lv_args (i0 + 1) (l.map cv) := by cases r <;> rfl
    rw [e2]
    exact List.mem_cons_of_mem _ h1
  | .inr (.inr (.inr u)) :: l, k, i0, 0, v, h => by
    exfalso
    have h : lvV (vX :: (entL l ++ List.replicate k vX)) 0 = some v := h
    unfold lvV at h
    have e : lget (vX :: (entL l ++ List.replicate k vX)) 0 = vX := rfl
    rw [e] at h
    cases h
  | .inr (.inr (.inr u)) :: l, k, i0, j + 1, v, h => by
    have h1 := ent_mem l k (i0 + 1) j v h
    have e : i0 + (j + 1) = i0 + 1 + j := by omega
    rw [e]
    exact List.mem_cons_of_mem _ h1
theorem padL_eq : ∀ (n : Nat) (l : List PV), l.length ≤ n → padL n l = l ++ List.replicate (n - l.length) vX
  | 0, [], _ => rfl
  | 0, _ :: _, h => by simp at h
  | n + 1, [], _ => by
    show vX :: padL n [] = List.replicate (n + 1) vX
    rw [padL_eq n [] (Nat.zero_le _)]
    rfl
  | n + 1, x :: l, h => by
    show x :: padL n l = x :: (l ++ List.replicate (n + 1 - (l.length + 1)) vX)
    rw [padL_eq n l (by simp at h; omega), Nat.add_sub_add_right]
theorem ent_len : ∀ av : List PV, (lg_sl (av.map cv)).length = (entL av).length
  | [] => rfl
  | .inl x :: l => by
    show (lg_sl (Value.int (Int32.ofInt x) :: l.map cv)).length = (entL l).length + 1
    rw [← ent_len l]
    simp [lg_sl, Value.category] <;> omega
  | .inr (.inl x) :: l => by
    show (lg_sl (Value.long (Int64.ofInt x) :: l.map cv)).length = (entL l).length + 2
    rw [← ent_len l]
    simp [lg_sl, Value.category] <;> omega
  | .inr (.inr (.inl r)) :: l => by
    show (lg_sl (rv r :: l.map cv)).length = (entL l).length + 1
    rw [← ent_len l]
    simp [lg_sl, rv_cat] <;> omega
  | .inr (.inr (.inr u)) :: l => by
    show (lg_sl (Value.null :: l.map cv)).length = (entL l).length + 1
    rw [← ent_len l]
    simp [lg_sl, Value.category] <;> omega
theorem ent_wf : ∀ {av : List PV}, WFv av → WFv (entL av)
  | [], _ => fun v hv => by cases hv
  | .inl x :: l, h => WFv.cons h.hd (ent_wf h.tl)
  | .inr (.inl x) :: l, h => WFv.cons h.hd (WFv.cons trivial (ent_wf h.tl))
  | .inr (.inr (.inl r)) :: l, h => WFv.cons trivial (ent_wf h.tl)
  | .inr (.inr (.inr u)) :: l, h => WFv.cons trivial (ent_wf h.tl)
theorem ent_LV {av : List PV} {n : Nat} (h : (entL av).length ≤ n) : LV ((lg_sl (av.map cv) ++ List.replicate (n - (lg_sl (av.map cv)).length) Slot.unset).toArray) (padL n (entL av)) := by
  have h1 := lv_entry (av.map cv) (n := n) (by rw [ent_len]; exact h)
  have hl : (padL n (entL av)).length = n := by rw [padL_eq n _ h]; simp; omega
  refine ⟨by rw [hl]; exact h1.1, h1.2.1, fun q hq => h1.2.2 q ?_⟩
  obtain ⟨h2, h3⟩ := mem_lvL hq
  have h4 := lvE_V h3
  rw [padL_eq n _ h] at h4
  have h5 := ent_mem av _ 0 q.1 q.2 h4
  rw [Nat.zero_add] at h5
  exact h5
theorem pad_len {av : List PV} {n : Nat} (h : (entL av).length ≤ n) : (padL n (entL av)).length = n := by rw [padL_eq n _ h]; simp; omega
theorem pad_wf {av : List PV} {n : Nat} (h : (entL av).length ≤ n) (hw : WFv av) : WFv (padL n (entL av)) := by
  rw [padL_eq n _ h]
  intro v hv
  rcases List.mem_append.mp hv with z | z
  · exact ent_wf hw v z
  · rw [(List.mem_replicate.mp z).2]; trivial
/-- the facts of a method that is not taken as one step -/
def MethOK (s0 : State) (M : Nat) : Prop := ∃ (Ω : Om) (κ μ : List (Nat × Int)) (ini : Bool) (rc : Nat) (cc : ByteArray) (ret : Option FieldType) (hh : List (Nat × Nat × Nat × Nat)), OwnOK s0 (mNm M).cls Ω κ μ ∧ (ini = true → (mNm M).name = "<init>") ∧ retT rc ret ∧ RowsOK M cc Ω κ μ ini rc ∧ plainFor (mNm M) = true ∧ ((wM M = .code (mNm M) cc (mxM M) ret ∧ hndL M = [] ∧ hh = []) ∨ wM M = .codeWith (mNm M) cc (mxM M) ret hh)
/-- catching: in a method with handlers a throw comes where the pure machine says -/
def CatchOK (s0 : State) (a0 : Array Value) (K : KX) (M : Nat) : Prop := ∀ (hh : List (Nat × Nat × Nat × Nat)) (p : Program) (l : Launch) (e : Env) (d : Nat) (s : State) (m : MethodId) (args : Array Value) (below : List Frame) (meth : Method) (c : Code) (hS hE : PH) (o : Ot) (k : Kt), (∃ b n r, wM M = .codeWith (mNm M) b n r hh) → p.tables.exec = Jvm.exec → s0.WarmedH s.vm → s.vm.findClass (mNm M).cls = some m.cls → meth.locks = false → c.exceptionTable.toList.map (fun h => (h.startPc, h.endPc, h.handlerPc, h.catchType)) = hh → SimK s0 K p l e d s m args below meth c hS hE o M k → ThrOK s0 K p l e d s m args below meth c hS hE o M k
/-- System.arraycopy: the pure step is the machine's -/
def CopyOK (s0 : State) (a0 : Array Value) (K : KX) : Prop := ∀ (own : String) (p : Program) (l : Launch) (e : Env) (d : Nat) (s : State) (m : MethodId) (args : Array Value) (below : List Frame) (meth : Method) (c : Code) (M : Nat) (hS hE : PH) (o : Ot) (Ω : Om) (κ μ : List (Nat × Int)) (ini : Bool) (k : Kt), p.tables.exec = Jvm.exec → s0.WarmedH s.vm → s.vm.findClass own = some m.cls → c.maxLocals = mxM M → OwnOK s0 own Ω κ μ → SimK s0 K p l e (d + 1) s m args below meth c hS hE o M k → StepOK s0 K p l e (d + 1) s m args below meth c hS hE o M Ω κ μ ini (F d) k (.invokestatic ACN)
/-- exceptions without a message: the pure step is the machine's -/
def ExcOK (l : Launch) (s0 : State) (a0 : Array Value) (K : KX) : Prop := ∀ (own : String) (p : Program) (e : Env) (d : Nat) (s : State) (m : MethodId) (args : Array Value) (below : List Frame) (meth : Method) (c : Code) (M : Nat) (hS hE : PH) (o : Ot) (Ω : Om) (κ μ : List (Nat × Int)) (ini : Bool) (k : Kt), p.tables.exec = Jvm.exec → s0.WarmedH s.vm → s.vm.findClass own = some m.cls → c.maxLocals = mxM M → OwnOK s0 own Ω κ μ → Rep s0 K hS s.heap → SimK s0 K p l e (d + 1) s m args below meth c hS hE o M k → ∀ t z, StepOK s0 K p l e (d + 1) s m args below meth c hS hE o M Ω κ μ ini (F d) k (.multianewarray t z)
/-- methods taken as one step -/
def PrimOK (l : Launch) (s0 : State) (K : KX) : Prop := ∀ (d M : Nat) (av : List PV) (h : PH) (o : Ot) (h' : PH), 900 ≤ M / 262144 → F (d + 1) M av h = some (o, h') → WFv av → hk h ≤ cLim → hs h ≤ sLim → MOK M → CallOK l s0 K (d + 1) M av h o h'
theorem oeq_run (cf : Nat → List PV → PH → Rs) {h h' : PH} {o : Ot} : ∀ (a b : PV), FA cf 175749138 0 [a, b] [] h = some (o, h') → h' = h ∧ ∃ x y, a = vR x ∧ b = vR y ∧ o = .inl (some (vI (if x = y then 1 else 0))) := by
  intro a b he
  have h5 : ∀ x y : Nat, FA cf 175749138 5 [vR x, vR y] [] h = some (.inl (some (vI 1)), h) := fun x y => (FA_ex cf 175749138 3 _ _ _ _).trans rfl
  have h9 : ∀ x y : Nat, FA cf 175749138 9 [vR x, vR y] [] h = some (.inl (some (vI 0)), h) := fun x y => (FA_ex cf 175749138 2 _ _ _ _).trans rfl
  have n1 : ∀ a b, ex cf (FA cf 175749138) 175749138 3 0 [a, b] [] h = FA cf 175749138 0 [a, b] [] h := fun a b => (FA_ex cf 175749138 3 _ _ _ _).symm
  rw [← n1] at he
  rcases a with a | ⟨a | ⟨a | a⟩⟩
  · cases he
  · cases he
  · rcases b with b | ⟨b | ⟨b | b⟩⟩
    · cases he
    · cases he
    · have he : (if a = b then FA cf 175749138 5 [vR a, vR b] [] h else FA cf 175749138 9 [vR a, vR b] [] h) = some (o, h') := he
      refine ⟨?_, a, b, rfl, rfl, ?_⟩ <;> by_cases e : a = b
      · rw [if_pos e, h5] at he; cases he; rfl
      · rw [if_neg e, h9] at he; cases he; rfl
      · rw [if_pos e, h5] at he; cases he; rw [if_pos e]
      · rw [if_neg e, h9] at he; cases he; rw [if_neg e]
    · cases he
  · cases he
theorem F_oeq {d : Nat} {av : List PV} {h h' : PH} {o : Ot} (hF : F (d + 1) OEQ av h = some (o, h')) : h' = h ∧ ∃ x y, av = [vR x, vR y] ∧ o = .inl (some (vI (if x = y then 1 else 0))) := by
  have run : ∀ a b, FA (F d) 175749138 0 [a, b] [] h = some (o, h') → h' = h ∧ ∃ x y, a = vR x ∧ b = vR y ∧ o = .inl (some (vI (if x = y then 1 else 0))) := oeq_run (F d)
  rcases av with _ | ⟨a, _ | ⟨b, _ | ⟨c, l⟩⟩⟩
  · obtain ⟨-, x, y, e1, -, -⟩ := run vX vX hF
    cases e1
  · rcases a with a | ⟨a | ⟨a | a⟩⟩
    · obtain ⟨-, x, y, e1, -, -⟩ := run (vI a) vX hF
      cases e1
    · obtain ⟨-, x, y, e1, -, -⟩ := run (vJ a) vX hF
      cases e1
    · obtain ⟨-, x, y, -, e1, -⟩ := run (vR a) vX hF
      cases e1
    · obtain ⟨-, x, y, e1, -, -⟩ := run vX vX hF
      cases e1
  · rcases a with a | ⟨a | ⟨a | a⟩⟩ <;> rcases b with b | ⟨b | ⟨b | b⟩⟩
    case inr.inr.inl.inr.inr.inl =>
      obtain ⟨e0, x, y, e1, e2, e3⟩ := run (vR a) (vR b) hF
      cases e1; cases e2
      exact ⟨e0, a, b, rfl, e3⟩
    all_goals first
      | (have hF : (none : Rs) = some (o, h') := hF; cases hF)
      | (obtain ⟨-, x, y, e1, e2, -⟩ := run _ _ hF; first | (cases e1; done) | (cases e2; done))
  · exfalso
    have n : ∀ l : List PV, 0 ≤ (entL l).length := fun l => Nat.zero_le _
    rcases a with a | ⟨a | ⟨a | a⟩⟩ <;> rcases b with b | ⟨b | ⟨b | b⟩⟩ <;> rcases c with c | ⟨c | ⟨c | c⟩⟩ <;> (have hF : (none : Rs) = some (o, h') := hF; cases hF)
theorem F_ok {l : Launch} {s0 : State} {a0 : Array Value} {K : KX} (hC : CX s0 a0 K) (hGl : GlobOK) (hMeth : ∀ M, M / 262144 < 900 → MOK M → M ≠ OEQ → MethOK s0 M) (hCatch : ∀ M, CatchOK s0 a0 K M) (hCopy : CopyOK s0 a0 K) (hExc : ExcOK l s0 a0 K) (hPrim : PrimOK l s0 K) :
    ∀ (d M : Nat) (av : List PV) (h : PH) (o : Ot) (h' : PH), F d M av h = some (o, h') → WFv av → hk h ≤ cLim → hs h ≤ sLim → MOK M → CallOK l s0 K d M av h o h' := by
  intro d
  induction d with
  | zero => intro M av h o h' hF; cases hF
  | succ d ih =>
    intro M av h o h' hF hav hc1 hs1 hM
    refine ⟨fun hini0 => ?_, fun e => by subst e; exact F_oeq hF⟩
    by_cases h900 : 900 ≤ M / 262144
    · exact (hPrim d M av h o h' h900 hF hav hc1 hs1 hM).1 hini0
    · have hb : Nat.ble 900 (M / 262144) = false := by
        cases hq : Nat.ble 900 (M / 262144) with
        | false => rfl
        | true => exact absurd (Nat.ble_eq.mp hq) h900
      have hF1 : cond (Nat.ble 900 (M / 262144)) (prim (M / 262144) av h) (cond (Nat.ble (entL av).length (mxM M)) (FA (F d) M 0 (padL (mxM M) (entL av)) [] h) none) = some (o, h') := hF
      rw [hb] at hF1
      cases hq : Nat.ble (entL av).length (mxM M) with
      | false => rw [hq] at hF1; exact no_e hF1
      | true =>
      rw [hq] at hF1
      have hle := Nat.ble_eq.mp hq
      have hF2 : FA (F d) M 0 (padL (mxM M) (entL av)) [] h = some (o, h') := hF1
      obtain ⟨n, hn⟩ := FA_iff.mp hF2
      obtain ⟨Ω, κ, μ, ini, rc, cc, ret, hh, hO, hini, hrt, hrows, hpl, hwm⟩ := hMeth M (by omega) hM hini0
      refine MetG.ofW (cc := cc) (maxL := mxM M) (ret := ret) hpl ?_ ?_
      · intro args s m hws hnm
        have hw := hws _ List.mem_cons_self
        rcases hwm with ⟨e1, -, -⟩ | e1
        · rw [e1] at hw
          obtain ⟨meth, c, g1, g2, g3, g4, g5, g6, -, -⟩ := Cond.code_spec hnm hw
          exact ⟨meth, c, g1, g2, g3, g4, g5, g6⟩
        · rw [e1] at hw
          obtain ⟨m', meth, c, g0, g1, g2, g3, g4, -, g5, g6, -⟩ := Cond.codeWith_spec hw
          cases hnm.symm.trans g0
          exact ⟨meth, c, g1, g2, g3, g4, g5, g6⟩
      · intro p e s m args below meth c s₁ B hml hP
        obtain ⟨rfl, hR, hW⟩ := hP
        have hx := B.exec
        have hown : s.vm.findClass (mNm M).cls = some m.cls := findClass_of_methodNamed B.named
        have hlocks := B.notSynchronized
        have hw := atoms_spec (ws := [wM M]) B.pre _ List.mem_cons_self
        have hcode : meth.code = some c := by
          have h1 := B.here.code
          have h2 : s₁.vm.method? m = some meth := by rw [B.state]; exact B.method
          rw [State.code?_eq, h2] at h1
          exact h1
        have hmn : meth.name = (mNm M).name := (name_of_methodNamed B.named B.method).1
        have hbc : c.code = cc := B.bytes
        have hthr : ∀ k, SimK s0 K p l e (d + 1) s m ((av.map cv).toArray) below meth c h h' o M k → ThrOK s0 K p l e (d + 1) s m ((av.map cv).toArray) below meth c h h' o M k := by
          intro k hk
          rcases hwm with ⟨e1, e2, -⟩ | e1
          · have hnt : c.exceptionTable.toList = [] := by
              rw [e1] at hw
              obtain ⟨meth', c', g1, g2, -, -, -, -, g7, -⟩ := Cond.code_spec B.named hw
              cases B.method.symm.trans g1
              cases hcode.symm.trans g2
              simpa using g7
            exact ThrOK.plain hW hlocks e2 hnt
          · have hnt : c.exceptionTable.toList.map (fun h => (h.startPc, h.endPc, h.handlerPc, h.catchType)) = hh := by
              rw [e1] at hw
              obtain ⟨m', meth', c', g0, g1, g2, -, -, g5, -⟩ := Cond.codeWith_spec hw
              cases B.named.symm.trans g0
              cases B.method.symm.trans g1
              cases hcode.symm.trans g2
              exact g5
            exact hCatch M hh p l e (d + 1) s m _ below meth c h h' o k ⟨_, _, _, e1⟩ hx hW hown hlocks hnt hk
        have hsim : ∀ n, SimK s0 K p l e (d + 1) s m ((av.map cv).toArray) below meth c h h' o M (exN (F d) M n) := by
          intro n
          induction n with
          | zero => intro pc lp st h1 H ls locs he; cases he
          | succ n ihn =>
            exact sim_step hx hC hW hown hlocks hml hGl hO (fun q => hmn.trans (hini q)) (by rw [B.returns]; exact hrt) (hbc ▸ hrows) ih ihn (hthr _ ihn) (hCopy _ p l e d s m _ below meth c M h h' o Ω κ μ ini _ hx hW hown hml hO ihn) (hExc _ p e d s m _ below meth c M h h' o Ω κ μ ini _ hx hW hown hml hO hR ihn)
        rw [lg_entry_eq]
        have h9 := hsim n 0 (padL (mxM M) (entL av)) [] h s.heap _ [] hn (pad_len hle) (ent_LV hle) (pad_wf hle hav) (fun v hv => by cases hv) hR ⟨Nat.le_refl _, Nat.le_refl _, hc1, hs1⟩ (fun q hq => by cases hq)
        refine W.cs ?_ ?_ h9
        · rw [Nat.sub_self]
        · rw [Nat.sub_self]
