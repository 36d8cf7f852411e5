/-! SIMULATION OF CALLS -/
set_option maxRecDepth 100000
def wMx : Cond → Nat
  | .code _ _ n _ => n
  | .codeWith _ _ n _ _ => n
  | _ => 0
/-- java/lang/Object.equals: it is walked, since nothing says that Object is initialized -/
def OEQ : Nat := 175749138
def oeqB : ByteArray := ⟨#[0x2a, 0x2b, 0xa6, 0, 7, 4, 0xa7, 0, 4, 3, 0xac]⟩
/-- what is known of a method that is called -/
def MOK (M : Nat) : Prop := wM M ∈ lw_all ∧ (Cond.initialized (mNm M).cls ∈ lw_all ∧ M / 262144 ≠ 670 ∨ M = OEQ ∧ wM M = .code ⟨"java/lang/Object", "equals", "(Ljava/lang/Object;)Z"⟩ oeqB 2 (some .boolean)) ∧ wMx (wM M) ≤ 27 ∧ ((∃ b n r, wM M = .code (mNm M) b n r) ∨ ∃ b n r hh, wM M = .codeWith (mNm M) b n r hh) ∧ ((mNm M).cls ≠ "java/lang/invoke/MethodHandle" ∧ (mNm M).cls ≠ "java/lang/invoke/VarHandle")
def PE (s0 : State) (K : KX) (av : List PV) (h1 : PH) : Array Value → State → Prop := fun a U => a = (av.map cv).toArray ∧ Rep s0 K h1 U.heap ∧ s0.WarmedH U.vm
def CallOK (l : Launch) (s0 : State) (K : KX) (d M : Nat) (av : List PV) (h1 : PH) (o1 : Ot) (h2 : PH) : Prop :=
  (M ≠ OEQ → MetG l (mNm M) [wM M] (RM d h1) (PE s0 K av h1) (QE s0 K h1 o1 h2) (hk h2 - hk h1) (hs h2 - hs h1) (fr0 s0)) ∧
  (M = OEQ → h2 = h1 ∧ ∃ x y, av = [vR x, vR y] ∧ o1 = .inl (some (vI (if x = y then 1 else 0))))
theorem MOK.at {s0 U : State} {a0 : Array Value} {K : KX} {M : Nat} (hC : CX s0 a0 K) (hW : s0.WarmedH U.vm) (hM : MOK M) : ∃ mk meth c, U.methodNamed? (mNm M) = some mk ∧ U.vm.method? mk = some meth ∧ meth.code = some c ∧ c.maxLocals = wMx (wM M) ∧ parseMethodDescriptor (mNm M).desc = some meth.sig := by
  have hw := tg hC hW #[] hM.1
  rcases hM.2.2.2.1 with ⟨b, n, r, e⟩ | ⟨b, n, r, hh, e⟩
  · rw [e] at hw ⊢
    obtain ⟨mk, hn⟩ := Cond.code_named hw
    obtain ⟨meth, c, h1, h2, -, h4, -, -, -, h8⟩ := Cond.code_spec hn hw
    exact ⟨mk, meth, c, hn, h1, h2, h4, h8⟩
  · rw [e] at hw ⊢
    obtain ⟨mk, meth, c, hn, h1, h2, -, h4, -, -, -, h8⟩ := Cond.codeWith_spec hw
    exact ⟨mk, meth, c, hn, h1, h2, h4, h8⟩
section OE
variable {e : Env} {below : List Frame} {s : State} {g : JFrame} {c : Code}
theorem oe0 : decode oeqB 0 = .ok (.aload_n 0, 1) := by decide +kernel
theorem oe1 : decode oeqB 1 = .ok (.aload_n 1, 1) := by decide +kernel
theorem oe2 : decode oeqB 2 = .ok (.if_acmp .ne 7, 3) := by decide +kernel
theorem oe5 : decode oeqB 5 = .ok (.iconst 1, 1) := by decide +kernel
theorem oe6 : decode oeqB 6 = .ok (.goto 4, 3) := by decide +kernel
theorem oe9 : decode oeqB 9 = .ok (.iconst 0, 1) := by decide +kernel
theorem oe10 : decode oeqB 10 = .ok (.ireturn, 1) := by decide +kernel
theorem oe_walk {tb : Tables} {target : State} (h : At s g.method c below) (hexec : tb.exec = Jvm.exec) {m : MethodId} {k : Class} {meth : Method} {code : Code} {w1 w2 : Nat}
    {ig : Instr} {len : Nat} (acts : List Action)
    (hk : s.vm.classes[m.cls]? = some k) (hn : k.name = "java/lang/Object") (hfin : e.platform.finalization = false)
    (hm : s.vm.method? m = some meth) (hc : meth.code = some code) (hbytes : code.code = oeqB) (hml : code.maxLocals = 2) (hret : meth.sig.returnType = some .boolean) (hl : meth.locks = false)
    (hroom : e.platform.stackFull (((s.setTop g).threads[(s.setTop g).cur]?).getD { frames := [] }) (s.setTop g).frames code.maxLocals = false)
    (hdg : decode c.code g.pc = .ok (ig, len))
    (hrest : Steps tb e below (s.setTop { g with pc := g.pc + len, stack := .int (if w1 = w2 then 1 else 0) :: g.stack }) target) :
    Steps tb e below (doInvoke e (s.setTop g) acts m #[cv (vR w1), cv (vR w2)]).1 target := by
  rw [doInvoke_enter h.top acts hm hc hl hroom]
  have hf := frames_entered (g := g) h.top (.java (entryFrame m #[cv (vR w1), cv (vR w2)] code.maxLocals))
  obtain ⟨mid, hmid⟩ := h.above
  generalize hP : (s.setTop g).pushFrame (.java (entryFrame m #[cv (vR w1), cv (vR w2)] code.maxLocals)) = P at hf
  have hvm : P.vm = s.vm := by rw [← hP]; simp [State.pushFrame, State.setFrames]
  have stp : ∀ f : JFrame, f.method = m → (match decode oeqB f.pc with
      | .ok (i, len) => wpRun (Jvm.exec i)
          (fun _ s₁ _ => ∀ acts, Steps tb e below (afterInstr e len (.ok () s₁ acts)).1 target)
          (fun x s₁ _ => ∀ acts, Steps tb e below (afterInstr e len (.ctl x s₁ acts)).1 target) e (P.setTop f)
      | .error _ => False) → Steps tb e below (P.setTop f) target := by
    intro f hfm hw
    refine Steps.instrOv (c := code) (by rw [State.topJava?_of_frames hf]; rfl) ⟨.java g :: mid, by rw [hf, List.tail_cons, hmid]; rfl⟩ (by rw [← hP]; exact h.running) (by rw [← hP]; simpa using h.runnable) (by rw [← hP]; simpa using h.alone)
      (by rw [State.code?_eq, hvm, hfm, hm]; exact hc) (overridden_object tb (k := k) (by rw [hfm]; show P.vm.classes[m.cls]? = some k; rw [hvm]; exact hk) hn hfin) ?_
    rw [hexec, hbytes]
    exact hw
  have top : P.topJava?.isSome := by rw [State.topJava?_of_frames hf]; rfl
  have fin : ∀ (v : Value) (ls : Array Slot) (acts' : List Action), Steps tb e below (s.setTop { g with pc := g.pc + len, stack := v :: g.stack }) target → Steps tb e below (doReturn e (P.setTop { method := m, pc := 10, locals := ls, stack := [], locked := none }) acts' (some v)).1 target := by
    intro v ls acts' hr
    rw [doReturn_leave (g := g) (meth := meth) (cg := c) (ig := ig) (len := len) acts' hf (by show P.vm.method? m = some meth; rw [hvm]; exact hm) hl rfl rfl (by have := h.code; rw [State.code?_eq] at this ⊢; rw [hvm]; exact this) hdg,
      ← hP, setFrames_entered h.top, State.setTop_setTop]
    exact hr
  have e0 : entryFrame m #[cv (vR w1), cv (vR w2)] code.maxLocals = { method := m, pc := 0, locals := #[.val (cv (vR w1)), .val (cv (vR w2))], stack := [], locked := none } := by
    rw [hml]; rcases w1 with _ | w1 <;> rcases w2 with _ | w2 <;> rfl
  rw [e0]
  have c1 : ∀ w : Nat, (cv (vR w)).isRef = true := fun w => by cases w <;> rfl
  refine stp _ rfl ?_
  simp [jvm, wpRun, exec, oe0, top, c1]
  refine stp _ rfl ?_
  simp [jvm, wpRun, exec, oe1, top, c1]
  refine stp _ rfl ?_
  have ar : ∀ w : Nat, (cv (vR w)).asRef? = some (if w = 0 then none else some (w - 1)) := fun w => by cases w <;> rfl
  simp [jvm, wpRun, exec, oe2, top, ar]
  by_cases hw : w1 = w2
  · subst hw
    rw [if_pos rfl] at hrest
    rw [if_neg (by simp [if_acmp.holds])]
    refine stp _ rfl ?_
    simp [jvm, wpRun, exec, oe5, top]
    refine stp _ rfl ?_
    simp [jvm, wpRun, exec, oe6, top]
    refine stp _ rfl ?_
    simp [jvm, wpRun, exec, oe10, top]
    exact ⟨meth, by rw [hvm]; exact hm, .boolean, hret, fun acts => fin _ _ acts hrest⟩
  · rw [if_neg hw] at hrest
    rw [if_pos (by simp [if_acmp.holds]; intro h1; apply hw; split at h1 <;> split at h1 <;> simp at h1 <;> omega)]
    refine stp _ rfl ?_
    simp [jvm, wpRun, exec, oe9, top]
    refine stp _ rfl ?_
    simp [jvm, wpRun, exec, oe10, top]
    exact ⟨meth, by rw [hvm]; exact hm, .boolean, hret, fun acts => fin _ _ acts hrest⟩
end OE
theorem SigOf.ok {s0 U : State} {a0 : Array Value} {K : KX} {M : Nat} (hC : CX s0 a0 K) (hW : s0.WarmedH U.vm) (hM : MOK M) : SigOf U (mNm M) := by
  obtain ⟨mk, meth, c, h1, h2, -, -, h5⟩ := hM.at hC hW
  exact ⟨mk, meth, h1, h2, h5⟩
theorem st_warm {p : Program} {l : Launch} {e : Env} {R : Room} {s : State} {m : MethodId} {args : Array Value} {below : List Frame} {meth : Method} {c : Code} {T : State} {locs : List Loc} {cells slots : Nat} {s0 : State} (X : Stand p l e R s m args below meth c T locs cells slots) (hW : s0.WarmedH s.vm) : s0.WarmedH T.vm := State.WarmedH.trans hW X.warmed
/-- what becomes of a throw in a method -/
def ThrOK (s0 : State) (K : KX) (p : Program) (l : Launch) (e : Env) (d : Nat) (s : State) (m : MethodId) (args : Array Value) (below : List Frame) (meth : Method) (c : Code) (hS hE : PH) (o : Ot) (M : Nat) (k : Kt) : Prop := ∀ (pc : Nat) (lp : List PV) (er : Nat) (h1 : PH) (T' : State) (locs' : List Loc) (ls : Array Slot) (stk : List Value), (match hndF (hndL M) pc (hc h1 er) with
    | some t => k t lp [vR er] h1
    | none => some (.inr er, h1)) = some (o, hE) → lp.length = mxM M → LV ls lp → WFv lp → inT 44 47 (hc h1 er) → Stand p l e (RM d hS) s m args below meth c T' locs' (hk h1 - hk hS) (hs h1 - hs hS) → Rep s0 K h1 T'.heap → Ge hS h1 → (∀ q ∈ locs', fr0 s0 q.base) → ∃ t, Steps p.tables e below ((T'.setTop (F0 m pc ls stk)).pushFrame (.throwing (er - 1))) t ∧ MQG below (QE s0 K hS o hE) args s (hk hE - hk hS) (hs hE - hs hS) (fr0 s0) t
theorem ThrOK.plain {s0 : State} {K : KX} {p : Program} {l : Launch} {e : Env} {d : Nat} {s : State} {m : MethodId} {args : Array Value} {below : List Frame} {meth : Method} {c : Code} {hS hE : PH} {o : Ot} {M : Nat} {k : Kt} (hW : s0.WarmedH s.vm) (hlocks : meth.locks = false) (hno : hndL M = []) (hnt : c.exceptionTable.toList = []) : ThrOK s0 K p l e d s m args below meth c hS hE o M k := by
  intro pc lp er h1 T' locs' ls stk he hlen hL hwl htag X hR hG hfr
  rw [hno] at he
  have he : (some (.inr er, h1) : Rs) = some (o, hE) := he
  cases he
  obtain ⟨st1, run, ended, hw2, hsame⟩ := X.leaveThrown (er - 1) (g := F0 m pc ls stk) rfl rfl rfl (by rw [hnt]; intro x hx; cases hx) hlocks
  exact ⟨_, st1, .threw (er - 1), run, ended, ⟨rfl, hR, State.WarmedH.trans hW hw2, hG, htag⟩, _, ⟨hw2, hsame⟩, hfr⟩
/-- a call, from inside the callee on: its end is a return, or a throw that nobody here catches -/
theorem call_go {s0 : State} {a0 : Array Value} {K : KX} {p : Program} {l : Launch} {e : Env} {d : Nat} {s : State} {m : MethodId} {args : Array Value} {below : List Frame} {meth : Method} {c : Code} {M : Nat} {hS hE : PH} {o : Ot} {cf : Nat → List PV → PH → Rs} {k : Kt} {M' : Nat} {av lp st : List PV} {h : PH} {H : Heap} {ls : Array Slot} {locs : List Loc} {pc len : Nat} {ig : Instr} {stk : List Value}
    (hx0 : p.tables.exec = Jvm.exec) (hC : CX s0 a0 K) (hW : s0.WarmedH s.vm) (hml : c.maxLocals = mxM M)
    (hkk : SimK s0 K p l e (d + 1) s m args below meth c hS hE o M k) (hT0 : ThrOK s0 K p l e (d + 1) s m args below meth c hS hE o M k)
    (HF : ∀ (M1 : Nat) (a1 : List PV) (h1 : PH) (o1 : Ot) (h2 : PH), cf M1 a1 h1 = some (o1, h2) → WFv a1 → hk h1 ≤ cLim → hs h1 ≤ sLim → MOK M1 → CallOK l s0 K d M1 a1 h1 o1 h2)
    (hM : MOK M') (he : callK cf k M pc (pc + len) M' av lp st h = some (o, hE)) (hav : WFv av) (hws : WFv st) (hlen : lp.length = mxM M) (hL : LV ls lp) (hwl : WFv lp) (hR : Rep s0 K h H) (hG : Ge hS h) (hfr : ∀ q ∈ locs, fr0 s0 q.base)
    (hd : decode c.code pc = .ok (ig, len))
    (hinto : ∀ T, T.heap = H → Stand p l e (RM (d + 1) hS) s m args below meth c T locs (hk h - hk hS) (hs h - hs hS) → Into p l e (RM (d + 1) hS) s m args below meth c T locs (hk h - hk hS) (hs h - hs hS) (F0 m pc ls stk) (mNm M') (av.map cv).toArray (st.map cv)) :
    GW s0 K p l e (d + 1) s m args below meth c hS hE o h H locs (F0 m pc ls stk) := by
  unfold callK at he
  cases hst : Nat.ble (stw st) 8 with
  | false => rw [hst] at he; exact no_e he
  | true =>
  rw [hst] at he
  have hst := Nat.ble_eq.mp hst
  have he : bndH (cf M' av h) (fun v h' => k (pc + len) lp (pu v st) h') (fun e h' => match hndF (hndL M) pc (hc h' e) with
      | some t => k t lp [vR e] h'
      | none => some (.inr e, h')) = some (o, hE) := by
    cases hh : hndL M with
    | nil =>
      rw [hh] at he
      rcases hcf : cf M' av h with _ | ⟨v | er, h1⟩
      · rw [hcf] at he; exact he
      · rw [hcf] at he; exact he
      · rw [hcf] at he; exact he
    | cons x l => rw [hh] at he; exact he
  rcases hcf : cf M' av h with _ | ⟨o1, h1⟩
  · rw [hcf] at he; exact no_e he
  · rw [hcf] at he
    have hcall := HF M' av h o1 h1 hcf hav hG.2.2.1 hG.2.2.2 hM
    intro T hT X
    rcases hM.2.1 with ⟨hini, hneq⟩ | ⟨hMe, hwe⟩
    case inr =>
      obtain ⟨eh, x, y, ea, eo⟩ := hcall.2 hMe
      subst eh ea eo
      have he : k (pc + len) lp (vI (if x = y then 1 else 0) :: st) h1 = some (o, hE) := he
      obtain ⟨vm₁, mk, X1, hn, hsteps⟩ := hinto T hT X
      have hW1 : s0.WarmedH (T.setVm vm₁).vm := st_warm X1 hW
      have hcd := tg hC hW1 #[] hM.1
      rw [hwe] at hcd
      have en : mNm M' = ⟨"java/lang/Object", "equals", "(Ljava/lang/Object;)Z"⟩ := by rw [hMe]; rfl
      rw [en] at hn
      obtain ⟨methY, cY, n2, n3, n3b, n4, n6, n7, -, -⟩ := Cond.code_spec hn hcd
      obtain ⟨kY, hkY, hnY⟩ := className_of_methodNamed hn
      have hsize : ls.size = c.maxLocals := by rw [hml, ← hlen]; exact hL.1
      have hwi : wfv (vI (if x = y then 1 else 0)) := by
        by_cases e : x = y
        · rw [if_pos e]; exact ⟨by decide, by decide⟩
        · rw [if_neg e]; exact ⟨by decide, by decide⟩
      obtain ⟨tf, a1, b1⟩ := hkk (pc + len) lp (vI (if x = y then 1 else 0) :: st) h1 T.heap ls locs he hlen hL hwl (WFv.cons hwi hws) (by rw [hT]; exact hR) hG hfr (T.setVm vm₁) rfl X1
      refine ⟨tf, hsteps tf ?_, b1⟩
      have hx : (List.map cv [vR x, vR y]).toArray = #[cv (vR x), cv (vR y)] := rfl
      rw [hx]
      refine oe_walk (g := { F0 m pc ls stk with stack := st.map cv }) X1.here hx0 [] hkY hnY (Launch.admits_finalization X1.admits) n2 n3 n3b n4 n6 n7 (X1.notFull hsize (by show 1 ≤ d + 1 + 8; omega) (by show 2 * 0 + _ + (cY.maxLocals + 11) ≤ 46 * (d + 1) + 400; rw [stw_sum, n4]; omega)) hd ?_
      have e5 : F0 m (pc + len) ls (List.map cv (vI (if x = y then 1 else 0) :: st)) = { F0 m pc ls stk with pc := pc + len, stack := .int (if x = y then 1 else 0) :: st.map cv } := by
        by_cases e : x = y
        · rw [if_pos e, if_pos e]; rfl
        · rw [if_neg e, if_neg e]; rfl
      rw [e5] at a1
      exact a1
    replace hcall := hcall.1 (fun e => hneq (by rw [e]; rfl))
    obtain ⟨vm₁, mk, X1, hn, hsteps⟩ := hinto T hT X
    have hW1 : s0.WarmedH (T.setVm vm₁).vm := st_warm X1 hW
    obtain ⟨mk', methY, cY, n1, n2, n3, n4, n5⟩ := hM.at hC hW1
    cases hn.symm.trans n1
    have hsize : ls.size = c.maxLocals := by rw [hml, ← hlen]; exact hL.1
    have hG2 := hG
    obtain ⟨ox, t, T', L, hq, hLf, X2, e1, e2, hret, hthr⟩ := goG (g := { F0 m pc ls stk with stack := st.map cv }) (mc := hk h1 - hk h) (ms := hs h1 - hs h) (free := fr0 s0) (S := headSpec [wM M'] (RM d h)) (P := PE s0 K av h) hcall X1 rfl hsize hd
      (by show 2 * 0 + _ ≤ 8; rw [stw_sum]; omega) hn ⟨methY, cY, n2, n3, n4⟩ (fun kY hkY => Cond.initialized_spec (findClass_of_methodNamed hn) hkY (tg hC hW1 #[] hini)) (atoms_intro fun w hw => by rw [List.mem_singleton.mp hw]; exact tg hC hW1 _ hM.1) (by show d + 8 + 1 ≤ d + 1 + 8; omega) (by show 8 + (wMx (wM M') + 11) + (46 * d + 400) ≤ 46 * (d + 1) + 400; have := hM.2.2.1; omega)
      (by show (hk h - hk hS) + (cLim - hk h) ≤ cLim - hk hS; obtain ⟨g1, g2, g3, g4⟩ := hG2; omega) (by show (hs h - hs hS) + (sLim - hs h) ≤ sLim - hs hS; obtain ⟨g1, g2, g3, g4⟩ := hG2; omega)
      ⟨rfl, by show Rep s0 K h T.heap; rw [hT]; exact hR, hW1⟩
    obtain ⟨q1, q2, q3, q4, q5⟩ := hq
    have hG1 : Ge hS h1 := ⟨Nat.le_trans hG2.1 q4.1, Nat.le_trans hG2.2.1 q4.2.1, q4.2.2.1, q4.2.2.2⟩
    have ec : hk h - hk hS + (hk h1 - hk h) = hk h1 - hk hS := by have := hG2.1; have := q4.1; omega
    have es : hs h - hs hS + (hs h1 - hs h) = hs h1 - hs hS := by have := hG2.2.1; have := q4.2.1; omega
    rw [ec, es] at X2
    have hfr2 : ∀ q ∈ locs ++ L, fr0 s0 q.base := by
      intro q hq
      rcases List.mem_append.mp hq with z | z
      · exact hfr q z
      · exact hLf q z
    have hR1 : Rep s0 K h1 T'.heap := by rw [e1]; exact q2
    rcases o1 with v | er
    · have he : k (pc + len) lp (pu v st) h1 = some (o, hE) := he
      have hwv : WFv (pu v st) := by
        cases v with
        | none => exact hws
        | some w => exact WFv.cons q5 hws
      obtain ⟨tf, a1, b1⟩ := hkk (pc + len) lp (pu v st) h1 T'.heap ls (locs ++ L) he hlen hL hwl hwv hR1 hG1 hfr2 T' rfl X2
      have h9 := hret (v.map cv) q1
      refine ⟨tf, hsteps tf (h9.trans ?_), b1⟩
      have : (F0 m (pc + len) ls (List.map cv (pu v st))) = { F0 m pc ls stk with pc := pc + len, stack := (v.map cv).toList ++ st.map cv } := by
        cases v <;> rfl
      rw [this] at a1
      exact a1
    · have h9 := hthr (er - 1) q1
      obtain ⟨tf, a1, b1⟩ := hT0 pc lp er h1 T' (locs ++ L) ls (st.map cv) he hlen hL hwl q5 X2 hR1 hG1 hfr2
      exact ⟨tf, hsteps _ (h9.trans a1), b1⟩
