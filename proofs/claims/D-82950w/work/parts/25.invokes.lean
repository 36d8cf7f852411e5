/-! SIMULATION: invoke instructions, athrow, switches (printed by gen/sim25.py) -/
set_option maxRecDepth 100000
def pnaT : List Nat := [1, 2, 3, 2, 3, 1, 2, 3, 3, 2, 2, 2, 2, 2, 2, 2, 2, 2, 2, 2, 2, 2, 2, 2, 2, 2, 2, 2, 2, 2, 2, 2, 2, 2, 2, 2, 2, 2, 2, 2, 2, 2, 2, 2, 2, 2, 2, 2]
theorem sim_invokestatic {s0 : State} {a0 : Array Value} {K : KX} {own : String} {p : Program} {l : Launch} {e : Env} {d : Nat} {s : State} {m : MethodId} {args : Array Value} {below : List Frame} {meth : Method} {c : Code} {M : Nat} {hS hE : PH} {o : Ot} {Ω : Om} {κ μ : List (Nat × Int)} {ini : Bool} {cf : Nat → List PV → PH → Rs} {k : Kt} (hx : p.tables.exec = Jvm.exec) (hC : CX s0 a0 K) (hW : s0.WarmedH s.vm) (hown : s.vm.findClass own = some m.cls) (hlocks : meth.locks = false) (hml : c.maxLocals = mxM M) (hT0 : ThrOK s0 K p l e (d + 1) s m args below meth c hS hE o M k) (HF : ∀ (M1 : Nat) (a1 : List PV) (h1 : PH) (o1 : Ot) (h2 : PH), cf M1 a1 h1 = some (o1, h2) → WFv a1 → hk h1 ≤ cLim → hs h1 ≤ sLim → MOK M1 → CallOK l s0 K d M1 a1 h1 o1 h2) (hΩ : ∀ m0, StepOK s0 K p l e (d + 1) s m args below meth c hS hE o M Ω κ μ ini cf k (.invokestatic m0) ∨ ∀ q ∈ (nth Ω 9).getD [], q.2 = m0 → SMk own q.1 q.2) (hkk : SimK s0 K p l e (d + 1) s m args below meth c hS hE o M k) (m0 : Nat) : StepOK s0 K p l e (d + 1) s m args below meth c hS hE o M Ω κ μ ini cf k (.invokestatic m0) := by
  intro b len pc lp st h H ls locs hck hln hB he hlen hL hwl hws hR hG hfr
  rcases hΩ m0 with hac | hΩ
  · exact hac b len pc lp st h H ls locs hck hln hB he hlen hL hwl hws hR hG hfr
  · obtain ⟨y, y2, l', rfl, hin, rfl⟩ := l3_s hck hln
    obtain ⟨hM, hp, hst, hlk⟩ := hΩ _ hin rfl
    have he : (match popN (m0 % 16) [] st with | some (av, st) => callK cf k M pc (pc + 3) m0 av lp st h | none => none) = some (o, hE) := he
    rcases hpp : popN (m0 % 16) [] st with _ | ⟨av, st'⟩
    · rw [hpp] at he; exact no_e he
    · rw [hpp] at he
      obtain ⟨e1, e2, w1, w2⟩ := pop_args hpp hws
      refine call_go hx hC hW hml hkk hT0 HF hM he w1 w2 hlen hL hwl hR hG hfr (dk_184 hB) (fun T hT X => ?_)
      rcases hlk with hl | ⟨host, hl⟩
      · exact intoS X hx hown (tg hC hW args hl) (tg hC hW args hst.1) (tg hC hW args hst.2) (SigOf.ok hC hW hM) hM.2.2.2.2 rfl (fun sig q => by rw [List.length_map, e2]; exact npar_s hp sig q) e1 (dk_184 hB)
      · exact intoSN X hx hown (tmn hC hW args hl) (tg hC hW args hst.1) (tg hC hW args hst.2) (SigOf.ok hC hW hM) hM.2.2.2.2 rfl (fun sig q => by rw [List.length_map, e2]; exact npar_s hp sig q) e1 (dk_184 hB)
theorem sim_invokespecial {s0 : State} {a0 : Array Value} {K : KX} {own : String} {p : Program} {l : Launch} {e : Env} {d : Nat} {s : State} {m : MethodId} {args : Array Value} {below : List Frame} {meth : Method} {c : Code} {M : Nat} {hS hE : PH} {o : Ot} {Ω : Om} {κ μ : List (Nat × Int)} {ini : Bool} {cf : Nat → List PV → PH → Rs} {k : Kt} (hx : p.tables.exec = Jvm.exec) (hC : CX s0 a0 K) (hW : s0.WarmedH s.vm) (hown : s.vm.findClass own = some m.cls) (hlocks : meth.locks = false) (hml : c.maxLocals = mxM M) (hT0 : ThrOK s0 K p l e (d + 1) s m args below meth c hS hE o M k) (HF : ∀ (M1 : Nat) (a1 : List PV) (h1 : PH) (o1 : Ot) (h2 : PH), cf M1 a1 h1 = some (o1, h2) → WFv a1 → hk h1 ≤ cLim → hs h1 ≤ sLim → MOK M1 → CallOK l s0 K d M1 a1 h1 o1 h2) (hΩ : ∀ q ∈ (nth Ω 10).getD [], IMk own q.1 q.2) (hT : ∀ m0 i t, (i, m0) ∈ (nth Ω 10).getD [] → inT (m0 / 16 % 128) (m0 / 2048 % 128) t → inT 1 55 t) (hkk : SimK s0 K p l e (d + 1) s m args below meth c hS hE o M k) (m0 : Nat) : StepOK s0 K p l e (d + 1) s m args below meth c hS hE o M Ω κ μ ini cf k (.invokespecial m0) := by
  intro b len pc lp st h H ls locs hck hln hB he hlen hL hwl hws hR hG hfr
  obtain ⟨y, y2, l', rfl, hin, rfl⟩ := l3_s hck hln
  obtain ⟨hM, hp, h1, hnm, hi, ⟨bb, nn, hcw⟩, hlk⟩ := hΩ _ hin
  have he : (match popN (m0 % 16) [] st with | some (.inr (.inr (.inl r)) :: args, st) => gd (inT (m0 / 16 % 128) (m0 / 2048 % 128) (hc h r)) (callK cf k M pc (pc + 3) m0 (vR r :: args) lp st h) | _ => none) = some (o, hE) := he
  rcases hpp : popN (m0 % 16) [] st with _ | ⟨_ | ⟨r | ⟨r | ⟨r | r⟩⟩, av⟩, st'⟩ <;> rw [hpp] at he <;> first | exact no_e he | skip
  obtain ⟨hg, he2⟩ := gd_some he
  obtain ⟨e1, e2, w1, w2⟩ := pop_args hpp hws
  obtain ⟨a, cell, e3, v1, v2, v3⟩ := val_cls hC hW hR (hT m0 _ _ hin hg)
  subst e3
  have e4 : st.map cv = (av.map cv).reverse ++ Value.ref a :: st'.map cv := by rw [e1]; simp [cv, rv]
  have e5 : (av.map cv).length = m0 % 16 - 1 := by rw [List.length_map]; simp only [List.length_cons] at e2; omega
  refine call_go hx hC hW hml hkk hT0 HF hM he2 w1 w2 hlen hL hwl hR hG hfr (dk_183 hB) (fun T hT X => ?_)
  have hcw2 : (Cond.code (mNm m0) bb nn none).before args s = true := by have := tg hC hW args hM.1; rw [hcw] at this; exact this
  rcases hlk with hl | ⟨host, hl⟩
  · exact intoI X hx hown hnm (tg hC hW args hl) (tg hC hW args hi) hcw2 hM.2.2.2.2 rfl (fun sig q => by rw [e5]; exact npar_s hp sig q) e4 (dk_183 hB)
  · exact intoIN X hx hown hnm (tmn hC hW args hl) (tg hC hW args hi) hcw2 hM.2.2.2.2 rfl (fun sig q => by rw [e5]; exact npar_s hp sig q) e4 (dk_183 hB)
theorem sim_invokevirtual {s0 : State} {a0 : Array Value} {K : KX} {own : String} {p : Program} {l : Launch} {e : Env} {d : Nat} {s : State} {m : MethodId} {args : Array Value} {below : List Frame} {meth : Method} {c : Code} {M : Nat} {hS hE : PH} {o : Ot} {Ω : Om} {κ μ : List (Nat × Int)} {ini : Bool} {cf : Nat → List PV → PH → Rs} {k : Kt} (hx : p.tables.exec = Jvm.exec) (hC : CX s0 a0 K) (hW : s0.WarmedH s.vm) (hown : s.vm.findClass own = some m.cls) (hlocks : meth.locks = false) (hml : c.maxLocals = mxM M) (hT0 : ThrOK s0 K p l e (d + 1) s m args below meth c hS hE o M k) (HF : ∀ (M1 : Nat) (a1 : List PV) (h1 : PH) (o1 : Ot) (h2 : PH), cf M1 a1 h1 = some (o1, h2) → WFv a1 → hk h1 ≤ cLim → hs h1 ≤ sLim → MOK M1 → CallOK l s0 K d M1 a1 h1 o1 h2) (hΩ : ∀ q ∈ (nth Ω 11).getD [], VMk own q.1 q.2) (hJ : ∀ q ∈ (nth Ω 14).getD [], JMk own q.1 q.2) (hkk : SimK s0 K p l e (d + 1) s m args below meth c hS hE o M k) (m0 : Nat) : StepOK s0 K p l e (d + 1) s m args below meth c hS hE o M Ω κ μ ini cf k (.invokevirtual m0) := by
  intro b len pc lp st h H ls locs hck hln hB he hlen hL hwl hws hR hG hfr
  have hm := f0_s hck hln
  simp only [List.mem_cons, List.not_mem_nil, or_false] at hm
  have he : (match popN (m0 % 16) [] st with | some (.inr (.inr (.inl r)) :: args, st) => gd (inT (m0 / 16 % 128) (m0 / 2048 % 128) (hc h r)) (callK cf k M pc (pc + len) m0 (vR r :: args) lp st h) | _ => none) = some (o, hE) := he
  rcases hpp : popN (m0 % 16) [] st with _ | ⟨_ | ⟨r | ⟨r | ⟨r | r⟩⟩, av⟩, st'⟩ <;> rw [hpp] at he <;> first | exact no_e he | skip
  rcases hm with hm | hm
  · obtain ⟨y, y2, l', rfl, hin, rfl⟩ := l3_s hm.symm hln
    obtain ⟨hM, h1, hall⟩ := hΩ _ hin
    obtain ⟨hg, he2⟩ := gd_some he
    obtain ⟨e1, e2, w1, w2⟩ := pop_args hpp hws
    obtain ⟨a, cell, e3, v1, v2, v3⟩ := val_cls hC hW hR (show inT 1 55 _ from (hall _ (gd_some he).1).1)
    subst e3
    have e4 : st.map cv = (av.map cv).reverse ++ Value.ref a :: st'.map cv := by rw [e1]; simp [cv, rv]
    have e5 : (av.map cv).length = m0 % 16 - 1 := by rw [List.length_map]; simp only [List.length_cons] at e2; omega
    refine call_go hx hC hW hml hkk hT0 HF hM he2 w1 w2 hlen hL hwl hR hG hfr (dk_182 hB) (fun T hT X => ?_)
    exact into_v X hx hC hW hown hM (hall _ hg).2 (by rw [hT]; exact v1) v2 v3 rfl e5 e4 (dk_182 hB)
  · split at hm
    · rename_i y y2 l2
      obtain ⟨hin, hl5⟩ := cond_s hm.symm hln
      subst hl5
      obtain ⟨hM, h1, x, hp, hmh, hl, hd1, hf1, hpb, hi, hall⟩ := hJ _ (inL_s hin)
      obtain ⟨hg, he2⟩ := gd_some he
      obtain ⟨e1, e2, w1, w2⟩ := pop_args hpp hws
      obtain ⟨a, cell, e3, v1, v2, v3⟩ := val_cls hC hW hR (show inT 1 55 _ from (hall _ (gd_some he).1).1)
      subst e3
      have e4 : st.map cv = (av.map cv).reverse ++ Value.ref a :: st'.map cv := by rw [e1]; simp [cv, rv]
      have e5 : (av.map cv).length = m0 % 16 - 1 := by rw [List.length_map]; simp only [List.length_cons] at e2; omega
      obtain ⟨-, hun, hca, hse⟩ := hall _ hg
      refine call_go hx hC hW hml hkk hT0 HF hM he2 w1 w2 hlen hL hwl hR hG hfr (dk_185 hB) (fun T hT X => ?_)
      obtain ⟨f1, f2, f3, f4, f5⟩ := va_Fw.moved (U := s) hmh hW.alike (va_Fw.of (hC.1 _ hd1) (hC.1 _ hf1) (hC.1 _ hpb) (hC.1 _ hun) (hC.1 _ hca))
      exact into_f X hx hown (tg hC hW args hl) (va_any rfl f1) (va_any rfl f2) (va_any rfl f3) (va_any rfl f4) (va_any rfl f5) hmh (tg hC hW args hse) (tg hC hW args hi) (by rw [hT]; exact v1) v2 v3 rfl (fun sig q => by rw [e5, h1]; exact npar_s hp sig q) e4 (dk_185 hB)
    · exact absurd hm hln
/-- how many arguments a call with several targets has -/
def pN (p n : Nat) : Prop := nth pnaT p = some n
theorem sim_invokeinterface {s0 : State} {a0 : Array Value} {K : KX} {own : String} {p : Program} {l : Launch} {e : Env} {d : Nat} {s : State} {m : MethodId} {args : Array Value} {below : List Frame} {meth : Method} {c : Code} {M : Nat} {hS hE : PH} {o : Ot} {Ω : Om} {κ μ : List (Nat × Int)} {ini : Bool} {cf : Nat → List PV → PH → Rs} {k : Kt} (hx : p.tables.exec = Jvm.exec) (hC : CX s0 a0 K) (hW : s0.WarmedH s.vm) (hown : s.vm.findClass own = some m.cls) (hlocks : meth.locks = false) (hml : c.maxLocals = mxM M) (hT0 : ThrOK s0 K p l e (d + 1) s m args below meth c hS hE o M k) (HF : ∀ (M1 : Nat) (a1 : List PV) (h1 : PH) (o1 : Ot) (h2 : PH), cf M1 a1 h1 = some (o1, h2) → WFv a1 → hk h1 ≤ cLim → hs h1 ≤ sLim → MOK M1 → CallOK l s0 K d M1 a1 h1 o1 h2) (hΩ : ∀ i q, (i, q) ∈ (nth Ω 12).getD [] → ∀ n, pN q n → PMk own i q n) (hkk : SimK s0 K p l e (d + 1) s m args below meth c hS hE o M k) (p0 n0 : Nat) (hn0 : pN p0 n0) : StepOK s0 K p l e (d + 1) s m args below meth c hS hE o M Ω κ μ ini cf k (.invokeinterface p0 n0) := by
  intro b len pc lp st h H ls locs hck hln hB he hlen hL hwl hws hR hG hfr
  obtain ⟨y, y2, l', rfl, hin, rfl⟩ := l3_s hck hln
  obtain ⟨h1, hall⟩ := hΩ _ _ hin n0 hn0
  have he : (match popN n0 [] st with | some (.inr (.inr (.inl r)) :: args, st) => (match dsp p0 (hc h r) with | some m => callK cf k M pc (pc + 3) m (vR r :: args) lp st h | none => none) | _ => none) = some (o, hE) := he
  rcases hpp : popN n0 [] st with _ | ⟨_ | ⟨r | ⟨r | ⟨r | r⟩⟩, av⟩, st'⟩ <;> rw [hpp] at he <;> first | exact no_e he | skip
  have he : (match dsp p0 (hc h r) with | some m => callK cf k M pc (pc + 3) m (vR r :: av) lp st' h | none => none) = some (o, hE) := he
  rcases hds : dsp p0 (hc h r) with _ | m0
  · rw [hds] at he; exact no_e he
  · rw [hds] at he
    have he2 : callK cf k M pc (pc + 3) m0 (vR r :: av) lp st' h = some (o, hE) := he
    obtain ⟨hM, ht, hvt⟩ := hall _ _ hds
    obtain ⟨e1, e2, w1, w2⟩ := pop_args hpp hws
    obtain ⟨a, cell, e3, v1, v2, v3⟩ := val_cls hC hW hR (show inT 1 55 _ from ht)
    subst e3
    have e4 : st.map cv = (av.map cv).reverse ++ Value.ref a :: st'.map cv := by rw [e1]; simp [cv, rv]
    have e5 : (av.map cv).length = n0 - 1 := by rw [List.length_map]; simp only [List.length_cons] at e2; omega
    refine call_go hx hC hW hml hkk hT0 HF hM he2 w1 w2 hlen hL hwl hR hG hfr (dk_182 hB) (fun T hT X => ?_)
    exact into_v X hx hC hW hown hM hvt (by rw [hT]; exact v1) v2 v3 rfl e5 e4 (dk_182 hB)
theorem throw_go {p : Program} {l : Launch} {e : Env} {R : Room} {s : State} {m : MethodId} {args : Array Value} {below : List Frame} {meth : Method} {c : Code} {T t : State} {locs : List Loc} {cells slots pc a : Nat} {ls : Array Slot} {rest : List Value} {cell : Cell} (hexec : p.tables.exec = Jvm.exec) (X : Stand p l e R s m args below meth c T locs cells slots) (hd : decode c.code pc = .ok (.athrow, 1)) (hcell : T.heap[a]? = some cell) (hobj : cell.vm.isStatics = false)
    (h : Steps p.tables e below ((T.setTop (F0 m pc ls rest)).pushFrame (.throwing a)) t) : Steps p.tables e below (T.setTop (F0 m pc ls (.ref a :: rest))) t := by
  jvm_step X.here [hexec, hd]
  exact h
theorem sim_athrow {s0 : State} {a0 : Array Value} {K : KX} {own : String} {p : Program} {l : Launch} {e : Env} {d : Nat} {s : State} {m : MethodId} {args : Array Value} {below : List Frame} {meth : Method} {c : Code} {M : Nat} {hS hE : PH} {o : Ot} {Ω : Om} {κ μ : List (Nat × Int)} {ini : Bool} {cf : Nat → List PV → PH → Rs} {k : Kt} (hx : p.tables.exec = Jvm.exec) (hC : CX s0 a0 K) (hW : s0.WarmedH s.vm) (hown : s.vm.findClass own = some m.cls) (hlocks : meth.locks = false) (hml : c.maxLocals = mxM M) (hT0 : ThrOK s0 K p l e (d + 1) s m args below meth c hS hE o M k) (hkk : SimK s0 K p l e (d + 1) s m args below meth c hS hE o M k) : StepOK s0 K p l e (d + 1) s m args below meth c hS hE o M Ω κ μ ini cf k .athrow := by
  intro b len pc lp st h H ls locs hck hln hB he hlen hL hwl hws hR hG hfr
  obtain ⟨l', rfl, rfl⟩ := o1_s hck hln
  rcases st with _ | ⟨x | ⟨x | ⟨x | x⟩⟩, st⟩ <;> first | exact no_e (show (none : Rs) = some (o, hE) from he) | skip
  have he : gd (inT 44 47 (hc h x)) (match hndF (hndL M) pc (hc h x) with | some t => k t lp [vR x] h | none => some (.inr x, h)) = some (o, hE) := he
  obtain ⟨hg, he2⟩ := gd_some he
  obtain ⟨a, cell, e3, v1, v2, v3⟩ := val_cls (r := x) hC hW hR (by omega)
  subst e3
  intro T hT X
  obtain ⟨tf, a1, b1⟩ := hT0 pc lp (a + 1) h T locs ls (List.map cv st) he2 hlen hL hwl hg X (by rw [hT]; exact hR) hG hfr
  exact ⟨tf, throw_go hx X (dk_191 hB) (by rw [hT]; exact v1) v2 a1, b1⟩
