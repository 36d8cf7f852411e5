/-! HANDLERS (printed by gen/catch.py) -/
set_option maxRecDepth 100000
def ctT : List (String × Nat × Nat) := [("AlgolHouseLaw", 13, 46), ("AlgolHouseLaw", 19, 45), ("AlgolHouseLaw", 24, 47), ("AlgolHouse", 102, 44), ("AlgolHouse$Machine", 51, 44)]
theorem ctT_ok : ∀ q ∈ ctT, Cond.classLink q.1 q.2.1 (cN q.2.2) ∈ lw_all := List.forall_mem_cons.mpr ⟨lw_g (lw_at lw_m4 184 rfl) rfl, List.forall_mem_cons.mpr ⟨lw_g (lw_at lw_m14 126 rfl) rfl, List.forall_mem_cons.mpr ⟨lw_g (lw_at lw_m14 142 rfl) rfl, List.forall_mem_cons.mpr ⟨lw_g (lw_at lw_m4 189 rfl) rfl, List.forall_mem_cons.mpr ⟨lw_g (lw_at lw_m3 186 rfl) rfl, fun q h => by cases h⟩⟩⟩⟩⟩
/-- exceptions are not castable to one another -/
def NXs (s0 : State) : Prop := va_Nc "AlgolHouse$Fault" "java/lang/IllegalArgumentException" s0 ∧ va_Nc "AlgolHouse$Fault" "java/lang/IllegalStateException" s0 ∧ va_Nc "AlgolHouse$Fault" "java/lang/IndexOutOfBoundsException" s0 ∧ va_Nc "java/lang/IllegalArgumentException" "AlgolHouse$Fault" s0 ∧ va_Nc "java/lang/IllegalArgumentException" "java/lang/IllegalStateException" s0 ∧ va_Nc "java/lang/IllegalArgumentException" "java/lang/IndexOutOfBoundsException" s0 ∧ va_Nc "java/lang/IllegalStateException" "AlgolHouse$Fault" s0 ∧ va_Nc "java/lang/IllegalStateException" "java/lang/IllegalArgumentException" s0 ∧ va_Nc "java/lang/IllegalStateException" "java/lang/IndexOutOfBoundsException" s0 ∧ va_Nc "java/lang/IndexOutOfBoundsException" "AlgolHouse$Fault" s0 ∧ va_Nc "java/lang/IndexOutOfBoundsException" "java/lang/IllegalArgumentException" s0 ∧ va_Nc "java/lang/IndexOutOfBoundsException" "java/lang/IllegalStateException" s0
theorem nx_of {s0 : State} (h : NXs s0) {t u : Nat} (ht : inT 44 47 t) (hu : inT 44 47 u) (hne : t ≠ u) : va_Nc (cN t) (cN u) s0 := by
  obtain ⟨h4445, h4446, h4447, h4544, h4546, h4547, h4644, h4645, h4647, h4744, h4745, h4746⟩ := h
  rcases (by have := ht.1; have := ht.2; omega : t = 44 ∨ t = 45 ∨ t = 46 ∨ t = 47) with rfl | rfl | rfl | rfl <;> rcases (by have := hu.1; have := hu.2; omega : u = 44 ∨ u = 45 ∨ u = 46 ∨ u = 47) with rfl | rfl | rfl | rfl <;> first | exact absurd rfl hne | assumption
def hx1 (own : String) (x : Nat × Nat × Nat × Nat) (y : Nat × Nat × Nat × Nat × Nat) : Bool := Nat.beq x.1 y.1 && (Nat.beq x.2.1 y.2.1 && (Nat.beq x.2.2.1 y.2.2.1 && (Nat.beq y.2.2.2.1 y.2.2.2.2 && (Nat.ble 44 y.2.2.2.1 && (Nat.ble y.2.2.2.1 47 && (Nat.ble 1 x.2.2.2 && ctT.any fun q => decide (q.1 = own) && (Nat.beq q.2.1 x.2.2.2 && Nat.beq q.2.2 y.2.2.2.1)))))))
def hxL (own : String) : List (Nat × Nat × Nat × Nat) → List (Nat × Nat × Nat × Nat × Nat) → Bool
  | [], [] => true
  | x :: xs, y :: ys => hx1 own x y && hxL own xs ys
  | _, _ => false
def hOKi (i : Nat) : Bool := match wM (i * 262144) with
  | .codeWith n _ _ _ hh => hxL n.cls hh ((asc hndT i).getD [])
  | _ => true
set_option maxHeartbeats 4000000 in
theorem hOK_all : ((List.range 910).all hOKi) = true := by decide +kernel
theorem nth_ge {α : Type} : ∀ (l : List α) (k : Nat), l.length ≤ k → nth l k = none
  | [], _, _ => by unfold nth; rfl
  | _ :: _, 0, h => by simp at h
  | _ :: l, k + 1, h => by unfold nth; exact nth_ge l k (by simp at h; exact h)
theorem wM_ix (M : Nat) : wM M = wM (M / 262144 * 262144) := by
  unfold wM
  rw [Nat.mul_div_cancel _ (by decide)]
theorem hOK_M {M : Nat} {b : ByteArray} {n : Nat} {r : Option FieldType} {hh : List (Nat × Nat × Nat × Nat)} (h : wM M = .codeWith (mNm M) b n r hh) : hxL (mNm M).cls hh (hndL M) = true := by
  have hlt : M / 262144 < 910 := by
    rcases Nat.lt_or_ge (M / 262144) 910 with q | q
    · exact q
    · exfalso
      have e : wM M = Cond.tt := by
        unfold wM
        rw [if_pos (by omega), nth_ge wPT _ (by show 5 ≤ _; omega)]
        rfl
      rw [e] at h
      cases h
  have h1 := List.all_eq_true.mp hOK_all _ (List.mem_range.mpr hlt)
  unfold hOKi at h1
  rw [← wM_ix, h] at h1
  exact h1
def FndTo (e : Env) (s : State) (f : JFrame) (a : Addr) (h : Handler) (vm' : Vm) : Prop := ∀ (Q : Handler → Pre) (E : CtlPost) (d : Bool) (acts : List Action), wp (findHandler f a) Q E e d acts s ↔ Q h d acts (s.setVm vm')
section CT
variable {Q : Handler → Pre} {E : CtlPost} {e : Env} {d : Bool} {acts : List Action} {V : State} {f : JFrame} {a : Addr}
theorem go_link {x : ExceptionTableEntry} {t : List ExceptionTableEntry} {c : ClassId} {cell : Cell} (hx : covers x f.pc = true) (h0 : x.catchType ≠ 0)
    (hlk : V.vm.ClassLinks e.platform f.method.cls x.catchType c) (hcell : V.heap[a]? = some cell) (hobj : ∀ k, cell.vm ≠ .statics k)
    (h1 : ∃ k, V.vm.classes[cell.cls]? = some k) (h2 : ∃ k, V.vm.classes[c]? = some k) :
    wp (findHandler.go f a (x :: t)) Q E e d acts V ↔ if V.vm.assignable cell.cls c = true then Q (.found x.handlerPc) d acts (V.setVm (V.vm.noted f.method.cls x.catchType (.cls c))) else wp (findHandler.go f a t) Q E e d acts (V.setVm (V.vm.noted f.method.cls x.catchType (.cls c))) := by
  simp only [covers] at hx
  obtain ⟨ha, ht⟩ := (resolveClass_links e.toSetting hlk).op (op := VmOp.resolveClass f.method.cls x.catchType) rfl
  have hal : V.vm.Alike (V.vm.noted f.method.cls x.catchType (.cls c)) := (Vm.Alike.refl V.vm).noted _ _ _
  obtain ⟨k1, hk1⟩ := h1
  obtain ⟨k2, hk2⟩ := h2
  obtain ⟨k1', hk1', -⟩ := hal.2.2 _ _ hk1
  obtain ⟨k2', hk2', -⟩ := hal.2.2 _ _ hk2
  have hfe : (V.vm.noted f.method.cls x.catchType (.cls c)).assignable cell.cls c = V.vm.assignable cell.cls c := hal.assignable _ _
  cases hfit : V.vm.assignable cell.cls c <;> rw [hfit] at hfe <;>
    simp [findHandler.go, hx, h0, ha, ht, hcell, hobj, hk1', hk2', hfe, VmOp.dirties, VmOp.acts]
end CT
theorem fgo {e : Env} {s0 s : State} {a0 : Array Value} {K : KX} {own : String} {f : JFrame} {a : Addr} {cell : Cell} {t : Nat} (hpl : e.platform.magicAccessors = ({} : Platform).magicAccessors) (hC : CX s0 a0 K) (hW : s0.WarmedH s.vm) (hown : s.vm.findClass own = some f.method.cls) (hN : NXs s0) (htt : inT 44 47 t) (hcls : cell.cls = K.1 t) (hobj : cell.vm.isStatics = false) :
    ∀ (es : List ExceptionTableEntry) (ys : List (Nat × Nat × Nat × Nat × Nat)), hxL own (es.map fun h => (h.startPc, h.endPc, h.handlerPc, h.catchType)) ys = true → ∀ V : State, s.WarmedH V.vm → V.heap[a]? = some cell →
      ∃ vm' : Vm, s.WarmedH vm' ∧ ∀ (Q : Handler → Pre) (E : CtlPost) (d : Bool) (acts : List Action), wp (findHandler.go f a es) Q E e d acts V ↔ Q (match hndF ys f.pc t with
        | some pc => .found pc
        | none => .none) d acts (V.setVm vm') := by
  intro es
  induction es with
  | nil =>
    intro ys h V hV hcell
    cases ys with
    | nil => exact ⟨V.vm, hV, fun Q E d acts => W.findHandler_go_nil⟩
    | cons y ys => cases h
  | cons x es ih =>
    intro ys h V hV hcell
    cases ys with
    | nil => cases h
    | cons y ys =>
      obtain ⟨ya, yb, yt, lo, hi⟩ := y
      have h : (hx1 own (x.startPc, x.endPc, x.handlerPc, x.catchType) (ya, yb, yt, lo, hi) && hxL own (es.map fun h => (h.startPc, h.endPc, h.handlerPc, h.catchType)) ys) = true := h
      rw [Bool.and_eq_true] at h
      obtain ⟨h1, h2⟩ := h
      unfold hx1 at h1
      simp only [Bool.and_eq_true, Nat.beq_eq, Nat.ble_eq, List.any_eq_true, decide_eq_true_eq] at h1
      obtain ⟨e1, e2, e3, e4, e5, e6, e7, q, hq, q1, q2, q3⟩ := h1
      cases hx : covers x f.pc with
      | false =>
        obtain ⟨vm', w1, w2⟩ := ih ys h2 V hV hcell
        refine ⟨vm', w1, fun Q E d acts => ?_⟩
        have hn1 : hndF ((ya, yb, yt, lo, hi) :: ys) f.pc t = hndF ys f.pc t := by
          show (if _ then _ else _) = _
          rw [if_neg]
          intro z
          simp only [covers, Bool.and_eq_false_iff, decide_eq_false_iff_not] at hx
          omega
        rw [W.findHandler_go_skip hx, hn1]
        exact w2 Q E d acts
      | true =>
        have hcv : x.startPc ≤ f.pc ∧ f.pc < x.endPc := by simpa only [covers, Bool.and_eq_true, decide_eq_true_eq] using hx
        have hlk := tg hC hW #[] (ctT_ok q hq)
        rw [q1, q2, q3] at hlk
        obtain ⟨c, hc1, hcl⟩ := Cond.classLink_spec hown hlk e.platform hpl
        have hcK : c = K.1 lo := by
          have hf := hC.2.1 lo (by omega) (by omega)
          rw [hW.alike.findClass, hf] at hc1
          exact (Option.some.inj hc1).symm
        obtain ⟨dk, _, _, kt, hd, _, _, _, _, hkt, _, hopen⟩ := hcl.here
        have hV2 : s.WarmedH (V.vm.noted f.method.cls x.catchType (.cls c)) := hV.noted hd hopen (State.rightAt_cls hcl)
        have hclV := hV.classLinks hcl
        have hWV : s0.WarmedH V.vm := State.WarmedH.trans hW hV
        have k2 : ∃ k, V.vm.classes[c]? = some k := by obtain ⟨k', h', -⟩ := hV.alike.2.2 _ _ hkt; exact ⟨k', h'⟩
        have k1 : ∃ k, V.vm.classes[cell.cls]? = some k := by
          have hf := hC.2.1 t (by have := htt.1; omega) (by have := htt.2; omega)
          rw [← hWV.alike.findClass] at hf
          obtain ⟨k', h', -⟩ := Vm.findClass_spec hf
          exact ⟨k', by rw [hcls]; exact h'⟩
        have h0 : x.catchType ≠ 0 := by omega
        by_cases etl : t = lo
        · refine ⟨_, hV2, fun Q E d acts => ?_⟩
          have hn1 : hndF ((ya, yb, yt, lo, hi) :: ys) f.pc t = some yt := by
            show (if _ then _ else _) = _
            rw [if_pos]
            omega
          have hasg : V.vm.assignable cell.cls c = true := by rw [hcls, hcK, etl]; exact va_asg _ _
          rw [go_link hx h0 hclV hcell (stat_no hobj) k1 k2, if_pos hasg, hn1, e3]
        · obtain ⟨vm', w1, w2⟩ := ih ys h2 (V.setVm (V.vm.noted f.method.cls x.catchType (.cls c))) hV2 hcell
          refine ⟨vm', w1, fun Q E d acts => ?_⟩
          have hn1 : hndF ((ya, yb, yt, lo, hi) :: ys) f.pc t = hndF ys f.pc t := by
            show (if _ then _ else _) = _
            rw [if_neg]
            omega
          have hasg : ¬ V.vm.assignable cell.cls c = true := by
            obtain ⟨c1, t1, f1, f2, f3⟩ := va_Nc.moved (U := V) hWV.alike (nx_of hN htt ⟨e5, e6⟩ etl)
            have g1 := hC.2.1 t (by have := htt.1; omega) (by have := htt.2; omega)
            have g2 := hC.2.1 lo (by omega) (by omega)
            rw [← hWV.alike.findClass] at g1 g2
            cases Option.some.inj (f1.symm.trans g1)
            cases Option.some.inj (f2.symm.trans g2)
            rw [hcls, hcK, f3]
            decide
          rw [go_link hx h0 hclV hcell (stat_no hobj) k1 k2, if_neg hasg, hn1]
          exact w2 Q E d acts
theorem leaveTo {e : Env} {s : State} {a : Addr} {f : JFrame} {r : List Frame} {meth : Method} {vm' : Vm} (hm : vm'.method? f.method = some meth) (hlk : meth.locks = false) (hlocked : f.locked = none) (hentered : f.entered = []) (hfind : FndTo e s f a .none vm') :
    (stepThrowing e s a (.java f :: r)).Is ((s.setVm vm').setFrames (.throwing a :: r)) [] := by
  simp only [stepThrowing, searchFrame, vmDo]
  generalize hr : Sem.go _ e false [] s = res
  obtain ⟨as, rfl, ha⟩ := Sem.eq_ok_of hr (a := Handler.none) (s' := s.setVm vm') (acts' := [])
    (by cases hp : e.platform.frameOwnsMonitors <;> simp [hfind _ _ _ _, hm, hlk, hlocked, hentered, hp, leaveIfLocked])
  exact ⟨rfl, ha⟩
theorem catchTo {e : Env} {s : State} {a : Addr} {f : JFrame} {r : List Frame} {pc : Nat} {vm' : Vm} (hfind : FndTo e s f a (.found pc) vm') :
    (stepThrowing e s a (.java f :: r)).Is ((s.setVm vm').setFrames (.java { f with pc := pc, stack := [.ref a] } :: r)) [] := by
  simp only [stepThrowing, searchFrame, vmDo]
  generalize hr : Sem.go _ e false [] s = res
  obtain ⟨as, rfl, ha⟩ := Sem.eq_ok_of hr (a := Handler.found pc) (s' := s.setVm vm') (acts' := []) (by simp [hfind _ _ _ _])
  exact ⟨rfl, ha⟩
theorem sf_vm_sf (u : State) (vm' : Vm) (A B : List Frame) : ((u.setFrames A).setVm vm').setFrames B = (u.setVm vm').setFrames B := by
  have h1 : (u.setFrames A).setVm vm' = (u.setVm vm').setFrames A := rfl
  rw [h1, State.setFrames_setFrames]
theorem steps_catch {tb : Tables} {e : Env} {s target : State} {g : JFrame} {c : Code} {below : List Frame} {a : Addr} (h : At s g.method c below) {pc : Nat} {vm' : Vm}
    (hfind : FndTo e ((s.setTop g).pushFrame (.throwing a)) g a (.found pc) vm') (hrest : Steps tb e below ((s.setVm vm').setTop { g with pc := pc, stack := [.ref a] }) target) :
    Steps tb e below ((s.setTop g).pushFrame (.throwing a)) target := by
  obtain ⟨hgo, hw⟩ := h.throwing a
  refine Steps.head hgo hw ?_
  rw [stepThread_throwing (frames_entered h.top _), (catchTo (s := (s.setTop g).pushFrame (.throwing a)) hfind).1]
  obtain ⟨g₀, hg⟩ := Option.isSome_iff_exists.mp h.top
  obtain ⟨r, hr⟩ := State.topJava?_eq_some.mp hg
  have hr' : (s.setVm vm').frames = .java g₀ :: r := hr
  rw [State.setTop_of_frames _ hr'] at hrest
  rw [hr, List.tail_cons, State.pushFrame, sf_vm_sf, State.setTop_of_frames _ hr, sf_vm_sf]
  exact hrest
theorem steps_leave {tb : Tables} {e : Env} {s target : State} {g : JFrame} {c : Code} {below : List Frame} {a : Addr} (h : At s g.method c below) {vm' : Vm} {meth : Method} (hm : vm'.method? g.method = some meth) (hlk : meth.locks = false) (hlocked : g.locked = none) (hentered : g.entered = [])
    (hfind : FndTo e ((s.setTop g).pushFrame (.throwing a)) g a .none vm') (hrest : Steps tb e below ((s.setVm vm').setFrames (.throwing a :: s.frames.tail)) target) :
    Steps tb e below ((s.setTop g).pushFrame (.throwing a)) target := by
  obtain ⟨hgo, hw⟩ := h.throwing a
  refine Steps.head hgo hw ?_
  rw [stepThread_throwing (frames_entered h.top _), (leaveTo (s := (s.setTop g).pushFrame (.throwing a)) hm hlk hlocked hentered hfind).1]
  obtain ⟨g₀, hg⟩ := Option.isSome_iff_exists.mp h.top
  obtain ⟨r, hr⟩ := State.topJava?_eq_some.mp hg
  rw [State.pushFrame, sf_vm_sf, State.setTop_of_frames _ hr, sf_vm_sf]
  exact hrest
theorem catchOK {s0 : State} {a0 : Array Value} {K : KX} (hC : CX s0 a0 K) (hN : NXs s0) (M : Nat) : CatchOK s0 a0 K M := by
  intro hh p l e d s m args below meth c hS hE o k hwm hx hW hown hlocks htab hkk pc lp er h1 T' locs' ls stk he hlen hL hwl htag X hR hG hfr
  obtain ⟨b, n, r, hwm⟩ := hwm
  have hxl := hOK_M hwm
  rw [← htab] at hxl
  obtain ⟨a, cell, rfl, v1, v2, v3, v4, v5, v6⟩ := obj_cell hR (show 1 ≤ hc h1 er by have := htag.1; omega) (by have := htag.2; omega)
  have hpl : e.platform.magicAccessors = ({} : Platform).magicAccessors := by rw [X.admits.platform]
  obtain ⟨vm', w1, w2⟩ := fgo (f := F0 m pc ls stk) (a := a) hpl hC hW hown hN htag v4 v3 c.exceptionTable.toList (hndL M) hxl ((T'.setTop (F0 m pc ls stk)).pushFrame (.throwing a)) (by rw [Stand.throwing_vm]; exact X.warmed) (by rw [Stand.throwing_heap]; exact v1)
  have hf : ∀ (Q : Handler → Pre) (E : CtlPost) (d : Bool) (acts : List Action), wp (findHandler (F0 m pc ls stk) a) Q E e d acts ((T'.setTop (F0 m pc ls stk)).pushFrame (.throwing a)) ↔ Q (match hndF (hndL M) pc (hc h1 (a + 1)) with
      | some pc => .found pc
      | none => .none) d acts (((T'.setTop (F0 m pc ls stk)).pushFrame (.throwing a)).setVm vm') := fun Q E d acts => by
    rw [W.findHandler_eq (meth := meth) (code := c) (by rw [Stand.throwing_vm]; exact X.method') X.code]
    exact w2 Q E d acts
  have X' := X.noted w1
  cases hq : hndF (hndL M) pc (hc h1 (a + 1)) with
  | some t =>
    rw [hq] at he hf
    obtain ⟨tf, a1, b1⟩ := hkk t lp [vR (a + 1)] h1 T'.heap ls locs' he hlen hL hwl (WFv.cons trivial (fun v hv => by cases hv)) hR hG hfr (T'.setVm vm') rfl X'
    exact ⟨tf, steps_catch (g := F0 m pc ls stk) X.here hf a1, b1⟩
  | none =>
    rw [hq] at he hf
    have he : (some (.inr (a + 1), h1) : Rs) = some (o, hE) := he
    cases he
    obtain ⟨g₀, hfr0⟩ := X'.frames_eq
    refine ⟨(T'.setVm vm').setFrames (.throwing a :: below), steps_leave (g := F0 m pc ls stk) X.here (meth := meth) X'.method' hlocks rfl rfl hf ?_, .threw a, X'.here.running, State.frames_setFrames _ (State.cur_lt_of_frames hfr0), ⟨rfl, hR, State.WarmedH.trans hW (X'.ends _).1, hG, htag⟩, _, ⟨(X'.ends _).1, (X'.ends _).2⟩, hfr⟩
    rw [X.tail]
    exact Steps.refl _
