/-! SIMULATION: aastore, casts, pop, returns (printed by gen/sim21.py) -/
set_option maxRecDepth 100000
theorem stat_no {d : VmData} (h : d.isStatics = false) : ∀ q, d ≠ .statics q := fun q e => by rw [e] at h; cases h
/-- the class of what lies at a key -/
theorem val_cls {s0 s : State} {a0 : Array Value} {K : KX} {h : PH} {H : Heap} {r : Nat} (hC : CX s0 a0 K) (hW : s0.WarmedH s.vm) (hR : Rep s0 K h H) (ht : inT 1 55 (hc h r)) : ∃ (a : Nat) (cell : Cell), r = a + 1 ∧ H[a]? = some cell ∧ cell.vm.isStatics = false ∧ s.vm.findClass (cN (hc h r)) = some cell.cls := by
  obtain ⟨a, cell, rfl, c1, c2, c3, c4, c5, c6⟩ := obj_cell hR ht.1 ht.2
  refine ⟨a, cell, rfl, c1, c3, ?_⟩
  rw [c4]
  have := hC.2.1 _ ht.1 ht.2
  first | (rw [← hW.alike.findClass]; exact this) | (rw [hW.alike.findClass]; exact this)
theorem sim_aastore {s0 : State} {a0 : Array Value} {K : KX} {own : String} {p : Program} {l : Launch} {e : Env} {d : Nat} {s : State} {m : MethodId} {args : Array Value} {below : List Frame} {meth : Method} {c : Code} {M : Nat} {hS hE : PH} {o : Ot} {Ω : Om} {κ μ : List (Nat × Int)} {ini : Bool} {cf : Nat → List PV → PH → Rs} {k : Kt} (hx : p.tables.exec = Jvm.exec) (hC : CX s0 a0 K) (hW : s0.WarmedH s.vm) (hown : s.vm.findClass own = some m.cls) (hO : ∀ t, 1 ≤ t → t ≤ 55 → Cond.castable (cN t) "java/lang/Object" ∈ lw_tbl) (hOI : Cond.castable "[I" "java/lang/Object" ∈ lw_tbl) (hkk : SimK s0 K p l e d s m args below meth c hS hE o M k) : StepOK s0 K p l e d s m args below meth c hS hE o M Ω κ μ ini cf k .aastore := by
  intro b len pc lp st h H ls locs hck hln hB he hlen hL hwl hws hR hG hfr
  obtain ⟨l', rfl, rfl⟩ := o1_s hck hln
  rcases st with _ | ⟨z | ⟨z | ⟨z | z⟩⟩, _ | ⟨y | ⟨y | ⟨y | y⟩⟩, _ | ⟨x | ⟨x | ⟨x | x⟩⟩, st⟩⟩⟩ <;> first | exact no_e (show (none : Rs) = some (o, hE) from he) | skip
  have he : gd (inT 71 75 (hc h x) ∧ hc h x ≠ 72 ∧ okE h (hc h x) z ∧ inA y (hl h x)) (k (pc + 1) lp st (qR h x y z)) = some (o, hE) := he
  obtain ⟨hg, he⟩ := gd_some he
  obtain ⟨a, cell, rfl, c1, c2, c3, c4, c5, c6, c7⟩ := arr_cell hR (r := x) (by have := hg.1; omega)
  obtain ⟨i1, i2, i3, i4⟩ := arr_ix hR c6 hg.2.2.2
  have ht4 : hc h (a + 1) = 71 ∨ hc h (a + 1) = 73 ∨ hc h (a + 1) = 74 ∨ hc h (a + 1) = 75 := by have := hg.1; have := hg.2.1; omega
  have hm : mdA (hc h (a + 1)) = true := by rcases ht4 with q | q | q | q <;> rw [q] <;> rfl
  have hak : ak (hc h (a + 1)) = 2 := by rcases ht4 with q | q | q | q <;> rw [q] <;> rfl
  obtain ⟨C, hCt, hCv⟩ : ∃ C, aT (hc h (a + 1)) = .object C ∧ (z = 0 ∨ ∃ (b : Nat) (cv : Cell) (ct : ClassId), z = b + 1 ∧ H[b]? = some cv ∧ cv.vm.isStatics = false ∧ s.vm.findClass C = some ct ∧ (∃ kv, s.vm.classes[cv.cls]? = some kv) ∧ s.vm.assignable cv.cls ct = true) := by
    have hcls : ∀ (b : Nat) (cv : Cell) (nm : String), s.vm.findClass nm = some cv.cls → ∃ kv, s.vm.classes[cv.cls]? = some kv := fun b cv nm q => by obtain ⟨kv, hkv, -⟩ := Vm.findClass_spec q; exact ⟨kv, hkv⟩
    rcases ht4 with q | q | q | q
    · refine ⟨"java/lang/Object", by rw [q]; rfl, ?_⟩
      rcases hg.2.2.1 with h0 | ⟨-, h1⟩ | ⟨h1, -⟩ | ⟨h1, -⟩ | ⟨h1, -⟩
      · exact Or.inl h0
      · rcases h1 with h1 | h1
        · obtain ⟨b, cv, rfl, v1, v2, v3⟩ := val_cls hC hW hR h1
          obtain ⟨c0, t0, f1, f2, f3⟩ := Cond.castable_spec (va_Nw.use (A := args) rfl (tca hC hW (hO _ h1.1 h1.2)))
          cases v3.symm.trans f1
          exact Or.inr ⟨b, cv, t0, rfl, v1, v2, f2, hcls b cv _ v3, f3⟩
        · obtain ⟨b, cv, rfl, v1, v2, v3, v4, v5, v6, v7⟩ := arr_cell hR (r := z) (by omega)
          have hra : s.vm.findClass "[I" = some cv.cls := by have h8 := va_RA.moved hW.alike (v5 (by rw [h1]; rfl)).2.1; rw [h1] at h8; exact h8
          obtain ⟨c0, t0, f1, f2, f3⟩ := Cond.castable_spec (va_Nw.use (A := args) rfl (tca hC hW hOI))
          cases hra.symm.trans f1
          exact Or.inr ⟨b, cv, t0, rfl, v1, v3, f2, hcls b cv _ hra, f3⟩
      · omega
      · omega
      · omega
    · refine ⟨"AlgolHouse$Token", by rw [q]; rfl, ?_⟩
      rcases hg.2.2.1 with h0 | ⟨h1, -⟩ | ⟨h1, h2⟩ | ⟨h1, h2⟩ | ⟨h1, h2⟩
      · exact Or.inl h0
      · omega
      · obtain ⟨b, cv, rfl, v1, v2, v3⟩ := val_cls hC hW hR (show inT 1 55 (hc h z) by omega)
        rw [h2] at v3
        exact Or.inr ⟨b, cv, cv.cls, rfl, v1, v2, v3, hcls b cv _ v3, va_asg _ _⟩
      · omega
      · omega
    · refine ⟨"AlgolHouse$Range", by rw [q]; rfl, ?_⟩
      rcases hg.2.2.1 with h0 | ⟨h1, -⟩ | ⟨h1, h2⟩ | ⟨h1, h2⟩ | ⟨h1, h2⟩
      · exact Or.inl h0
      · omega
      · omega
      · obtain ⟨b, cv, rfl, v1, v2, v3⟩ := val_cls hC hW hR (show inT 1 55 (hc h z) by omega)
        rw [h2] at v3
        exact Or.inr ⟨b, cv, cv.cls, rfl, v1, v2, v3, hcls b cv _ v3, va_asg _ _⟩
      · omega
    · refine ⟨"AlgolHouse$Value", by rw [q]; rfl, ?_⟩
      rcases hg.2.2.1 with h0 | ⟨h1, -⟩ | ⟨h1, h2⟩ | ⟨h1, h2⟩ | ⟨h1, h2⟩
      · exact Or.inl h0
      · omega
      · omega
      · omega
      · obtain ⟨b, cv, rfl, v1, v2, v3⟩ := val_cls hC hW hR (show inT 1 55 (hc h z) by omega)
        rw [h2] at v3
        exact Or.inr ⟨b, cv, cv.cls, rfl, v1, v2, v3, hcls b cv _ v3, va_asg _ _⟩
  rw [hCt] at c4 c5
  have hev : ev (qR h (a + 1) y z) (hc h (a + 1)) (a + 1) ((y.toNat : Nat) : Int) = rv z := by rw [i3]; unfold ev; rw [hak]; show rv (eR (qR h (a + 1) y z) (a + 1) y) = _; rw [eR_qR]
  have hS2 : SameE h (qR h (a + 1) y z) (a + 1) ((y.toNat : Nat) : Int) := by rw [i3]; exact same_qR
  have hwq : WFH (qR h (a + 1) y z) := hR.wf
  have fin : ∀ H' : Heap, H'[a]? = some (cell.setSlot y.toNat (rv z)) → H'.size = H.size → (∀ q, q ≠ a → H'[q]? = H[q]?) → GW s0 K p l e d s m args below meth c hS hE o h H' (locs ++ [⟨a, y.toNat⟩]) (F0 m (pc + 1) ls (List.map cv st)) := by
    intro H' e1 e2 e3
    have hR' := Rep.putE (r := a + 1) hR (by omega) hm i2 hS2 hwq c1 (by rw [hev]; exact e1) e2 e3
    have hw := hkk _ _ _ _ _ ls _ he hlen hL hwl hws.tl.tl.tl hR' (ge_same rfl rfl hG) (fr_add (x := ⟨a, y.toNat⟩) hfr (c5 hm).2.2)
    exact hw
  rcases hCv with rfl | ⟨b, cv, ct, rfl, v1, v2, v3, ⟨kv, v4⟩, v5⟩
  · exact va_WaastN (C := C) hx rfl c1 (arr_mv hW c4) c2 i4 rfl rfl (dk_83 hB) (fun H' e1 e2 e3 => by rw [i1] at e1 ⊢; exact fin H' e1 e2 e3)
  · obtain ⟨kA, comp, k1, k2, k3, k4⟩ := va_RA.moved hW.alike (c5 hm).2.1
    obtain ⟨kE, hkE, -⟩ := Vm.findClass_spec k3
    cases k3.symm.trans v3
    exact W.aast hx rfl c1 (stat_no c3) c2 k1 k2 rfl hkE ⟨fun q => i4 (Or.inl q), by rw [i1]; exact i2⟩ v1 (stat_no v2) v4 v5 rfl rfl (dk_83 hB) (fun H' e1 e2 e3 => by rw [i1] at e1 ⊢; exact fin H' e1 e2 e3)
theorem sim_checkcast {s0 : State} {a0 : Array Value} {K : KX} {own : String} {p : Program} {l : Launch} {e : Env} {d : Nat} {s : State} {m : MethodId} {args : Array Value} {below : List Frame} {meth : Method} {c : Code} {M : Nat} {hS hE : PH} {o : Ot} {Ω : Om} {κ μ : List (Nat × Int)} {ini : Bool} {cf : Nat → List PV → PH → Rs} {k : Kt} (hx : p.tables.exec = Jvm.exec) (hC : CX s0 a0 K) (hW : s0.WarmedH s.vm) (hown : s.vm.findClass own = some m.cls) (hΩ : ∀ q ∈ (nth Ω 7).getD [], XLk own q.1 q.2) (hkk : SimK s0 K p l e d s m args below meth c hS hE o M k) (q : Nat) : StepOK s0 K p l e d s m args below meth c hS hE o M Ω κ μ ini cf k (.checkcast q) := by
  intro b len pc lp st h H ls locs hck hln hB he hlen hL hwl hws hR hG hfr
  obtain ⟨y, y2, l', rfl, hin, rfl⟩ := l3_s hck hln
  rcases st with _ | ⟨x | ⟨x | ⟨x | x⟩⟩, st⟩ <;> first | exact no_e (show (none : Rs) = some (o, hE) from he) | skip
  have he : gd (x = 0 ∨ inT (q % 128) (q / 128) (hc h x)) (k (pc + 3) lp (vR x :: st) h) = some (o, hE) := he
  obtain ⟨hg, he2⟩ := gd_some he
  rcases x with _ | x
  · exact lv_castN hx rfl (dk_192 hB) (hkk _ _ _ _ _ _ _ he2 hlen hL hwl hws hR hG hfr)
  · rcases hg with hg | hg
    · omega
    · rcases hΩ _ hin with ⟨nm, hlk, hall⟩ | ⟨hq, hlk⟩
      · obtain ⟨ht, hcn⟩ := hall _ hg.1 hg.2
        obtain ⟨a, cell, e1, v1, v2, v3⟩ := val_cls hC hW hR (show inT 1 55 _ from ht)
        cases e1
        rcases hcn with hcn | hcn
        · rw [hcn] at v3
          intro T hT X
          obtain ⟨vm', X', st2⟩ := X.checkcastYes hx hown (tg hC hW args hlk) (by rw [hT]; exact v1) v2 v3 (va_asg _ _) (g := F0 m pc ls (List.map cv (vR (x + 1) :: st))) rfl rfl (dk_192 hB)
          obtain ⟨t, a1, b1⟩ := hkk _ _ _ _ _ _ _ he2 hlen hL hwl hws hR hG hfr (T.setVm vm') hT X'
          exact ⟨t, st2 t a1, b1⟩
        · exact va_castY hx rfl hown (tg hC hW args hlk) (tca hC hW hcn) ⟨cell, v1, v2, v3⟩ (dk_192 hB) (hkk _ _ _ _ _ _ _ he2 hlen hL hwl hws hR hG hfr)
      · have hq : q = 8385 := hq
        subst hq
        have h65 : hc h (x + 1) = 65 := by have := hg.1; have := hg.2; omega
        obtain ⟨b, cw, e1, v1, v2, v3, v4, v5, v6, v7⟩ := arr_cell hR (r := x + 1) (by omega)
        cases e1
        have hra : s.vm.findClass "[I" = some cw.cls := by have h8 := va_RA.moved hW.alike (v5 (by rw [h65]; rfl)).2.1; rw [h65] at h8; exact h8
        intro T hT X
        obtain ⟨vm', X', st2⟩ := X.checkcastYes hx hown (tg hC hW args hlk) (by rw [hT]; exact v1) v3 hra (va_asg _ _) (g := F0 m pc ls (List.map cv (vR (x + 1) :: st))) rfl rfl (dk_192 hB)
        obtain ⟨t, a1, b1⟩ := hkk _ _ _ _ _ _ _ he2 hlen hL hwl hws hR hG hfr (T.setVm vm') hT X'
        exact ⟨t, st2 t a1, b1⟩
theorem sim_instanceof {s0 : State} {a0 : Array Value} {K : KX} {own : String} {p : Program} {l : Launch} {e : Env} {d : Nat} {s : State} {m : MethodId} {args : Array Value} {below : List Frame} {meth : Method} {c : Code} {M : Nat} {hS hE : PH} {o : Ot} {Ω : Om} {κ μ : List (Nat × Int)} {ini : Bool} {cf : Nat → List PV → PH → Rs} {k : Kt} (hx : p.tables.exec = Jvm.exec) (hC : CX s0 a0 K) (hW : s0.WarmedH s.vm) (hown : s.vm.findClass own = some m.cls) (hΩ : ∀ q ∈ (nth Ω 8).getD [], YLk s0 own q.1 q.2) (hkk : SimK s0 K p l e d s m args below meth c hS hE o M k) (q : Nat) : StepOK s0 K p l e d s m args below meth c hS hE o M Ω κ μ ini cf k (.instanceof q) := by
  intro b len pc lp st h H ls locs hck hln hB he hlen hL hwl hws hR hG hfr
  obtain ⟨y, y2, l', rfl, hin, rfl⟩ := l3_s hck hln
  rcases st with _ | ⟨x | ⟨x | ⟨x | x⟩⟩, st⟩ <;> first | exact no_e (show (none : Rs) = some (o, hE) from he) | skip
  have he : gd (x = 0 ∨ inT (q / 16384 % 128) (q / 2097152) (hc h x)) (k (pc + 3) lp (vI (if x = 0 then 0 else if inT (q % 128) (q / 128 % 128) (hc h x) then 1 else 0) :: st) h) = some (o, hE) := he
  obtain ⟨hg, he⟩ := gd_some he
  rcases x with _ | x
  · rw [if_pos rfl] at he
    exact lv_instN hx rfl (dk_193 hB) (hkk _ _ _ _ _ _ _ he hlen hL hwl (WFv.cons z32 hws.tl) hR hG hfr)
  · rw [if_neg (by omega)] at he
    rcases hg with hg | hg
    · omega
    · obtain ⟨nm, hlk, hall⟩ := hΩ _ hin
      obtain ⟨ht, hyes, hno⟩ := hall _ hg.1 hg.2
      obtain ⟨a, cell, e1, v1, v2, v3⟩ := val_cls hC hW hR (show inT 1 55 _ from ht)
      cases e1
      by_cases hi : inT (q % 128) (q / 128 % 128) (hc h (x + 1))
      · rw [if_pos hi] at he
        rcases hyes hi with hcn | hcn
        · rw [hcn] at v3
          intro T hT X
          obtain ⟨vm', X', st2⟩ := X.instanceofYes hx hown (tg hC hW args hlk) (by rw [hT]; exact v1) v2 v3 (va_asg _ _) (g := F0 m pc ls (List.map cv (vR (x + 1) :: st))) rfl rfl (dk_193 hB)
          obtain ⟨t, a1, b1⟩ := hkk _ _ _ _ _ _ _ he hlen hL hwl (WFv.cons (show in32 1 from ⟨by omega, by omega⟩) hws.tl) hR hG hfr (T.setVm vm') hT X'
          exact ⟨t, st2 t a1, b1⟩
        · exact va_instY hx rfl hown (tg hC hW args hlk) (tca hC hW hcn) ⟨cell, v1, v2, v3⟩ (dk_193 hB) (hkk _ _ _ _ _ _ _ he hlen hL hwl (WFv.cons (show in32 1 from ⟨by omega, by omega⟩) hws.tl) hR hG hfr)
      · rw [if_neg hi] at he
        exact va_instNo hx rfl hown (tg hC hW args hlk) (va_Nc.moved hW.alike (hno hi)) ⟨cell, v1, v2, v3⟩ (dk_193 hB) (hkk _ _ _ _ _ _ _ he hlen hL hwl (WFv.cons z32 hws.tl) hR hG hfr)
theorem stw_sum : ∀ st : List PV, ((st.map cv).map fun v => v.category).sum = stw st
  | [] => rfl
  | .inl x :: l => by show 1 + ((l.map cv).map fun v => v.category).sum = stw l + 1; rw [stw_sum l, Nat.add_comm]
  | .inr (.inl x) :: l => by show 2 + ((l.map cv).map fun v => v.category).sum = stw l + 2; rw [stw_sum l, Nat.add_comm]
  | .inr (.inr (.inl r)) :: l => by show (rv r).category + ((l.map cv).map fun v => v.category).sum = stw l + 1; rw [stw_sum l, rv_cat, Nat.add_comm]
  | .inr (.inr (.inr u)) :: l => by show 1 + ((l.map cv).map fun v => v.category).sum = stw l + 1; rw [stw_sum l, Nat.add_comm]
theorem sim_pop {s0 : State} {a0 : Array Value} {K : KX} {own : String} {p : Program} {l : Launch} {e : Env} {d : Nat} {s : State} {m : MethodId} {args : Array Value} {below : List Frame} {meth : Method} {c : Code} {M : Nat} {hS hE : PH} {o : Ot} {Ω : Om} {κ μ : List (Nat × Int)} {ini : Bool} {cf : Nat → List PV → PH → Rs} {k : Kt} (hx : p.tables.exec = Jvm.exec) (hC : CX s0 a0 K) (hW : s0.WarmedH s.vm) (hown : s.vm.findClass own = some m.cls) (hkk : SimK s0 K p l e d s m args below meth c hS hE o M k) : StepOK s0 K p l e d s m args below meth c hS hE o M Ω κ μ ini cf k .pop := by
  intro b len pc lp st h H ls locs hck hln hB he hlen hL hwl hws hR hG hfr
  obtain ⟨l', rfl, rfl⟩ := o1_s hck hln
  rcases st with _ | ⟨x | ⟨x | ⟨x | x⟩⟩, st⟩ <;> first | exact no_e (show (none : Rs) = some (o, hE) from he) | skip
  · exact lv_pop hx rfl (dk_87 hB) rfl (hkk _ _ _ _ _ _ _ he hlen hL hwl hws.tl hR hG hfr)
  · exact lv_pop hx rfl (dk_87 hB) (rv_cat x) (hkk _ _ _ _ _ _ _ he hlen hL hwl hws.tl hR hG hfr)
theorem sim_pop2 {s0 : State} {a0 : Array Value} {K : KX} {own : String} {p : Program} {l : Launch} {e : Env} {d : Nat} {s : State} {m : MethodId} {args : Array Value} {below : List Frame} {meth : Method} {c : Code} {M : Nat} {hS hE : PH} {o : Ot} {Ω : Om} {κ μ : List (Nat × Int)} {ini : Bool} {cf : Nat → List PV → PH → Rs} {k : Kt} (hx : p.tables.exec = Jvm.exec) (hC : CX s0 a0 K) (hW : s0.WarmedH s.vm) (hown : s.vm.findClass own = some m.cls) (hd1 : 1 ≤ d) (hml : c.maxLocals = mxM M) (hΩ : ∀ q ∈ (nth Ω 13).getD [], Cond.methodLink own q.1 Lib.objectInit ∈ lw_all) (hoi : Cond.instanceMethod Lib.objectInit ∈ lw_all) (hoc : Cond.code Lib.objectInit ⟨#[0xb1]⟩ 1 none ∈ lw_all) (hkk : SimK s0 K p l e d s m args below meth c hS hE o M k) : StepOK s0 K p l e d s m args below meth c hS hE o M Ω κ μ ini cf k .pop2 := by
  intro b len pc lp st h H ls locs hck hln hB he hlen hL hwl hws hR hG hfr
  obtain ⟨y, y2, l', rfl, hin, rfl⟩ := l3_s hck hln
  rcases st with _ | ⟨x | ⟨x | ⟨x | x⟩⟩, st⟩ <;> first | exact no_e (show (none : Rs) = some (o, hE) from he) | skip
  have he : gd (0 < hc h x) (cond (Nat.ble (stw st) 8) (k (pc + 3) lp st h) none) = some (o, hE) := he
  obtain ⟨hg, he2⟩ := gd_some he
  have hx0 := hR.pos (r := x) (by omega)
  obtain ⟨a, rfl⟩ : ∃ a, x = a + 1 := ⟨x - 1, by omega⟩
  cases hst : Nat.ble (stw st) 8 with
  | false => rw [hst] at he2; exact no_e he2
  | true =>
    rw [hst] at he2
    have hst := Nat.ble_eq.mp hst
    exact W.objInit hx rfl hown (tg hC hW args (hΩ _ hin)) (tg hC hW args hoi) (tg hC hW args hoc) rfl (by rw [hml, ← hlen]; exact hL.1) rfl (dk_183 hB) (by show 1 ≤ d + 8; omega) (by show 2 * (F0 m pc ls _).monitorRoom + _ + 12 ≤ 46 * d + 400; rw [stw_sum]; show 2 * 0 + stw st + 12 ≤ 46 * d + 400; omega) (hkk _ _ _ _ _ _ _ he2 hlen hL hwl hws.tl hR hG hfr)
theorem sim_ireturn {s0 : State} {a0 : Array Value} {K : KX} {own : String} {p : Program} {l : Launch} {e : Env} {d : Nat} {s : State} {m : MethodId} {args : Array Value} {below : List Frame} {meth : Method} {c : Code} {M : Nat} {hS hE : PH} {o : Ot} {Ω : Om} {κ μ : List (Nat × Int)} {ini : Bool} {cf : Nat → List PV → PH → Rs} {k : Kt} (hx : p.tables.exec = Jvm.exec) (hW : s0.WarmedH s.vm) (hlocks : meth.locks = false) (hr : meth.sig.returnType = some .int) (hkk : SimK s0 K p l e d s m args below meth c hS hE o M k) : StepOK s0 K p l e d s m args below meth c hS hE o M Ω κ μ ini cf k .ireturn := by
  intro b len pc lp st h H ls locs hck hln hB he hlen hL hwl hws hR hG hfr
  obtain ⟨l', rfl, rfl⟩ := o1_s hck hln
  rcases st with _ | ⟨x | ⟨x | ⟨x | x⟩⟩, _ | ⟨w, st⟩⟩ <;> first | exact no_e (show (none : Rs) = some (o, hE) from he) | skip
  have he : (some (.inl (some (vI x)), h) : Rs) = some (o, hE) := he
  cases he
  exact (W.iret hx rfl hr (fun t ht hW2 => ⟨rfl, ht ▸ hR, State.WarmedH.trans hW hW2, hG, hws.hd⟩) hfr (dk_172 hB) hlocks).post (fun t h => MQG.of h)
theorem sim_freturn {s0 : State} {a0 : Array Value} {K : KX} {own : String} {p : Program} {l : Launch} {e : Env} {d : Nat} {s : State} {m : MethodId} {args : Array Value} {below : List Frame} {meth : Method} {c : Code} {M : Nat} {hS hE : PH} {o : Ot} {Ω : Om} {κ μ : List (Nat × Int)} {ini : Bool} {cf : Nat → List PV → PH → Rs} {k : Kt} (hx : p.tables.exec = Jvm.exec) (hW : s0.WarmedH s.vm) (hlocks : meth.locks = false) (hr : meth.sig.returnType = some .boolean) (hkk : SimK s0 K p l e d s m args below meth c hS hE o M k) : StepOK s0 K p l e d s m args below meth c hS hE o M Ω κ μ ini cf k .freturn := by
  intro b len pc lp st h H ls locs hck hln hB he hlen hL hwl hws hR hG hfr
  obtain ⟨l', rfl, rfl⟩ := o1_s hck hln
  rcases st with _ | ⟨x | ⟨x | ⟨x | x⟩⟩, _ | ⟨w, st⟩⟩ <;> first | exact no_e (show (none : Rs) = some (o, hE) from he) | skip
  have he : gd (x = 0 ∨ x = 1) (some (.inl (some (vI x)), h) : Rs) = some (o, hE) := he
  obtain ⟨h01, he⟩ := gd_some he
  cases he
  have hn : narrow .boolean (.int (Int32.ofInt x)) = .int (Int32.ofInt x) := by rcases h01 with rfl | rfl <;> rfl
  exact (W.zret hx rfl hr hn (fun t ht hW2 => ⟨rfl, ht ▸ hR, State.WarmedH.trans hW hW2, hG, hws.hd⟩) hfr (dk_172 hB) hlocks).post (fun t h => MQG.of h)
theorem dr_b {x : Int} (h0 : 0 ≤ x) (h1 : x < 128) : narrow .byte (.int (Int32.ofInt x)) = .int (Int32.ofInt x) := by
  show Value.int (Int32.ofInt x).toInt8.toInt32 = _
  rw [c_w8 ⟨by omega, by omega⟩]
  have : w8 x = x := by unfold w8; omega
  rw [this]
theorem dr_c {x : Int} (h0 : 0 ≤ x) (h1 : x < 128) : narrow .char (.int (Int32.ofInt x)) = .int (Int32.ofInt x) := by
  have e := vp_nar_char (Int32.ofInt x)
  have hx : in32 x := ⟨by omega, by omega⟩
  have h2 : (Int32.ofInt x).toUInt32.toUInt16.toUInt32.toInt32 = Int32.ofInt x := by
    have h3 : (Int32.ofInt x).toUInt32.toUInt16.toUInt32 = (Int32.ofInt x).toUInt32 % 65536 := by
      apply UInt32.toNat_inj.mp
      simp
    rw [h3, c_u16 hx]
    have : x % 65536 = x := by omega
    rw [this]
  show Value.int _ = _
  first | exact congrArg Value.int h2 | (simp only [narrow]; rw [h2])
theorem sim_dreturn {s0 : State} {a0 : Array Value} {K : KX} {own : String} {p : Program} {l : Launch} {e : Env} {d : Nat} {s : State} {m : MethodId} {args : Array Value} {below : List Frame} {meth : Method} {c : Code} {M : Nat} {hS hE : PH} {o : Ot} {Ω : Om} {κ μ : List (Nat × Int)} {ini : Bool} {cf : Nat → List PV → PH → Rs} {k : Kt} (hx : p.tables.exec = Jvm.exec) (hW : s0.WarmedH s.vm) (hlocks : meth.locks = false) (hr : meth.sig.returnType = some .char ∨ meth.sig.returnType = some .byte) (hkk : SimK s0 K p l e d s m args below meth c hS hE o M k) : StepOK s0 K p l e d s m args below meth c hS hE o M Ω κ μ ini cf k .dreturn := by
  intro b len pc lp st h H ls locs hck hln hB he hlen hL hwl hws hR hG hfr
  obtain ⟨l', rfl, rfl⟩ := o1_s hck hln
  rcases st with _ | ⟨x | ⟨x | ⟨x | x⟩⟩, _ | ⟨w, st⟩⟩ <;> first | exact no_e (show (none : Rs) = some (o, hE) from he) | skip
  have he : gd (0 ≤ x ∧ x < 128) (some (.inl (some (vI x)), h) : Rs) = some (o, hE) := he
  obtain ⟨h01, he⟩ := gd_some he
  cases he
  have hn1 : narrow .char (.int (Int32.ofInt x)) = .int (Int32.ofInt x) := by rw [dr_c h01.1 h01.2]
  have hn2 : narrow .byte (.int (Int32.ofInt x)) = .int (Int32.ofInt x) := by rw [dr_b h01.1 h01.2]
  rcases hr with hr | hr
  · exact (W.zret hx rfl hr hn1 (fun t ht hW2 => ⟨rfl, ht ▸ hR, State.WarmedH.trans hW hW2, hG, hws.hd⟩) hfr (dk_172 hB) hlocks).post (fun t h => MQG.of h)
  · exact (W.zret hx rfl hr hn2 (fun t ht hW2 => ⟨rfl, ht ▸ hR, State.WarmedH.trans hW hW2, hG, hws.hd⟩) hfr (dk_172 hB) hlocks).post (fun t h => MQG.of h)
theorem sim_lreturn {s0 : State} {a0 : Array Value} {K : KX} {own : String} {p : Program} {l : Launch} {e : Env} {d : Nat} {s : State} {m : MethodId} {args : Array Value} {below : List Frame} {meth : Method} {c : Code} {M : Nat} {hS hE : PH} {o : Ot} {Ω : Om} {κ μ : List (Nat × Int)} {ini : Bool} {cf : Nat → List PV → PH → Rs} {k : Kt} (hx : p.tables.exec = Jvm.exec) (hW : s0.WarmedH s.vm) (hlocks : meth.locks = false) (hr : meth.sig.returnType = some .long) (hkk : SimK s0 K p l e d s m args below meth c hS hE o M k) : StepOK s0 K p l e d s m args below meth c hS hE o M Ω κ μ ini cf k .lreturn := by
  intro b len pc lp st h H ls locs hck hln hB he hlen hL hwl hws hR hG hfr
  obtain ⟨l', rfl, rfl⟩ := o1_s hck hln
  rcases st with _ | ⟨x | ⟨x | ⟨x | x⟩⟩, _ | ⟨w, st⟩⟩ <;> first | exact no_e (show (none : Rs) = some (o, hE) from he) | skip
  have he : (some (.inl (some (vJ x)), h) : Rs) = some (o, hE) := he
  cases he
  exact (W.lret hx rfl hr (fun t ht hW2 => ⟨rfl, ht ▸ hR, State.WarmedH.trans hW hW2, hG, hws.hd⟩) hfr (dk_173 hB) hlocks).post (fun t h => MQG.of h)
theorem sim_areturn {s0 : State} {a0 : Array Value} {K : KX} {own : String} {p : Program} {l : Launch} {e : Env} {d : Nat} {s : State} {m : MethodId} {args : Array Value} {below : List Frame} {meth : Method} {c : Code} {M : Nat} {hS hE : PH} {o : Ot} {Ω : Om} {κ μ : List (Nat × Int)} {ini : Bool} {cf : Nat → List PV → PH → Rs} {k : Kt} (hx : p.tables.exec = Jvm.exec) (hW : s0.WarmedH s.vm) (hlocks : meth.locks = false) (hr : ∃ rt, meth.sig.returnType = some rt ∧ ((∃ n, rt = .object n) ∨ ∃ t, rt = .array t)) (hkk : SimK s0 K p l e d s m args below meth c hS hE o M k) : StepOK s0 K p l e d s m args below meth c hS hE o M Ω κ μ ini cf k .areturn := by
  intro b len pc lp st h H ls locs hck hln hB he hlen hL hwl hws hR hG hfr
  obtain ⟨l', rfl, rfl⟩ := o1_s hck hln
  rcases st with _ | ⟨x | ⟨x | ⟨x | x⟩⟩, _ | ⟨w, st⟩⟩ <;> first | exact no_e (show (none : Rs) = some (o, hE) from he) | skip
  have he : (some (.inl (some (vR x)), h) : Rs) = some (o, hE) := he
  cases he
  obtain ⟨rt, hr, hrt⟩ := hr
  have hv : rv x = .null ∨ ∃ a, rv x = .ref a := by cases x with | zero => exact Or.inl rfl | succ a => exact Or.inr ⟨a, rfl⟩
  exact (W.aret hx rfl hr hrt hv (fun t ht hW2 => ⟨rfl, ht ▸ hR, State.WarmedH.trans hW hW2, hG, hws.hd⟩) hfr (dk_176 hB) hlocks).post (fun t h => MQG.of h)
theorem sim_return_ {s0 : State} {a0 : Array Value} {K : KX} {own : String} {p : Program} {l : Launch} {e : Env} {d : Nat} {s : State} {m : MethodId} {args : Array Value} {below : List Frame} {meth : Method} {c : Code} {M : Nat} {hS hE : PH} {o : Ot} {Ω : Om} {κ μ : List (Nat × Int)} {ini : Bool} {cf : Nat → List PV → PH → Rs} {k : Kt} (hx : p.tables.exec = Jvm.exec) (hW : s0.WarmedH s.vm) (hlocks : meth.locks = false) (hr : meth.sig.returnType = none) (hkk : SimK s0 K p l e d s m args below meth c hS hE o M k) : StepOK s0 K p l e d s m args below meth c hS hE o M Ω κ μ ini cf k .return_ := by
  intro b len pc lp st h H ls locs hck hln hB he hlen hL hwl hws hR hG hfr
  obtain ⟨l', rfl, rfl⟩ := o1_s hck hln
  rcases st with _ | ⟨w, st⟩ <;> first | exact no_e (show (none : Rs) = some (o, hE) from he) | skip
  have he : (some (.inl none, h) : Rs) = some (o, hE) := he
  cases he
  exact (W.vret hx rfl hr (fun t ht hW2 => ⟨rfl, ht ▸ hR, State.WarmedH.trans hW hW2, hG, trivial⟩) hfr (dk_177 hB) hlocks).post (fun t h => MQG.of h)
