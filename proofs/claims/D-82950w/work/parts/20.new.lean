/-! SIMULATION: new cells, aastore, casts (printed by gen/sim20.py) -/
set_option maxRecDepth 100000
theorem rep_arr {a : Nat} {v : Value} {n : Nat} {j : Nat} : (Array.replicate n v)[j]? = if j < n then some v else none := by
  rw [Array.getElem?_replicate]
theorem hl_nA {h : PH} {k : Nat} {n : Int} : hl (nA h k n) (hn h) = n := by show up1 (hl h) (hn h) n (hn h) = n; unfold up1; rw [if_pos rfl]
theorem hc_nA {h : PH} {k : Nat} {n : Int} : hc (nA h k n) (hn h) = k := by show up1 (hc h) (hn h) k (hn h) = k; unfold up1; rw [if_pos rfl]
theorem hc_nO {h : PH} {k n : Nat} : hc (nO h k n) (hn h) = k := by show up1 (hc h) (hn h) k (hn h) = k; unfold up1; rw [if_pos rfl]
theorem wf_nA {h : PH} {k : Nat} {n : Int} (hw : WFH h) (h0 : 0 ≤ n) (h1 : n < 2147483648) : WFH (nA h k n) := by
  refine ⟨hw.1, hw.2.1, fun x y => ?_, fun x y => ?_, fun r => ?_⟩
  · show in32 (if x = hn h then 0 else eI h x y)
    split
    · exact z32
    · exact hw.2.2.1 x y
  · show in64 (if x = hn h then 0 else eJ h x y)
    split
    · exact ⟨by omega, by omega⟩
    · exact hw.2.2.2.1 x y
  · show 0 ≤ up1 (hl h) (hn h) n r ∧ up1 (hl h) (hn h) n r < 2147483648
    unfold up1
    split
    · exact ⟨h0, h1⟩
    · exact hw.2.2.2.2 r
theorem wf_nO {h : PH} {k n : Nat} (hw : WFH h) : WFH (nO h k n) := by
  refine ⟨fun x y => ?_, fun x y => ?_, hw.2.2.1, hw.2.2.2.1, hw.2.2.2.2⟩
  · show in32 (if y = hn h then 0 else gI h x y)
    split
    · exact z32
    · exact hw.1 x y
  · show in64 (if y = hn h then 0 else gJ h x y)
    split
    · exact ⟨by omega, by omega⟩
    · exact hw.2.1 x y
theorem hn0 {s0 : State} {K : KX} {h : PH} {H : Heap} (R : Rep s0 K h H) : 0 ≠ hn h := by have := R.1; omega
theorem fv_nA {h : PH} {k : Nat} {n : Int} (f r : Nat) : fv (nA h k n) f r = fv h f r := rfl
theorem ev_nA {h : PH} {k : Nat} {n : Int} (t r : Nat) (j : Int) (hr : r ≠ hn h) : ev (nA h k n) t r j = ev h t r j := by
  have e1 : eI (nA h k n) r j = eI h r j := by show (if r = hn h then 0 else eI h r j) = _; rw [if_neg hr]
  have e2 : eJ (nA h k n) r j = eJ h r j := by show (if r = hn h then 0 else eJ h r j) = _; rw [if_neg hr]
  have e3 : eR (nA h k n) r j = eR h r j := by show (if r = hn h then 0 else eR h r j) = _; rw [if_neg hr]
  unfold ev
  rw [e1, e2, e3]
theorem ev_nA0 {h : PH} {k : Nat} {n : Int} (t : Nat) (j : Int) : ev (nA h k n) t (hn h) j = (match ak t with
  | 1 => .long 0
  | 2 => .null
  | _ => .int 0) := by
  have e1 : eI (nA h k n) (hn h) j = 0 := by show (if hn h = hn h then 0 else eI h (hn h) j) = _; rw [if_pos rfl]
  have e2 : eJ (nA h k n) (hn h) j = 0 := by show (if hn h = hn h then 0 else eJ h (hn h) j) = _; rw [if_pos rfl]
  have e3 : eR (nA h k n) (hn h) j = 0 := by show (if hn h = hn h then 0 else eR h (hn h) j) = _; rw [if_pos rfl]
  have hak : ak t = 1 ∨ ak t = 3 ∨ ak t = 2 ∨ ak t = 0 := by
    unfold ak
    split
    · exact Or.inl rfl
    · split
      · exact Or.inr (Or.inl rfl)
      · split
        · exact Or.inr (Or.inr (Or.inl rfl))
        · exact Or.inr (Or.inr (Or.inr rfl))
  unfold ev
  rw [e1, e2, e3]
  rcases hak with e | e | e | e <;> rw [e] <;> rfl
theorem fv_nO {h : PH} {k n : Nat} (f r : Nat) (hr : r ≠ hn h) : fv (nO h k n) f r = fv h f r := by
  have e1 : gI (nO h k n) f r = gI h f r := by show (if r = hn h then 0 else gI h f r) = _; rw [if_neg hr]
  have e2 : gJ (nO h k n) f r = gJ h f r := by show (if r = hn h then 0 else gJ h f r) = _; rw [if_neg hr]
  have e3 : gR (nO h k n) f r = gR h f r := by show (if r = hn h then 0 else gR h f r) = _; rw [if_neg hr]
  unfold fv rdF
  rw [e1, e2, e3]
theorem fv_nO0 {h : PH} {k n : Nat} {f : Nat} (hf : f ∈ iFs) : fv (nO h k n) f (hn h) = defaultValue (fTy f) := by
  have e1 : gI (nO h k n) f (hn h) = 0 := by show (if hn h = hn h then 0 else gI h f (hn h)) = _; rw [if_pos rfl]
  have e2 : gJ (nO h k n) f (hn h) = 0 := by show (if hn h = hn h then 0 else gJ h f (hn h)) = _; rw [if_pos rfl]
  have e3 : gR (nO h k n) f (hn h) = 0 := by show (if hn h = hn h then 0 else gR h f (hn h)) = _; rw [if_pos rfl]
  unfold fv rdF
  rw [e1, e2, e3]
  rcases kOK_s hf with ⟨e, ht | ⟨ht, -⟩⟩ | ⟨e, ht⟩ | ⟨e, ⟨n, ht⟩ | ⟨n, ht⟩⟩ | ⟨e, ht⟩ <;> rw [e, ht] <;> rfl
theorem rep_nA {s0 : State} {K : KX} {h : PH} {H : Heap} {t : Nat} {n : Int} {cell : Cell} (R : Rep s0 K h H) (h0 : 0 ≤ n) (h1 : n < 2147483648) (ht : mdA t = true) (c1 : s0.isArrayOf cell (aT t)) (c2 : cell.vm = .none) (c3 : va_RA s0 cell.cls (aT t)) (c4 : cell.slots = Array.replicate n.toNat (match ak t with
    | 1 => .long 0
    | 2 => .null
    | _ => .int 0)) : Rep s0 K (nA h t n) (H.push cell) := by
  have hl64 := mdA_ge ht
  refine Rep.grow (k := t) R rfl rfl rfl ⟨hl64.2, fun q => by omega⟩ (fun r hr => ?_) (fun f r _ => rfl) (fun t r j hr => ev_nA t r j hr) (fun f => rfl) (wf_nA R.wf h0 h1) (by simp) (fun q hq => by rw [Array.getElem?_push_lt hq]; exact (Array.getElem?_eq_some_iff.mpr ⟨hq, rfl⟩).symm) ?_
  · show up1 (hl h) (hn h) n r = hl h r
    unfold up1; rw [if_neg hr]
  · have hs : cell.slots.size = n.toNat := by rw [c4]; simp
    have hu : cell.vm ≠ .unknown := by rw [c2]; exact fun q => by cases q
    have hst : cell.vm.isStatics = false := by rw [c2]; rfl
    refine ⟨cell, ?_, hu, hst, fun q => ?_, fun _ => ?_⟩
    · have : hn h - 1 = H.size := by have := R.1; omega
      rw [this]; simp
    · rw [hc_nA] at q; omega
    · rw [hc_nA, hl_nA]
      refine ⟨c1, ⟨fun _ => ⟨c2, c3⟩, fun q => by rw [q] at c3; exact c3⟩, by rw [hs]; omega, fun j hj => ?_⟩
      rw [ev_nA0, c4, rep_arr (a := 0), if_pos (by omega)]
theorem ge_nA {hS h : PH} {t : Nat} {n : Int} (hG : Ge hS h) (hr : rmA h n) : Ge hS (nA h t n) := by
  refine ⟨?_, ?_, ?_, ?_⟩
  · show hk hS ≤ hk h + 1; have := hG.1; omega
  · show hs hS ≤ hs h + n.toNat; have := hG.2.1; omega
  · show hk h + 1 ≤ cLim; have := hr.2.1; omega
  · exact hr.2.2
theorem ge_nO {hS h : PH} {t n : Nat} (hG : Ge hS h) (hr : rmO h n) : Ge hS (nO h t n) := by
  refine ⟨?_, ?_, ?_, ?_⟩
  · show hk hS ≤ hk h + 1; have := hG.1; omega
  · show hs hS ≤ hs h + n; have := hG.2.1; omega
  · show hk h + 1 ≤ cLim; have := hr.1; omega
  · exact hr.2
theorem sim_newarray {s0 : State} {a0 : Array Value} {K : KX} {own : String} {p : Program} {l : Launch} {e : Env} {d : Nat} {s : State} {m : MethodId} {args : Array Value} {below : List Frame} {meth : Method} {c : Code} {M : Nat} {hS hE : PH} {o : Ot} {Ω : Om} {κ μ : List (Nat × Int)} {ini : Bool} {cf : Nat → List PV → PH → Rs} {k : Kt} (hx : p.tables.exec = Jvm.exec) (hC : CX s0 a0 K) (hW : s0.WarmedH s.vm) (hown : s.vm.findClass own = some m.cls) (hA_boolean : Cond.arrayClass .boolean ∈ lw_all) (hA_byte : Cond.arrayClass .byte ∈ lw_all) (hA_int : Cond.arrayClass .int ∈ lw_all) (hA_long : Cond.arrayClass .long ∈ lw_all) (hkk : SimK s0 K p l e d s m args below meth c hS hE o M k) (t : ArrayType) : StepOK s0 K p l e d s m args below meth c hS hE o M Ω κ μ ini cf k (.newarray t) := by
  intro b len pc lp st h H ls locs hck hln hB he hlen hL hwl hws hR hG hfr
  have hck : ck (.newarray t) b = len := hck
  have hd := ck_s hck hln hB
  rcases st with _ | ⟨x | ⟨x | ⟨x | x⟩⟩, st⟩ <;> first | exact no_e (show (none : Rs) = some (o, hE) from he) | skip
  have he : gd (rmA h x) (match t with | .int => k (pc + len) lp (vR (hn h) :: st) (nA h 65 x) | .long => k (pc + len) lp (vR (hn h) :: st) (nA h 66 x) | .byte => k (pc + len) lp (vR (hn h) :: st) (nA h 67 x) | .boolean => k (pc + len) lp (vR (hn h) :: st) (nA h 69 x) | _ => none) = some (o, hE) := he
  obtain ⟨hg, he⟩ := gd_some he
  have hxr : in32 x := hws.hd
  have hsl : sLim = 7289322 := rfl
  have hcl : cLim = 600384 := rfl
  have e9 := tcn hg.1 hxr.2
  have hHn : H.size + 1 = hn h := hR.1
  cases t <;> first | exact no_e (show (none : Rs) = some (o, hE) from he) | skip
  · have e : len = 2 := by obtain ⟨l', rfl, e⟩ := o2_s hck hln; exact e
    subst e
    have he : k (pc + 2) lp (vR (hn h) :: st) (nA h 69 x) = some (o, hE) := he
    refine W.newa (atype := .boolean) hx rfl (tg hC hW args hA_boolean) rfl hd rfl (fun q => by have := (c_lt0 hxr).mp q; have := hg.1; omega) (by rw [e9]; show _ * _ ≤ _; have := hg.2.2; simp only [newarray.typeOf, componentBytes]; omega) (by show _ ≤ cLim - hk hS; have := hg.2.1; have := hG.1; omega) (by rw [e9]; show _ ≤ sLim - hs hS; have := hg.2.2; have := hG.2.1; omega) (fun cA kA comp h1 h2 h3 => ?_)
    have hR2 : Rep s0 K (nA h 69 x) (H.push _) := rep_nA (cell := { cls := cA, slots := Array.replicate (Int32.ofInt x).toNatClampNeg (defaultValue (newarray.typeOf .boolean)), vm := .none }) hR hg.1 hxr.2 rfl (State.isArrayOf_alike hW.alike.symm ⟨fun k h => (by cases h), kA, h2, comp, h3⟩) rfl (va_RA.moved hW.alike.symm h1) (by rw [e9]; rfl)
    have hw := hkk _ _ _ _ _ ls _ he hlen hL hwl (WFv.cons trivial hws.tl) hR2 (ge_nA hG hg) hfr
    refine W.cs ?_ ?_ (W.eq ?_ hw)
    · show _ = hk h + 1 - hk hS; have := hG.1; omega
    · rw [e9]; show _ = hs h + x.toNat - hs hS; have := hG.2.1; omega
    · rw [← hHn]; rfl
  · have e : len = 2 := by obtain ⟨l', rfl, e⟩ := o2_s hck hln; exact e
    subst e
    have he : k (pc + 2) lp (vR (hn h) :: st) (nA h 67 x) = some (o, hE) := he
    refine W.newa (atype := .byte) hx rfl (tg hC hW args hA_byte) rfl hd rfl (fun q => by have := (c_lt0 hxr).mp q; have := hg.1; omega) (by rw [e9]; show _ * _ ≤ _; have := hg.2.2; simp only [newarray.typeOf, componentBytes]; omega) (by show _ ≤ cLim - hk hS; have := hg.2.1; have := hG.1; omega) (by rw [e9]; show _ ≤ sLim - hs hS; have := hg.2.2; have := hG.2.1; omega) (fun cA kA comp h1 h2 h3 => ?_)
    have hR2 : Rep s0 K (nA h 67 x) (H.push _) := rep_nA (cell := { cls := cA, slots := Array.replicate (Int32.ofInt x).toNatClampNeg (defaultValue (newarray.typeOf .byte)), vm := .none }) hR hg.1 hxr.2 rfl (State.isArrayOf_alike hW.alike.symm ⟨fun k h => (by cases h), kA, h2, comp, h3⟩) rfl (va_RA.moved hW.alike.symm h1) (by rw [e9]; rfl)
    have hw := hkk _ _ _ _ _ ls _ he hlen hL hwl (WFv.cons trivial hws.tl) hR2 (ge_nA hG hg) hfr
    refine W.cs ?_ ?_ (W.eq ?_ hw)
    · show _ = hk h + 1 - hk hS; have := hG.1; omega
    · rw [e9]; show _ = hs h + x.toNat - hs hS; have := hG.2.1; omega
    · rw [← hHn]; rfl
  · have e : len = 2 := by obtain ⟨l', rfl, e⟩ := o2_s hck hln; exact e
    subst e
    have he : k (pc + 2) lp (vR (hn h) :: st) (nA h 65 x) = some (o, hE) := he
    refine W.newa (atype := .int) hx rfl (tg hC hW args hA_int) rfl hd rfl (fun q => by have := (c_lt0 hxr).mp q; have := hg.1; omega) (by rw [e9]; show _ * _ ≤ _; have := hg.2.2; simp only [newarray.typeOf, componentBytes]; omega) (by show _ ≤ cLim - hk hS; have := hg.2.1; have := hG.1; omega) (by rw [e9]; show _ ≤ sLim - hs hS; have := hg.2.2; have := hG.2.1; omega) (fun cA kA comp h1 h2 h3 => ?_)
    have hR2 : Rep s0 K (nA h 65 x) (H.push _) := rep_nA (cell := { cls := cA, slots := Array.replicate (Int32.ofInt x).toNatClampNeg (defaultValue (newarray.typeOf .int)), vm := .none }) hR hg.1 hxr.2 rfl (State.isArrayOf_alike hW.alike.symm ⟨fun k h => (by cases h), kA, h2, comp, h3⟩) rfl (va_RA.moved hW.alike.symm h1) (by rw [e9]; rfl)
    have hw := hkk _ _ _ _ _ ls _ he hlen hL hwl (WFv.cons trivial hws.tl) hR2 (ge_nA hG hg) hfr
    refine W.cs ?_ ?_ (W.eq ?_ hw)
    · show _ = hk h + 1 - hk hS; have := hG.1; omega
    · rw [e9]; show _ = hs h + x.toNat - hs hS; have := hG.2.1; omega
    · rw [← hHn]; rfl
  · have e : len = 2 := by obtain ⟨l', rfl, e⟩ := o2_s hck hln; exact e
    subst e
    have he : k (pc + 2) lp (vR (hn h) :: st) (nA h 66 x) = some (o, hE) := he
    refine W.newa (atype := .long) hx rfl (tg hC hW args hA_long) rfl hd rfl (fun q => by have := (c_lt0 hxr).mp q; have := hg.1; omega) (by rw [e9]; show _ * _ ≤ _; have := hg.2.2; simp only [newarray.typeOf, componentBytes]; omega) (by show _ ≤ cLim - hk hS; have := hg.2.1; have := hG.1; omega) (by rw [e9]; show _ ≤ sLim - hs hS; have := hg.2.2; have := hG.2.1; omega) (fun cA kA comp h1 h2 h3 => ?_)
    have hR2 : Rep s0 K (nA h 66 x) (H.push _) := rep_nA (cell := { cls := cA, slots := Array.replicate (Int32.ofInt x).toNatClampNeg (defaultValue (newarray.typeOf .long)), vm := .none }) hR hg.1 hxr.2 rfl (State.isArrayOf_alike hW.alike.symm ⟨fun k h => (by cases h), kA, h2, comp, h3⟩) rfl (va_RA.moved hW.alike.symm h1) (by rw [e9]; rfl)
    have hw := hkk _ _ _ _ _ ls _ he hlen hL hwl (WFv.cons trivial hws.tl) hR2 (ge_nA hG hg) hfr
    refine W.cs ?_ ?_ (W.eq ?_ hw)
    · show _ = hk h + 1 - hk hS; have := hG.1; omega
    · rw [e9]; show _ = hs h + x.toNat - hs hS; have := hG.2.1; omega
    · rw [← hHn]; rfl
theorem sim_anewarray {s0 : State} {a0 : Array Value} {K : KX} {own : String} {p : Program} {l : Launch} {e : Env} {d : Nat} {s : State} {m : MethodId} {args : Array Value} {below : List Frame} {meth : Method} {c : Code} {M : Nat} {hS hE : PH} {o : Ot} {Ω : Om} {κ μ : List (Nat × Int)} {ini : Bool} {cf : Nat → List PV → PH → Rs} {k : Kt} (hx : p.tables.exec = Jvm.exec) (hC : CX s0 a0 K) (hW : s0.WarmedH s.vm) (hown : s.vm.findClass own = some m.cls) (hΩ : ∀ q ∈ (nth Ω 6).getD [], mdA q.2 = true ∧ ak q.2 = 2 ∧ ALk own q.1 q.2) (hkk : SimK s0 K p l e d s m args below meth c hS hE o M k) (t : Nat) : StepOK s0 K p l e d s m args below meth c hS hE o M Ω κ μ ini cf k (.anewarray t) := by
  intro b len pc lp st h H ls locs hck hln hB he hlen hL hwl hws hR hG hfr
  obtain ⟨y, y2, l', rfl, hin, rfl⟩ := l3_s hck hln
  rcases st with _ | ⟨x | ⟨x | ⟨x | x⟩⟩, st⟩ <;> first | exact no_e (show (none : Rs) = some (o, hE) from he) | skip
  have he : gd (rmA h x) (k (pc + 3) lp (vR (hn h) :: st) (nA h t x)) = some (o, hE) := he
  obtain ⟨hg, he⟩ := gd_some he
  have hxr : in32 x := hws.hd
  have hsl : sLim = 7289322 := rfl
  have hcl : cLim = 600384 := rfl
  have e9 := tcn hg.1 hxr.2
  have hHn : H.size + 1 = hn h := hR.1
  obtain ⟨hmd, hak, C, hCt, hcl2, hov⟩ := hΩ _ hin
  refine W.anew hx rfl hown (tg hC hW args hcl2) (tao hC hW args hov) rfl (dk_189 hB) rfl (fun q => by have := (c_lt0 hxr).mp q; have := hg.1; omega) (by rw [e9]; have := hg.2.2; omega) (by show _ ≤ cLim - hk hS; have := hg.2.1; have := hG.1; omega) (by rw [e9]; show _ ≤ sLim - hs hS; have := hg.2.2; have := hG.2.1; omega) (fun cA kA comp h1 h2 h3 h4 => ?_)
  have hR2 : Rep s0 K (nA h t x) (H.push _) := rep_nA (cell := { cls := cA, slots := Array.replicate (Int32.ofInt x).toNatClampNeg .null, vm := .none }) hR hg.1 hxr.2 hmd (State.isArrayOf_alike hW.alike.symm (by rw [hCt]; exact ⟨fun k h => (by cases h), kA, h2, comp, h3⟩)) rfl (va_RA.moved hW.alike.symm (by rw [hCt]; exact ⟨kA, comp, h2, h3, h4, h1⟩)) (by rw [e9, hak]; rfl)
  have hw := hkk _ _ _ _ _ ls _ he hlen hL hwl (WFv.cons trivial hws.tl) hR2 (ge_nA hG hg) hfr
  refine W.cs ?_ ?_ (W.eq ?_ hw)
  · show _ = hk h + 1 - hk hS; have := hG.1; omega
  · rw [e9]; show _ = hs h + x.toNat - hs hS; have := hG.2.1; omega
  · rw [← hHn]; rfl
theorem sim_new {s0 : State} {a0 : Array Value} {K : KX} {own : String} {p : Program} {l : Launch} {e : Env} {d : Nat} {s : State} {m : MethodId} {args : Array Value} {below : List Frame} {meth : Method} {c : Code} {M : Nat} {hS hE : PH} {o : Ot} {Ω : Om} {κ μ : List (Nat × Int)} {ini : Bool} {cf : Nat → List PV → PH → Rs} {k : Kt} (hx : p.tables.exec = Jvm.exec) (hC : CX s0 a0 K) (hW : s0.WarmedH s.vm) (hown : s.vm.findClass own = some m.cls) (hΩ : ∀ q ∈ (nth Ω 5).getD [], mdT q.2 = true ∧ NLk own q.1 q.2) (hkk : SimK s0 K p l e d s m args below meth c hS hE o M k) (t : Nat) : StepOK s0 K p l e d s m args below meth c hS hE o M Ω κ μ ini cf k (.new t) := by
  intro b len pc lp st h H ls locs hck hln hB he hlen hL hwl hws hR hG hfr
  obtain ⟨y, y2, l', rfl, hin, rfl⟩ := l3_s hck hln
  have he : gd (rmO h (slt t)) (k (pc + 3) lp (vR (hn h) :: st) (nO h t (slt t))) = some (o, hE) := he
  obtain ⟨hg, he⟩ := gd_some he
  obtain ⟨hmd, hcl, hins, hini⟩ : mdT t = true ∧ NLk own (y * 256 + y2) t := hΩ _ hin
  have hml := md_lt hmd
  have hHn : H.size + 1 = hn h := hR.1
  obtain ⟨hfc, kC0, hkC0, hkind⟩ := classAt_moved hW.alike (hC.2.2.1 _ hmd)
  refine W.newcK hx rfl hown (tg hC hW args hcl) (tg hC hW args hins) (tg hC hW args hini) rfl (dk_187 hB) (by show _ ≤ cLim - hk hS; have := hg.1; have := hG.1; omega) (by show _ ≤ sLim - hs hS; have := hg.2; have := hG.2.1; omega) hfc rfl (fun H' kC hkC e1 e2 e3 => ?_)
  have hR2 : Rep s0 K (nO h t (slt t)) H' := by
    refine Rep.grow (k := t) hR rfl rfl rfl ⟨by have := hml.1; omega, fun _ => hml.2.2⟩ (fun r hr => rfl) (fun f r hr => fv_nO f r hr) (fun t r j hr => rfl) (fun f => ?_) (wf_nO hR.wf) e2 e3 ?_
    · show (if 0 = hn h then 0 else gR h f 0) = gR h f 0; rw [if_neg (hn0 hR)]
    · have hz1 : hn h - 1 = H.size := by omega
      refine ⟨blank (K.1 t) kC, hz1 ▸ e1, fun q => (by cases q), rfl, fun _ => ?_, fun q => (by rw [hc_nO] at q; have := hml.1; omega)⟩
      rw [hc_nO]
      refine ⟨rfl, fun _ => rfl, fun f hf => ?_⟩
      have hfi := cF_iF hml.2.2 hf
      obtain ⟨cf1, kf, fi, fd, g1, g2, g3⟩ := SlotI.moved hW.alike (hC.2.2.2.1 _ f hml.2.2 hf)
      have hlay : (Cond.lays (cN t) (fO f) (fN f) (fD f)).before args s = true ∨ (Cond.laysFinal (cN t) (fO f) (fN f) (fD f)).before args s = true := by
        have hlw := hC.2.2.2.2.1 _ f hmd hf
        unfold layW at hlw
        split at hlw
        · exact Or.inr (word_at hW (by left; rfl) (hC.1 _ hlw))
        · exact Or.inl (word_at hW (by left; rfl) (hC.1 _ hlw))
      have h3 := (u_facts hfc hkC hlay g1).2.2
      rw [(State.fieldFound?_type g1 (fTy_s hfi)).2] at h3
      rw [← g3, fv_nO0 hfi]
      exact k2_blank h3
  have hw := hkk _ _ _ _ _ ls _ he hlen hL hwl (WFv.cons trivial hws) hR2 (ge_nO hG hg) hfr
  refine W.cs ?_ ?_ (W.eq ?_ hw)
  · show _ = hk h + 1 - hk hS; have := hG.1; omega
  · show _ = hs h + slt t - hs hS; have := hG.2.1; omega
  · rw [← hHn]; rfl
