/-! SIMULATION: constants, stack, branches, returns, arrays (printed by gen/sim16.py) -/
set_option maxRecDepth 100000
theorem z32 : in32 0 := by unfold in32; omega
theorem o0_32 : Int32.ofInt 0 = 0 := rfl
theorem c_eq0 {x : Int} (hx : in32 x) : Int32.ofInt x = 0 ↔ x = 0 := c_eq hx z32
theorem c_lt0 {x : Int} (hx : in32 x) : Int32.ofInt x < 0 ↔ x < 0 := c_lt hx z32
theorem c_gt0 {x : Int} (hx : in32 x) : 0 < Int32.ofInt x ↔ 0 < x := c_lt z32 hx
theorem c_le0 {x : Int} (hx : in32 x) : Int32.ofInt x ≤ 0 ↔ x ≤ 0 := c_le hx z32
theorem c_ge0 {x : Int} (hx : in32 x) : 0 ≤ Int32.ofInt x ↔ 0 ≤ x := c_le z32 hx
theorem c_i8 {z : Int} (h1 : -128 ≤ z) (h2 : z < 128) : (Int8.ofInt z).toInt32 = Int32.ofInt z := by
  apply e32
  rw [Int8.toInt_toInt32, Int8.toInt_ofInt, of32 ⟨by omega, by omega⟩]
  show Int.bmod z 256 = z
  rw [Int.bmod_def]
  split <;> omega
theorem c_i16 {z : Int} (h1 : -32768 ≤ z) (h2 : z < 32768) : (Int16.ofInt z).toInt32 = Int32.ofInt z := by
  apply e32
  rw [Int16.toInt_toInt32, Int16.toInt_ofInt, of32 ⟨by omega, by omega⟩]
  show Int.bmod z 65536 = z
  rw [Int.bmod_def]
  split <;> omega
theorem lcm_cmp {x y : Int} (hx : in64 x) (hy : in64 y) : lg_cmp (Int64.ofInt x) (Int64.ofInt y) = Int32.ofInt (lcm x y) := by
  unfold lg_cmp lcm
  by_cases h1 : x < y
  · have g1 : ¬ Int64.ofInt y < Int64.ofInt x := fun q => by have := (d_lt hy hx).mp q; omega
    have g2 : ¬ Int64.ofInt x = Int64.ofInt y := fun q => by have := (d_eq hx hy).mp q; omega
    have g3 : Int64.ofInt x < Int64.ofInt y := (d_lt hx hy).mpr h1
    simp only [g1, g2, g3, h1, if_true, if_false]
    try rfl
  · by_cases h2 : x = y
    · subst h2
      simp [Int64.lt_irrefl]
    · have g1 : Int64.ofInt y < Int64.ofInt x := (d_lt hy hx).mpr (by omega)
      have g2 : ¬ Int64.ofInt x = Int64.ofInt y := fun q => by have := (d_eq hx hy).mp q; omega
      have g3 : ¬ Int64.ofInt x < Int64.ofInt y := fun q => by have := (d_lt hx hy).mp q; omega
      simp only [g1, g2, g3, h1, h2, if_true, if_false]
      try rfl
theorem lcm_in (x y : Int) : in32 (lcm x y) := by unfold lcm in32; split <;> (try split) <;> omega
theorem sim_dup {s0 : State} {K : KX} {p : Program} {l : Launch} {e : Env} {d : Nat} {s : State} {m : MethodId} {args : Array Value} {below : List Frame} {meth : Method} {c : Code} {M : Nat} {hS hE : PH} {o : Ot} {Ω : Om} {κ μ : List (Nat × Int)} {ini : Bool} {cf : Nat → List PV → PH → Rs} {k : Kt} (hx : p.tables.exec = Jvm.exec) (hk : SimK s0 K p l e d s m args below meth c hS hE o M k) : StepOK s0 K p l e d s m args below meth c hS hE o M Ω κ μ ini cf k .dup := by
  intro b len pc lp st h H ls locs hck hl hB he hlen hL hwl hws hR hG hfr
  obtain ⟨l', rfl, rfl⟩ := o1_s hck hl
  rcases st with _ | ⟨x | ⟨x | ⟨x | x⟩⟩, st⟩ <;> first | exact no_e (show (none : Rs) = some (o, hE) from he) | skip
  · have he : k (pc + 1) lp (vI x :: vI x :: st) h = some (o, hE) := he
    exact lv_dup hx rfl (dk_89 hB) rfl (hk _ _ _ _ _ _ _ he hlen hL hwl (WFv.cons hws.hd hws) hR hG hfr)
  · have he : k (pc + 1) lp (vR x :: vR x :: st) h = some (o, hE) := he
    exact lv_dup hx rfl (dk_89 hB) (rv_cat x) (hk _ _ _ _ _ _ _ he hlen hL hwl (WFv.cons trivial hws) hR hG hfr)
theorem sim_dup_x1 {s0 : State} {K : KX} {p : Program} {l : Launch} {e : Env} {d : Nat} {s : State} {m : MethodId} {args : Array Value} {below : List Frame} {meth : Method} {c : Code} {M : Nat} {hS hE : PH} {o : Ot} {Ω : Om} {κ μ : List (Nat × Int)} {ini : Bool} {cf : Nat → List PV → PH → Rs} {k : Kt} (hx : p.tables.exec = Jvm.exec) (hk : SimK s0 K p l e d s m args below meth c hS hE o M k) : StepOK s0 K p l e d s m args below meth c hS hE o M Ω κ μ ini cf k .dup_x1 := by
  intro b len pc lp st h H ls locs hck hl hB he hlen hL hwl hws hR hG hfr
  obtain ⟨l', rfl, rfl⟩ := o1_s hck hl
  rcases st with _ | ⟨y | ⟨y | ⟨y | y⟩⟩, _ | ⟨x | ⟨x | ⟨x | x⟩⟩, st⟩⟩ <;> first | exact no_e (show (none : Rs) = some (o, hE) from he) | skip
  · have he : k (pc + 1) lp (vI y :: vR x :: vI y :: st) h = some (o, hE) := he
    exact lv_dup_x1 hx rfl (dk_90 hB) rfl (rv_cat x) (hk _ _ _ _ _ _ _ he hlen hL hwl (WFv.cons hws.hd (WFv.cons trivial (WFv.cons hws.hd hws.tl.tl))) hR hG hfr)
  · have he : k (pc + 1) lp (vR y :: vR x :: vR y :: st) h = some (o, hE) := he
    exact lv_dup_x1 hx rfl (dk_90 hB) (rv_cat y) (rv_cat x) (hk _ _ _ _ _ _ _ he hlen hL hwl (WFv.cons trivial (WFv.cons trivial (WFv.cons trivial hws.tl.tl))) hR hG hfr)
theorem sim_dup2 {s0 : State} {K : KX} {p : Program} {l : Launch} {e : Env} {d : Nat} {s : State} {m : MethodId} {args : Array Value} {below : List Frame} {meth : Method} {c : Code} {M : Nat} {hS hE : PH} {o : Ot} {Ω : Om} {κ μ : List (Nat × Int)} {ini : Bool} {cf : Nat → List PV → PH → Rs} {k : Kt} (hx : p.tables.exec = Jvm.exec) (hk : SimK s0 K p l e d s m args below meth c hS hE o M k) : StepOK s0 K p l e d s m args below meth c hS hE o M Ω κ μ ini cf k .dup2 := by
  intro b len pc lp st h H ls locs hck hl hB he hlen hL hwl hws hR hG hfr
  obtain ⟨l', rfl, rfl⟩ := o1_s hck hl
  rcases st with _ | ⟨y | ⟨y | ⟨y | y⟩⟩, st⟩
  · exact no_e (show (none : Rs) = some (o, hE) from he)
  · rcases st with _ | ⟨x | ⟨x | ⟨x | x⟩⟩, st⟩ <;> first | exact no_e (show (none : Rs) = some (o, hE) from he) | skip
    have he : k (pc + 1) lp (vI y :: vR x :: vI y :: vR x :: st) h = some (o, hE) := he
    exact lv_dup2_11 hx rfl (dk_92 hB) rfl (rv_cat x) (hk _ _ _ _ _ _ _ he hlen hL hwl (WFv.cons hws.hd (WFv.cons trivial hws)) hR hG hfr)
  · have he : k (pc + 1) lp (vJ y :: vJ y :: st) h = some (o, hE) := he
    exact lv_dup2_2 hx rfl (dk_92 hB) rfl (hk _ _ _ _ _ _ _ he hlen hL hwl (WFv.cons hws.hd hws) hR hG hfr)
  · rcases st with _ | ⟨x | ⟨x | ⟨x | x⟩⟩, st⟩ <;> exact no_e (show (none : Rs) = some (o, hE) from he)
  · rcases st with _ | ⟨x | ⟨x | ⟨x | x⟩⟩, st⟩ <;> exact no_e (show (none : Rs) = some (o, hE) from he)
theorem sim_lcmp {s0 : State} {K : KX} {p : Program} {l : Launch} {e : Env} {d : Nat} {s : State} {m : MethodId} {args : Array Value} {below : List Frame} {meth : Method} {c : Code} {M : Nat} {hS hE : PH} {o : Ot} {Ω : Om} {κ μ : List (Nat × Int)} {ini : Bool} {cf : Nat → List PV → PH → Rs} {k : Kt} (hx : p.tables.exec = Jvm.exec) (hk : SimK s0 K p l e d s m args below meth c hS hE o M k) : StepOK s0 K p l e d s m args below meth c hS hE o M Ω κ μ ini cf k .lcmp := by
  intro b len pc lp st h H ls locs hck hl hB he hlen hL hwl hws hR hG hfr
  obtain ⟨l', rfl, rfl⟩ := o1_s hck hl
  rcases st with _ | ⟨y | ⟨y | ⟨y | y⟩⟩, _ | ⟨x | ⟨x | ⟨x | x⟩⟩, st⟩⟩ <;> first | exact no_e (show (none : Rs) = some (o, hE) from he) | skip
  have he : k (pc + 1) lp (vI (lcm x y) :: st) h = some (o, hE) := he
  refine W.lcmp hx rfl (dk_148 hB) ?_
  rw [lcm_cmp hws.tl.hd hws.hd]
  exact hk _ _ _ _ _ _ _ he hlen hL hwl (WFv.cons (lcm_in _ _) hws.tl.tl) hR hG hfr
theorem sim_iinc {s0 : State} {K : KX} {p : Program} {l : Launch} {e : Env} {d : Nat} {s : State} {m : MethodId} {args : Array Value} {below : List Frame} {meth : Method} {c : Code} {M : Nat} {hS hE : PH} {o : Ot} {Ω : Om} {κ μ : List (Nat × Int)} {ini : Bool} {cf : Nat → List PV → PH → Rs} {k : Kt} (hx : p.tables.exec = Jvm.exec) (hk : SimK s0 K p l e d s m args below meth c hS hE o M k) (i0 : Nat) (z : Int) : StepOK s0 K p l e d s m args below meth c hS hE o M Ω κ μ ini cf k (.iinc i0 z) := by
  intro b len pc lp st h H ls locs hck hl hB he hlen hL hwl hws hR hG hfr
  obtain ⟨hx0, hck⟩ := cond_s hck hl
  have hd := ck_s hck hl hB
  have e : len = 3 := by
    simp only [ck] at hck
    split at hck
    · split at hck
      · exact hck.symm
      · exact absurd hck.symm hl
    · exact absurd hck.symm hl
  subst e
  rcases hg : lget lp i0 with x | ⟨x | ⟨x | x⟩⟩ <;> simp only [stI, hg] at he <;> first | cases he | skip
  have hi0 : i0 < lp.length := by rw [hlen]; simp only [Nat.blt, Nat.ble_eq] at hx0; omega
  obtain ⟨n, hn⟩ := List.getElem?_of_mem (lvL_mem (lvE_I hg) hi0)
  exact lv_iinc (v := Int32.ofInt (w32 (x + z))) hx rfl hd hL hn (by rw [← c_add]) hi0 rfl (fun ls' h' => hk _ _ _ _ _ _ _ he (by rw [lset_len]; exact hlen) (LV.st1 hi0 (Or.inl ⟨_, rfl, rfl⟩) h') (WFv.set hwl (w32_in _)) hws hR hG hfr)
theorem sim_goto {s0 : State} {K : KX} {p : Program} {l : Launch} {e : Env} {d : Nat} {s : State} {m : MethodId} {args : Array Value} {below : List Frame} {meth : Method} {c : Code} {M : Nat} {hS hE : PH} {o : Ot} {Ω : Om} {κ μ : List (Nat × Int)} {ini : Bool} {cf : Nat → List PV → PH → Rs} {k : Kt} (hx : p.tables.exec = Jvm.exec) (hk : SimK s0 K p l e d s m args below meth c hS hE o M k) (t : Int) : StepOK s0 K p l e d s m args below meth c hS hE o M Ω κ μ ini cf k (.goto t) := by
  intro b len pc lp st h H ls locs hck hl hB he hlen hL hwl hws hR hG hfr
  obtain ⟨ht, hck⟩ := cond_s hck hl
  have hd := ck_s hck hl hB
  have e : len = 3 := by obtain ⟨y, z, l', rfl, e2, e⟩ := o3s_s hck hl; exact e
  subst e
  have ht : 0 ≤ t := of_decide_eq_true ht
  exact lv_goto hx rfl hd (tgt := t.toNat) (by omega) (hk _ _ _ _ _ _ _ he hlen hL hwl hws hR hG hfr)
theorem sim_ifCond {s0 : State} {K : KX} {p : Program} {l : Launch} {e : Env} {d : Nat} {s : State} {m : MethodId} {args : Array Value} {below : List Frame} {meth : Method} {c : Code} {M : Nat} {hS hE : PH} {o : Ot} {Ω : Om} {κ μ : List (Nat × Int)} {ini : Bool} {cf : Nat → List PV → PH → Rs} {k : Kt} (hx : p.tables.exec = Jvm.exec) (hk : SimK s0 K p l e d s m args below meth c hS hE o M k) (q : ClassFile.Cond) (t : Int) : StepOK s0 K p l e d s m args below meth c hS hE o M Ω κ μ ini cf k (.ifCond q t) := by
  intro b len pc lp st h H ls locs hck hl hB he hlen hL hwl hws hR hG hfr
  obtain ⟨ht, hck⟩ := cond_s hck hl
  have ht : 0 ≤ t := of_decide_eq_true ht
  have hd := ck_s hck hl hB
  have e : len = 3 := by cases q <;> (obtain ⟨y, z, l', rfl, e2, e⟩ := o3s_s hck hl; exact e)
  subst e
  rcases st with _ | ⟨x | ⟨x | ⟨x | x⟩⟩, st⟩ <;> first | exact no_e (show (none : Rs) = some (o, hE) from he) | skip
  have hr : in32 x := hws.hd
  cases q
  · have he : (if x = 0 then k t.toNat lp st h else k (pc + 3) lp st h) = some (o, hE) := he
    refine lv_if_eq hx rfl hd (tgt := t.toNat) (by omega) (fun q => ?_) (fun q => ?_)
    · rw [if_pos ((c_eq0 hr).mp q)] at he; exact hk _ _ _ _ _ _ _ he hlen hL hwl hws.tl hR hG hfr
    · rw [if_neg (fun z => q ((c_eq0 hr).mpr z))] at he; exact hk _ _ _ _ _ _ _ he hlen hL hwl hws.tl hR hG hfr
  · have he : (if x = 0 then k (pc + 3) lp st h else k t.toNat lp st h) = some (o, hE) := he
    refine lv_if_ne hx rfl hd (tgt := t.toNat) (by omega) (fun q => ?_) (fun q => ?_)
    · rw [if_neg (fun z => q ((c_eq0 hr).mpr z))] at he; exact hk _ _ _ _ _ _ _ he hlen hL hwl hws.tl hR hG hfr
    · rw [if_pos ((c_eq0 hr).mp q)] at he; exact hk _ _ _ _ _ _ _ he hlen hL hwl hws.tl hR hG hfr
  · have he : (if x < 0 then k t.toNat lp st h else k (pc + 3) lp st h) = some (o, hE) := he
    refine lv_if_lt hx rfl hd (tgt := t.toNat) (by omega) (fun q => ?_) (fun q => ?_)
    · rw [if_pos ((c_lt0 hr).mp q)] at he; exact hk _ _ _ _ _ _ _ he hlen hL hwl hws.tl hR hG hfr
    · rw [if_neg (fun z => q ((c_lt0 hr).mpr z))] at he; exact hk _ _ _ _ _ _ _ he hlen hL hwl hws.tl hR hG hfr
  · have he : (if x < 0 then k (pc + 3) lp st h else k t.toNat lp st h) = some (o, hE) := he
    refine lv_if_ge hx rfl hd (tgt := t.toNat) (by omega) (fun q => ?_) (fun q => ?_)
    · rw [if_neg (fun z => by have := (c_ge0 hr).mp q; omega)] at he; exact hk _ _ _ _ _ _ _ he hlen hL hwl hws.tl hR hG hfr
    · rw [if_pos (by have := mt (c_ge0 hr).mpr q; omega)] at he; exact hk _ _ _ _ _ _ _ he hlen hL hwl hws.tl hR hG hfr
  · have he : (if 0 < x then k t.toNat lp st h else k (pc + 3) lp st h) = some (o, hE) := he
    refine lv_if_gt hx rfl hd (tgt := t.toNat) (by omega) (fun q => ?_) (fun q => ?_)
    · rw [if_pos ((c_gt0 hr).mp q)] at he; exact hk _ _ _ _ _ _ _ he hlen hL hwl hws.tl hR hG hfr
    · rw [if_neg (fun z => q ((c_gt0 hr).mpr z))] at he; exact hk _ _ _ _ _ _ _ he hlen hL hwl hws.tl hR hG hfr
  · have he : (if 0 < x then k (pc + 3) lp st h else k t.toNat lp st h) = some (o, hE) := he
    refine lv_if_le hx rfl hd (tgt := t.toNat) (by omega) (fun q => ?_) (fun q => ?_)
    · rw [if_neg (fun z => by have := (c_le0 hr).mp q; omega)] at he; exact hk _ _ _ _ _ _ _ he hlen hL hwl hws.tl hR hG hfr
    · rw [if_pos (by have := mt (c_le0 hr).mpr q; omega)] at he; exact hk _ _ _ _ _ _ _ he hlen hL hwl hws.tl hR hG hfr
theorem sim_if_icmp {s0 : State} {K : KX} {p : Program} {l : Launch} {e : Env} {d : Nat} {s : State} {m : MethodId} {args : Array Value} {below : List Frame} {meth : Method} {c : Code} {M : Nat} {hS hE : PH} {o : Ot} {Ω : Om} {κ μ : List (Nat × Int)} {ini : Bool} {cf : Nat → List PV → PH → Rs} {k : Kt} (hx : p.tables.exec = Jvm.exec) (hk : SimK s0 K p l e d s m args below meth c hS hE o M k) (q : ClassFile.Cond) (t : Int) : StepOK s0 K p l e d s m args below meth c hS hE o M Ω κ μ ini cf k (.if_icmp q t) := by
  intro b len pc lp st h H ls locs hck hl hB he hlen hL hwl hws hR hG hfr
  obtain ⟨ht, hck⟩ := cond_s hck hl
  have ht : 0 ≤ t := of_decide_eq_true ht
  have hd := ck_s hck hl hB
  have e : len = 3 := by cases q <;> (obtain ⟨y, z, l', rfl, e2, e⟩ := o3s_s hck hl; exact e)
  subst e
  rcases st with _ | ⟨y | ⟨y | ⟨y | y⟩⟩, _ | ⟨x | ⟨x | ⟨x | x⟩⟩, st⟩⟩ <;> first | exact no_e (show (none : Rs) = some (o, hE) from he) | skip
  have hr : in32 x := hws.tl.hd
  have hy : in32 y := hws.hd
  cases q
  · have he : (if x = y then k t.toNat lp st h else k (pc + 3) lp st h) = some (o, hE) := he
    refine lv_icmp_eq hx rfl hd (tgt := t.toNat) (by omega) (fun q => ?_) (fun q => ?_)
    · rw [if_pos ((c_eq hr hy).mp q)] at he; exact hk _ _ _ _ _ _ _ he hlen hL hwl hws.tl.tl hR hG hfr
    · rw [if_neg (fun z => q ((c_eq hr hy).mpr z))] at he; exact hk _ _ _ _ _ _ _ he hlen hL hwl hws.tl.tl hR hG hfr
  · have he : (if x = y then k (pc + 3) lp st h else k t.toNat lp st h) = some (o, hE) := he
    refine lv_icmp_ne hx rfl hd (tgt := t.toNat) (by omega) (fun q => ?_) (fun q => ?_)
    · rw [if_neg (fun z => q ((c_eq hr hy).mpr z))] at he; exact hk _ _ _ _ _ _ _ he hlen hL hwl hws.tl.tl hR hG hfr
    · rw [if_pos ((c_eq hr hy).mp q)] at he; exact hk _ _ _ _ _ _ _ he hlen hL hwl hws.tl.tl hR hG hfr
  · have he : (if x < y then k t.toNat lp st h else k (pc + 3) lp st h) = some (o, hE) := he
    refine lv_icmp_lt hx rfl hd (tgt := t.toNat) (by omega) (fun q => ?_) (fun q => ?_)
    · rw [if_pos ((c_lt hr hy).mp q)] at he; exact hk _ _ _ _ _ _ _ he hlen hL hwl hws.tl.tl hR hG hfr
    · rw [if_neg (fun z => q ((c_lt hr hy).mpr z))] at he; exact hk _ _ _ _ _ _ _ he hlen hL hwl hws.tl.tl hR hG hfr
  · have he : (if x < y then k (pc + 3) lp st h else k t.toNat lp st h) = some (o, hE) := he
    refine lv_icmp_ge hx rfl hd (tgt := t.toNat) (by omega) (fun q => ?_) (fun q => ?_)
    · rw [if_neg (fun z => by have := (c_le hy hr).mp q; omega)] at he; exact hk _ _ _ _ _ _ _ he hlen hL hwl hws.tl.tl hR hG hfr
    · rw [if_pos (by have := mt (c_le hy hr).mpr q; omega)] at he; exact hk _ _ _ _ _ _ _ he hlen hL hwl hws.tl.tl hR hG hfr
  · have he : (if y < x then k t.toNat lp st h else k (pc + 3) lp st h) = some (o, hE) := he
    refine lv_icmp_gt hx rfl hd (tgt := t.toNat) (by omega) (fun q => ?_) (fun q => ?_)
    · rw [if_pos ((c_lt hy hr).mp q)] at he; exact hk _ _ _ _ _ _ _ he hlen hL hwl hws.tl.tl hR hG hfr
    · rw [if_neg (fun z => q ((c_lt hy hr).mpr z))] at he; exact hk _ _ _ _ _ _ _ he hlen hL hwl hws.tl.tl hR hG hfr
  · have he : (if y < x then k (pc + 3) lp st h else k t.toNat lp st h) = some (o, hE) := he
    refine lv_icmp_le hx rfl hd (tgt := t.toNat) (by omega) (fun q => ?_) (fun q => ?_)
    · rw [if_neg (fun z => by have := (c_le hr hy).mp q; omega)] at he; exact hk _ _ _ _ _ _ _ he hlen hL hwl hws.tl.tl hR hG hfr
    · rw [if_pos (by have := mt (c_le hr hy).mpr q; omega)] at he; exact hk _ _ _ _ _ _ _ he hlen hL hwl hws.tl.tl hR hG hfr
def ro (r : Nat) : Option Nat := match r with
  | 0 => none
  | a + 1 => some a
theorem ro_rf (r : Nat) : va_rf (ro r) = rv r := by cases r <;> rfl
theorem ro_inj {a b : Nat} : ro a = ro b ↔ a = b := by cases a <;> cases b <;> simp [ro]
theorem sim_if_acmp {s0 : State} {K : KX} {p : Program} {l : Launch} {e : Env} {d : Nat} {s : State} {m : MethodId} {args : Array Value} {below : List Frame} {meth : Method} {c : Code} {M : Nat} {hS hE : PH} {o : Ot} {Ω : Om} {κ μ : List (Nat × Int)} {ini : Bool} {cf : Nat → List PV → PH → Rs} {k : Kt} (hx : p.tables.exec = Jvm.exec) (hk : SimK s0 K p l e d s m args below meth c hS hE o M k) (q : ACond) (t : Int) : StepOK s0 K p l e d s m args below meth c hS hE o M Ω κ μ ini cf k (.if_acmp q t) := by
  intro b len pc lp st h H ls locs hck hl hB he hlen hL hwl hws hR hG hfr
  obtain ⟨ht, hck⟩ := cond_s hck hl
  have ht : 0 ≤ t := of_decide_eq_true ht
  have hd := ck_s hck hl hB
  have e : len = 3 := by cases q <;> (obtain ⟨y, z, l', rfl, e2, e⟩ := o3s_s hck hl; exact e)
  subst e
  rcases st with _ | ⟨y | ⟨y | ⟨y | y⟩⟩, _ | ⟨x | ⟨x | ⟨x | x⟩⟩, st⟩⟩ <;> first | exact no_e (show (none : Rs) = some (o, hE) from he) | skip
  show GW _ _ _ _ _ _ _ _ _ _ _ _ _ _ _ _ _ _ (F0 m pc ls (rv y :: rv x :: List.map cv st))
  rw [← ro_rf y, ← ro_rf x]
  cases q
  · have he : (if x = y then k t.toNat lp st h else k (pc + 3) lp st h) = some (o, hE) := he
    refine lv_acmp_eq hx rfl hd (tgt := t.toNat) (by omega) (fun q => ?_) (fun q => ?_)
    · rw [if_pos (ro_inj.mp q)] at he; exact hk _ _ _ _ _ _ _ he hlen hL hwl hws.tl.tl hR hG hfr
    · rw [if_neg (fun z => q (ro_inj.mpr z))] at he; exact hk _ _ _ _ _ _ _ he hlen hL hwl hws.tl.tl hR hG hfr
  · have he : (if x = y then k (pc + 3) lp st h else k t.toNat lp st h) = some (o, hE) := he
    refine lv_acmp_ne hx rfl hd (tgt := t.toNat) (by omega) (fun q => ?_) (fun q => ?_)
    · rw [if_neg (fun z => q (ro_inj.mpr z))] at he; exact hk _ _ _ _ _ _ _ he hlen hL hwl hws.tl.tl hR hG hfr
    · rw [if_pos (ro_inj.mp q)] at he; exact hk _ _ _ _ _ _ _ he hlen hL hwl hws.tl.tl hR hG hfr
theorem sim_ifnull {s0 : State} {K : KX} {p : Program} {l : Launch} {e : Env} {d : Nat} {s : State} {m : MethodId} {args : Array Value} {below : List Frame} {meth : Method} {c : Code} {M : Nat} {hS hE : PH} {o : Ot} {Ω : Om} {κ μ : List (Nat × Int)} {ini : Bool} {cf : Nat → List PV → PH → Rs} {k : Kt} (hx : p.tables.exec = Jvm.exec) (hk : SimK s0 K p l e d s m args below meth c hS hE o M k) (t : Int) : StepOK s0 K p l e d s m args below meth c hS hE o M Ω κ μ ini cf k (.ifnull t) := by
  intro b len pc lp st h H ls locs hck hl hB he hlen hL hwl hws hR hG hfr
  obtain ⟨ht, hck⟩ := cond_s hck hl
  have ht : 0 ≤ t := of_decide_eq_true ht
  have hd := ck_s hck hl hB
  have e : len = 3 := by obtain ⟨y, z, l', rfl, e2, e⟩ := o3s_s hck hl; exact e
  subst e
  rcases st with _ | ⟨x | ⟨x | ⟨x | x⟩⟩, st⟩ <;> first | exact no_e (show (none : Rs) = some (o, hE) from he) | skip
  have he : (if x = 0 then k t.toNat lp st h else k (pc + 3) lp st h) = some (o, hE) := he
  rcases x with _ | x
  · rw [if_pos rfl] at he
    exact lv_ifnullN hx rfl hd (tgt := t.toNat) (by omega) (hk _ _ _ _ _ _ _ he hlen hL hwl hws.tl hR hG hfr)
  · rw [if_neg (by omega)] at he
    exact lv_ifnull hx rfl hd (hk _ _ _ _ _ _ _ he hlen hL hwl hws.tl hR hG hfr)
theorem sim_ifnonnull {s0 : State} {K : KX} {p : Program} {l : Launch} {e : Env} {d : Nat} {s : State} {m : MethodId} {args : Array Value} {below : List Frame} {meth : Method} {c : Code} {M : Nat} {hS hE : PH} {o : Ot} {Ω : Om} {κ μ : List (Nat × Int)} {ini : Bool} {cf : Nat → List PV → PH → Rs} {k : Kt} (hx : p.tables.exec = Jvm.exec) (hk : SimK s0 K p l e d s m args below meth c hS hE o M k) (t : Int) : StepOK s0 K p l e d s m args below meth c hS hE o M Ω κ μ ini cf k (.ifnonnull t) := by
  intro b len pc lp st h H ls locs hck hl hB he hlen hL hwl hws hR hG hfr
  obtain ⟨ht, hck⟩ := cond_s hck hl
  have ht : 0 ≤ t := of_decide_eq_true ht
  have hd := ck_s hck hl hB
  have e : len = 3 := by obtain ⟨y, z, l', rfl, e2, e⟩ := o3s_s hck hl; exact e
  subst e
  rcases st with _ | ⟨x | ⟨x | ⟨x | x⟩⟩, st⟩ <;> first | exact no_e (show (none : Rs) = some (o, hE) from he) | skip
  have he : (if x = 0 then k (pc + 3) lp st h else k t.toNat lp st h) = some (o, hE) := he
  rcases x with _ | x
  · rw [if_pos rfl] at he
    exact lv_ifnonnullN hx rfl hd (hk _ _ _ _ _ _ _ he hlen hL hwl hws.tl hR hG hfr)
  · rw [if_neg (by omega)] at he
    exact lv_ifnonnull hx rfl hd (tgt := t.toNat) (by omega) (hk _ _ _ _ _ _ _ he hlen hL hwl hws.tl hR hG hfr)
