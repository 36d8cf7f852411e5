/-! SIMULATION, instruction by instruction: those that need no tables (printed by gen/sim15.py) -/
set_option maxRecDepth 100000
abbrev GW (s0 : State) (K : KX) (p : Program) (l : Launch) (e : Env) (d : Nat) (s : State) (m : MethodId) (args : Array Value) (below : List Frame) (meth : Method) (c : Code) (hS hE : PH) (o : Ot) (h : PH) (H : Heap) (locs : List Loc) (g : JFrame) : Prop := W p l e (RM d hS) s m args below meth c H locs (hk h - hk hS) (hs h - hs hS) (MQG below (QE s0 K hS o hE) args s (hk hE - hk hS) (hs hE - hs hS) (fr0 s0)) g
def SimK (s0 : State) (K : KX) (p : Program) (l : Launch) (e : Env) (d : Nat) (s : State) (m : MethodId) (args : Array Value) (below : List Frame) (meth : Method) (c : Code) (hS hE : PH) (o : Ot) (M : Nat) (k : Kt) : Prop := ∀ (pc : Nat) (lp st : List PV) (h : PH) (H : Heap) (ls : Array Slot) (locs : List Loc), k pc lp st h = some (o, hE) → lp.length = mxM M → LV ls lp → WFv lp → WFv st → Rep s0 K h H → Ge hS h → (∀ q ∈ locs, fr0 s0 q.base) → GW s0 K p l e d s m args below meth c hS hE o h H locs (F0 m pc ls (st.map cv))
def StepOK (s0 : State) (K : KX) (p : Program) (l : Launch) (e : Env) (d : Nat) (s : State) (m : MethodId) (args : Array Value) (below : List Frame) (meth : Method) (c : Code) (hS hE : PH) (o : Ot) (M : Nat) (Ω : Om) (κ μ : List (Nat × Int)) (ini : Bool) (cf : Nat → List PV → PH → Rs) (k : Kt) (i : Instr) : Prop := ∀ (b : List Nat) (len pc : Nat) (lp st : List PV) (h : PH) (H : Heap) (ls : Array Slot) (locs : List Loc), ckR Ω κ μ (mxM M) ini pc b i = len → len ≠ 0 → BytesAt c.code pc b → stI cf k M pc (pc + len) i lp st h = some (o, hE) → lp.length = mxM M → LV ls lp → WFv lp → WFv st → Rep s0 K h H → Ge hS h → (∀ q ∈ locs, fr0 s0 q.base) → GW s0 K p l e d s m args below meth c hS hE o h H locs (F0 m pc ls (st.map cv))
theorem c_rem {x y : Int} (hx : in32 x) (hy : in32 y) : Int32.ofInt x - Int32.ofInt x / Int32.ofInt y * Int32.ofInt y = Int32.ofInt (x.tmod y) := by
  rw [c_div hx hy, c_w32, ← Int32.ofInt_mul, ← Int32.ofInt_sub, Int.tmod_def, Int.mul_comm]
theorem d_rem {x y : Int} (hx : in64 x) (hy : in64 y) : Int64.ofInt x - Int64.ofInt x / Int64.ofInt y * Int64.ofInt y = Int64.ofInt (x.tmod y) := by
  rw [d_div hx hy, c_w64, ← Int64.ofInt_mul, ← Int64.ofInt_sub, Int.tmod_def, Int.mul_comm]
theorem no_e {P : Prop} {y : Ot × PH} (h : (none : Rs) = some y) : P := by cases h
theorem w8_in (x : Int) : in32 (w8 x) := by unfold in32 w8; omega
theorem c_w8 {x : Int} (hr : in32 x) : (Int32.ofInt x).toInt8.toInt32 = Int32.ofInt (w8 x) := by
  apply e32
  rw [Int8.toInt_toInt32, Int32.toInt_toInt8, of32 hr, of32 (w8_in x)]
  unfold w8
  rw [Int.bmod_def]
  split <;> omega
theorem c_u16 {x : Int} (hr : in32 x) : ((Int32.ofInt x).toUInt32 % 65536).toInt32 = Int32.ofInt (x % 65536) := by
  apply e32
  rw [of32 (show in32 (x % 65536) from ⟨by omega, by omega⟩)]
  have h1 : ((Int32.ofInt x).toUInt32 % 65536).toNat = (x % 4294967296).toNat % 65536 := by
    rw [UInt32.toNat_mod]
    have h2 : (Int32.ofInt x).toUInt32.toNat = (x % 4294967296).toNat := by
      show (BitVec.ofInt 32 x).toNat = _
      rw [BitVec.toNat_ofInt]
      rfl
    rw [h2]
    rfl
  have h3 : (((Int32.ofInt x).toUInt32 % 65536).toInt32).toInt = (((Int32.ofInt x).toUInt32 % 65536).toNat : Int) := by
    show BitVec.toInt ((Int32.ofInt x).toUInt32 % 65536).toBitVec = _
    rw [BitVec.toInt_eq_toNat_of_lt]
    · rfl
    · have : ((Int32.ofInt x).toUInt32 % 65536).toBitVec.toNat = ((Int32.ofInt x).toUInt32 % 65536).toNat := rfl
      rw [this, h1]
      omega
  rw [h3, h1]
  omega
theorem sim_iadd {s0 : State} {K : KX} {p : Program} {l : Launch} {e : Env} {d : Nat} {s : State} {m : MethodId} {args : Array Value} {below : List Frame} {meth : Method} {c : Code} {M : Nat} {hS hE : PH} {o : Ot} {Ω : Om} {κ μ : List (Nat × Int)} {ini : Bool} {cf : Nat → List PV → PH → Rs} {k : Kt} (hx : p.tables.exec = Jvm.exec) (hk : SimK s0 K p l e d s m args below meth c hS hE o M k) : StepOK s0 K p l e d s m args below meth c hS hE o M Ω κ μ ini cf k .iadd := by
  intro b len pc lp st h H ls locs hck hl hB he hlen hL hwl hws hR hG hfr
  obtain ⟨l', rfl, rfl⟩ := o1_s hck hl
  have hd := dk_96 hB
  rcases st with _ | ⟨y | ⟨y | ⟨y | y⟩⟩, _ | ⟨x | ⟨x | ⟨x | x⟩⟩, st⟩⟩ <;> first | exact no_e (show (none : Rs) = some (o, hE) from he) | skip
  have he : k (pc + 1) lp (vI (w32 (x + y)) :: st) h = some (o, hE) := he
  refine lv_iadd hx rfl hd ?_
  rw [c_add]
  exact hk _ _ _ _ _ _ _ he hlen hL hwl (WFv.cons (w32_in _) hws.tl.tl) hR hG hfr
theorem sim_isub {s0 : State} {K : KX} {p : Program} {l : Launch} {e : Env} {d : Nat} {s : State} {m : MethodId} {args : Array Value} {below : List Frame} {meth : Method} {c : Code} {M : Nat} {hS hE : PH} {o : Ot} {Ω : Om} {κ μ : List (Nat × Int)} {ini : Bool} {cf : Nat → List PV → PH → Rs} {k : Kt} (hx : p.tables.exec = Jvm.exec) (hk : SimK s0 K p l e d s m args below meth c hS hE o M k) : StepOK s0 K p l e d s m args below meth c hS hE o M Ω κ μ ini cf k .isub := by
  intro b len pc lp st h H ls locs hck hl hB he hlen hL hwl hws hR hG hfr
  obtain ⟨l', rfl, rfl⟩ := o1_s hck hl
  have hd := dk_100 hB
  rcases st with _ | ⟨y | ⟨y | ⟨y | y⟩⟩, _ | ⟨x | ⟨x | ⟨x | x⟩⟩, st⟩⟩ <;> first | exact no_e (show (none : Rs) = some (o, hE) from he) | skip
  have he : k (pc + 1) lp (vI (w32 (x - y)) :: st) h = some (o, hE) := he
  refine lv_isub hx rfl hd ?_
  rw [c_sub]
  exact hk _ _ _ _ _ _ _ he hlen hL hwl (WFv.cons (w32_in _) hws.tl.tl) hR hG hfr
theorem sim_imul {s0 : State} {K : KX} {p : Program} {l : Launch} {e : Env} {d : Nat} {s : State} {m : MethodId} {args : Array Value} {below : List Frame} {meth : Method} {c : Code} {M : Nat} {hS hE : PH} {o : Ot} {Ω : Om} {κ μ : List (Nat × Int)} {ini : Bool} {cf : Nat → List PV → PH → Rs} {k : Kt} (hx : p.tables.exec = Jvm.exec) (hk : SimK s0 K p l e d s m args below meth c hS hE o M k) : StepOK s0 K p l e d s m args below meth c hS hE o M Ω κ μ ini cf k .imul := by
  intro b len pc lp st h H ls locs hck hl hB he hlen hL hwl hws hR hG hfr
  obtain ⟨l', rfl, rfl⟩ := o1_s hck hl
  have hd := dk_104 hB
  rcases st with _ | ⟨y | ⟨y | ⟨y | y⟩⟩, _ | ⟨x | ⟨x | ⟨x | x⟩⟩, st⟩⟩ <;> first | exact no_e (show (none : Rs) = some (o, hE) from he) | skip
  have he : k (pc + 1) lp (vI (w32 (x * y)) :: st) h = some (o, hE) := he
  refine lv_imul hx rfl hd ?_
  rw [c_mul]
  exact hk _ _ _ _ _ _ _ he hlen hL hwl (WFv.cons (w32_in _) hws.tl.tl) hR hG hfr
theorem sim_ladd {s0 : State} {K : KX} {p : Program} {l : Launch} {e : Env} {d : Nat} {s : State} {m : MethodId} {args : Array Value} {below : List Frame} {meth : Method} {c : Code} {M : Nat} {hS hE : PH} {o : Ot} {Ω : Om} {κ μ : List (Nat × Int)} {ini : Bool} {cf : Nat → List PV → PH → Rs} {k : Kt} (hx : p.tables.exec = Jvm.exec) (hk : SimK s0 K p l e d s m args below meth c hS hE o M k) : StepOK s0 K p l e d s m args below meth c hS hE o M Ω κ μ ini cf k .ladd := by
  intro b len pc lp st h H ls locs hck hl hB he hlen hL hwl hws hR hG hfr
  obtain ⟨l', rfl, rfl⟩ := o1_s hck hl
  have hd := dk_97 hB
  rcases st with _ | ⟨y | ⟨y | ⟨y | y⟩⟩, _ | ⟨x | ⟨x | ⟨x | x⟩⟩, st⟩⟩ <;> first | exact no_e (show (none : Rs) = some (o, hE) from he) | skip
  have he : k (pc + 1) lp (vJ (w64 (x + y)) :: st) h = some (o, hE) := he
  refine lv_ladd hx rfl hd ?_
  rw [d_add]
  exact hk _ _ _ _ _ _ _ he hlen hL hwl (WFv.cons (w64_in _) hws.tl.tl) hR hG hfr
theorem sim_lsub {s0 : State} {K : KX} {p : Program} {l : Launch} {e : Env} {d : Nat} {s : State} {m : MethodId} {args : Array Value} {below : List Frame} {meth : Method} {c : Code} {M : Nat} {hS hE : PH} {o : Ot} {Ω : Om} {κ μ : List (Nat × Int)} {ini : Bool} {cf : Nat → List PV → PH → Rs} {k : Kt} (hx : p.tables.exec = Jvm.exec) (hk : SimK s0 K p l e d s m args below meth c hS hE o M k) : StepOK s0 K p l e d s m args below meth c hS hE o M Ω κ μ ini cf k .lsub := by
  intro b len pc lp st h H ls locs hck hl hB he hlen hL hwl hws hR hG hfr
  obtain ⟨l', rfl, rfl⟩ := o1_s hck hl
  have hd := dk_101 hB
  rcases st with _ | ⟨y | ⟨y | ⟨y | y⟩⟩, _ | ⟨x | ⟨x | ⟨x | x⟩⟩, st⟩⟩ <;> first | exact no_e (show (none : Rs) = some (o, hE) from he) | skip
  have he : k (pc + 1) lp (vJ (w64 (x - y)) :: st) h = some (o, hE) := he
  refine lv_lsub hx rfl hd ?_
  rw [d_sub]
  exact hk _ _ _ _ _ _ _ he hlen hL hwl (WFv.cons (w64_in _) hws.tl.tl) hR hG hfr
theorem sim_lmul {s0 : State} {K : KX} {p : Program} {l : Launch} {e : Env} {d : Nat} {s : State} {m : MethodId} {args : Array Value} {below : List Frame} {meth : Method} {c : Code} {M : Nat} {hS hE : PH} {o : Ot} {Ω : Om} {κ μ : List (Nat × Int)} {ini : Bool} {cf : Nat → List PV → PH → Rs} {k : Kt} (hx : p.tables.exec = Jvm.exec) (hk : SimK s0 K p l e d s m args below meth c hS hE o M k) : StepOK s0 K p l e d s m args below meth c hS hE o M Ω κ μ ini cf k .lmul := by
  intro b len pc lp st h H ls locs hck hl hB he hlen hL hwl hws hR hG hfr
  obtain ⟨l', rfl, rfl⟩ := o1_s hck hl
  have hd := dk_105 hB
  rcases st with _ | ⟨y | ⟨y | ⟨y | y⟩⟩, _ | ⟨x | ⟨x | ⟨x | x⟩⟩, st⟩⟩ <;> first | exact no_e (show (none : Rs) = some (o, hE) from he) | skip
  have he : k (pc + 1) lp (vJ (w64 (x * y)) :: st) h = some (o, hE) := he
  refine lv_lmul hx rfl hd ?_
  rw [d_mul]
  exact hk _ _ _ _ _ _ _ he hlen hL hwl (WFv.cons (w64_in _) hws.tl.tl) hR hG hfr
theorem sim_iand {s0 : State} {K : KX} {p : Program} {l : Launch} {e : Env} {d : Nat} {s : State} {m : MethodId} {args : Array Value} {below : List Frame} {meth : Method} {c : Code} {M : Nat} {hS hE : PH} {o : Ot} {Ω : Om} {κ μ : List (Nat × Int)} {ini : Bool} {cf : Nat → List PV → PH → Rs} {k : Kt} (hx : p.tables.exec = Jvm.exec) (hk : SimK s0 K p l e d s m args below meth c hS hE o M k) : StepOK s0 K p l e d s m args below meth c hS hE o M Ω κ μ ini cf k .iand := by
  intro b len pc lp st h H ls locs hck hl hB he hlen hL hwl hws hR hG hfr
  obtain ⟨l', rfl, rfl⟩ := o1_s hck hl
  have hd := dk_126 hB
  rcases st with _ | ⟨y | ⟨y | ⟨y | y⟩⟩, _ | ⟨x | ⟨x | ⟨x | x⟩⟩, st⟩⟩ <;> first | exact no_e (show (none : Rs) = some (o, hE) from he) | skip
  have he : k (pc + 1) lp (vI (iand x y) :: st) h = some (o, hE) := he
  refine lv_iand hx rfl hd ?_
  rw [← ot32 (Int32.ofInt x &&& Int32.ofInt y)]
  exact hk _ _ _ _ _ _ _ he hlen hL hwl (WFv.cons (to32 _) hws.tl.tl) hR hG hfr
theorem sim_ior {s0 : State} {K : KX} {p : Program} {l : Launch} {e : Env} {d : Nat} {s : State} {m : MethodId} {args : Array Value} {below : List Frame} {meth : Method} {c : Code} {M : Nat} {hS hE : PH} {o : Ot} {Ω : Om} {κ μ : List (Nat × Int)} {ini : Bool} {cf : Nat → List PV → PH → Rs} {k : Kt} (hx : p.tables.exec = Jvm.exec) (hk : SimK s0 K p l e d s m args below meth c hS hE o M k) : StepOK s0 K p l e d s m args below meth c hS hE o M Ω κ μ ini cf k .ior := by
  intro b len pc lp st h H ls locs hck hl hB he hlen hL hwl hws hR hG hfr
  obtain ⟨l', rfl, rfl⟩ := o1_s hck hl
  have hd := dk_128 hB
  rcases st with _ | ⟨y | ⟨y | ⟨y | y⟩⟩, _ | ⟨x | ⟨x | ⟨x | x⟩⟩, st⟩⟩ <;> first | exact no_e (show (none : Rs) = some (o, hE) from he) | skip
  have he : k (pc + 1) lp (vI (ior x y) :: st) h = some (o, hE) := he
  refine lv_ior hx rfl hd ?_
  rw [← ot32 (Int32.ofInt x ||| Int32.ofInt y)]
  exact hk _ _ _ _ _ _ _ he hlen hL hwl (WFv.cons (to32 _) hws.tl.tl) hR hG hfr
theorem sim_ishl {s0 : State} {K : KX} {p : Program} {l : Launch} {e : Env} {d : Nat} {s : State} {m : MethodId} {args : Array Value} {below : List Frame} {meth : Method} {c : Code} {M : Nat} {hS hE : PH} {o : Ot} {Ω : Om} {κ μ : List (Nat × Int)} {ini : Bool} {cf : Nat → List PV → PH → Rs} {k : Kt} (hx : p.tables.exec = Jvm.exec) (hk : SimK s0 K p l e d s m args below meth c hS hE o M k) : StepOK s0 K p l e d s m args below meth c hS hE o M Ω κ μ ini cf k .ishl := by
  intro b len pc lp st h H ls locs hck hl hB he hlen hL hwl hws hR hG hfr
  obtain ⟨l', rfl, rfl⟩ := o1_s hck hl
  have hd := dk_120 hB
  rcases st with _ | ⟨y | ⟨y | ⟨y | y⟩⟩, _ | ⟨x | ⟨x | ⟨x | x⟩⟩, st⟩⟩ <;> first | exact no_e (show (none : Rs) = some (o, hE) from he) | skip
  have he : k (pc + 1) lp (vI (ishl x y) :: st) h = some (o, hE) := he
  refine lv_ishl hx rfl hd ?_
  rw [← ot32 (Int32.ofInt x <<< (Int32.ofInt y &&& 31))]
  exact hk _ _ _ _ _ _ _ he hlen hL hwl (WFv.cons (to32 _) hws.tl.tl) hR hG hfr
theorem sim_ishr {s0 : State} {K : KX} {p : Program} {l : Launch} {e : Env} {d : Nat} {s : State} {m : MethodId} {args : Array Value} {below : List Frame} {meth : Method} {c : Code} {M : Nat} {hS hE : PH} {o : Ot} {Ω : Om} {κ μ : List (Nat × Int)} {ini : Bool} {cf : Nat → List PV → PH → Rs} {k : Kt} (hx : p.tables.exec = Jvm.exec) (hk : SimK s0 K p l e d s m args below meth c hS hE o M k) : StepOK s0 K p l e d s m args below meth c hS hE o M Ω κ μ ini cf k .ishr := by
  intro b len pc lp st h H ls locs hck hl hB he hlen hL hwl hws hR hG hfr
  obtain ⟨l', rfl, rfl⟩ := o1_s hck hl
  have hd := dk_122 hB
  rcases st with _ | ⟨y | ⟨y | ⟨y | y⟩⟩, _ | ⟨x | ⟨x | ⟨x | x⟩⟩, st⟩⟩ <;> first | exact no_e (show (none : Rs) = some (o, hE) from he) | skip
  have he : k (pc + 1) lp (vI (ishr x y) :: st) h = some (o, hE) := he
  refine lv_ishr hx rfl hd ?_
  rw [← ot32 (Int32.ofInt x >>> (Int32.ofInt y &&& 31))]
  exact hk _ _ _ _ _ _ _ he hlen hL hwl (WFv.cons (to32 _) hws.tl.tl) hR hG hfr
theorem sim_land {s0 : State} {K : KX} {p : Program} {l : Launch} {e : Env} {d : Nat} {s : State} {m : MethodId} {args : Array Value} {below : List Frame} {meth : Method} {c : Code} {M : Nat} {hS hE : PH} {o : Ot} {Ω : Om} {κ μ : List (Nat × Int)} {ini : Bool} {cf : Nat → List PV → PH → Rs} {k : Kt} (hx : p.tables.exec = Jvm.exec) (hk : SimK s0 K p l e d s m args below meth c hS hE o M k) : StepOK s0 K p l e d s m args below meth c hS hE o M Ω κ μ ini cf k .land := by
  intro b len pc lp st h H ls locs hck hl hB he hlen hL hwl hws hR hG hfr
  obtain ⟨l', rfl, rfl⟩ := o1_s hck hl
  have hd := dk_127 hB
  rcases st with _ | ⟨y | ⟨y | ⟨y | y⟩⟩, _ | ⟨x | ⟨x | ⟨x | x⟩⟩, st⟩⟩ <;> first | exact no_e (show (none : Rs) = some (o, hE) from he) | skip
  have he : k (pc + 1) lp (vJ (land x y) :: st) h = some (o, hE) := he
  refine lv_land hx rfl hd ?_
  rw [← ot64 (Int64.ofInt x &&& Int64.ofInt y)]
  exact hk _ _ _ _ _ _ _ he hlen hL hwl (WFv.cons (to64 _) hws.tl.tl) hR hG hfr
theorem sim_lor {s0 : State} {K : KX} {p : Program} {l : Launch} {e : Env} {d : Nat} {s : State} {m : MethodId} {args : Array Value} {below : List Frame} {meth : Method} {c : Code} {M : Nat} {hS hE : PH} {o : Ot} {Ω : Om} {κ μ : List (Nat × Int)} {ini : Bool} {cf : Nat → List PV → PH → Rs} {k : Kt} (hx : p.tables.exec = Jvm.exec) (hk : SimK s0 K p l e d s m args below meth c hS hE o M k) : StepOK s0 K p l e d s m args below meth c hS hE o M Ω κ μ ini cf k .lor := by
  intro b len pc lp st h H ls locs hck hl hB he hlen hL hwl hws hR hG hfr
  obtain ⟨l', rfl, rfl⟩ := o1_s hck hl
  have hd := dk_129 hB
  rcases st with _ | ⟨y | ⟨y | ⟨y | y⟩⟩, _ | ⟨x | ⟨x | ⟨x | x⟩⟩, st⟩⟩ <;> first | exact no_e (show (none : Rs) = some (o, hE) from he) | skip
  have he : k (pc + 1) lp (vJ (lor x y) :: st) h = some (o, hE) := he
  refine lv_lor hx rfl hd ?_
  rw [← ot64 (Int64.ofInt x ||| Int64.ofInt y)]
  exact hk _ _ _ _ _ _ _ he hlen hL hwl (WFv.cons (to64 _) hws.tl.tl) hR hG hfr
theorem sim_lxor {s0 : State} {K : KX} {p : Program} {l : Launch} {e : Env} {d : Nat} {s : State} {m : MethodId} {args : Array Value} {below : List Frame} {meth : Method} {c : Code} {M : Nat} {hS hE : PH} {o : Ot} {Ω : Om} {κ μ : List (Nat × Int)} {ini : Bool} {cf : Nat → List PV → PH → Rs} {k : Kt} (hx : p.tables.exec = Jvm.exec) (hk : SimK s0 K p l e d s m args below meth c hS hE o M k) : StepOK s0 K p l e d s m args below meth c hS hE o M Ω κ μ ini cf k .lxor := by
  intro b len pc lp st h H ls locs hck hl hB he hlen hL hwl hws hR hG hfr
  obtain ⟨l', rfl, rfl⟩ := o1_s hck hl
  have hd := dk_131 hB
  rcases st with _ | ⟨y | ⟨y | ⟨y | y⟩⟩, _ | ⟨x | ⟨x | ⟨x | x⟩⟩, st⟩⟩ <;> first | exact no_e (show (none : Rs) = some (o, hE) from he) | skip
  have he : k (pc + 1) lp (vJ (lxor x y) :: st) h = some (o, hE) := he
  refine lv_lxor hx rfl hd ?_
  rw [← ot64 (Int64.ofInt x ^^^ Int64.ofInt y)]
  exact hk _ _ _ _ _ _ _ he hlen hL hwl (WFv.cons (to64 _) hws.tl.tl) hR hG hfr
theorem sim_iushr {s0 : State} {K : KX} {p : Program} {l : Launch} {e : Env} {d : Nat} {s : State} {m : MethodId} {args : Array Value} {below : List Frame} {meth : Method} {c : Code} {M : Nat} {hS hE : PH} {o : Ot} {Ω : Om} {κ μ : List (Nat × Int)} {ini : Bool} {cf : Nat → List PV → PH → Rs} {k : Kt} (hx : p.tables.exec = Jvm.exec) (hk : SimK s0 K p l e d s m args below meth c hS hE o M k) : StepOK s0 K p l e d s m args below meth c hS hE o M Ω κ μ ini cf k .iushr := by
  intro b len pc lp st h H ls locs hck hl hB he hlen hL hwl hws hR hG hfr
  obtain ⟨l', rfl, rfl⟩ := o1_s hck hl
  have hd := dk_124 hB
  rcases st with _ | ⟨y | ⟨y | ⟨y | y⟩⟩, _ | ⟨x | ⟨x | ⟨x | x⟩⟩, st⟩⟩ <;> first | exact no_e (show (none : Rs) = some (o, hE) from he) | skip
  have he : k (pc + 1) lp (vI (iushr x y) :: st) h = some (o, hE) := he
  exact lv_iushr hx rfl hd (ot32 _).symm (hk _ _ _ _ _ _ _ he hlen hL hwl (WFv.cons (to32 _) hws.tl.tl) hR hG hfr)
theorem sim_lshl {s0 : State} {K : KX} {p : Program} {l : Launch} {e : Env} {d : Nat} {s : State} {m : MethodId} {args : Array Value} {below : List Frame} {meth : Method} {c : Code} {M : Nat} {hS hE : PH} {o : Ot} {Ω : Om} {κ μ : List (Nat × Int)} {ini : Bool} {cf : Nat → List PV → PH → Rs} {k : Kt} (hx : p.tables.exec = Jvm.exec) (hk : SimK s0 K p l e d s m args below meth c hS hE o M k) : StepOK s0 K p l e d s m args below meth c hS hE o M Ω κ μ ini cf k .lshl := by
  intro b len pc lp st h H ls locs hck hl hB he hlen hL hwl hws hR hG hfr
  obtain ⟨l', rfl, rfl⟩ := o1_s hck hl
  have hd := dk_121 hB
  rcases st with _ | ⟨y | ⟨y | ⟨y | y⟩⟩, _ | ⟨x | ⟨x | ⟨x | x⟩⟩, st⟩⟩ <;> first | exact no_e (show (none : Rs) = some (o, hE) from he) | skip
  have he : k (pc + 1) lp (vJ (lshl x y) :: st) h = some (o, hE) := he
  exact lv_lshl hx rfl hd (ot64 _).symm (hk _ _ _ _ _ _ _ he hlen hL hwl (WFv.cons (to64 _) hws.tl.tl) hR hG hfr)
theorem sim_lshr {s0 : State} {K : KX} {p : Program} {l : Launch} {e : Env} {d : Nat} {s : State} {m : MethodId} {args : Array Value} {below : List Frame} {meth : Method} {c : Code} {M : Nat} {hS hE : PH} {o : Ot} {Ω : Om} {κ μ : List (Nat × Int)} {ini : Bool} {cf : Nat → List PV → PH → Rs} {k : Kt} (hx : p.tables.exec = Jvm.exec) (hk : SimK s0 K p l e d s m args below meth c hS hE o M k) : StepOK s0 K p l e d s m args below meth c hS hE o M Ω κ μ ini cf k .lshr := by
  intro b len pc lp st h H ls locs hck hl hB he hlen hL hwl hws hR hG hfr
  obtain ⟨l', rfl, rfl⟩ := o1_s hck hl
  have hd := dk_123 hB
  rcases st with _ | ⟨y | ⟨y | ⟨y | y⟩⟩, _ | ⟨x | ⟨x | ⟨x | x⟩⟩, st⟩⟩ <;> first | exact no_e (show (none : Rs) = some (o, hE) from he) | skip
  have he : k (pc + 1) lp (vJ (lshr x y) :: st) h = some (o, hE) := he
  exact lv_lshr hx rfl hd (ot64 _).symm (hk _ _ _ _ _ _ _ he hlen hL hwl (WFv.cons (to64 _) hws.tl.tl) hR hG hfr)
theorem sim_lushr {s0 : State} {K : KX} {p : Program} {l : Launch} {e : Env} {d : Nat} {s : State} {m : MethodId} {args : Array Value} {below : List Frame} {meth : Method} {c : Code} {M : Nat} {hS hE : PH} {o : Ot} {Ω : Om} {κ μ : List (Nat × Int)} {ini : Bool} {cf : Nat → List PV → PH → Rs} {k : Kt} (hx : p.tables.exec = Jvm.exec) (hk : SimK s0 K p l e d s m args below meth c hS hE o M k) : StepOK s0 K p l e d s m args below meth c hS hE o M Ω κ μ ini cf k .lushr := by
  intro b len pc lp st h H ls locs hck hl hB he hlen hL hwl hws hR hG hfr
  obtain ⟨l', rfl, rfl⟩ := o1_s hck hl
  have hd := dk_125 hB
  rcases st with _ | ⟨y | ⟨y | ⟨y | y⟩⟩, _ | ⟨x | ⟨x | ⟨x | x⟩⟩, st⟩⟩ <;> first | exact no_e (show (none : Rs) = some (o, hE) from he) | skip
  have he : k (pc + 1) lp (vJ (lushr x y) :: st) h = some (o, hE) := he
  exact lv_lushr hx rfl hd (ot64 _).symm (hk _ _ _ _ _ _ _ he hlen hL hwl (WFv.cons (to64 _) hws.tl.tl) hR hG hfr)
theorem sim_idiv {s0 : State} {K : KX} {p : Program} {l : Launch} {e : Env} {d : Nat} {s : State} {m : MethodId} {args : Array Value} {below : List Frame} {meth : Method} {c : Code} {M : Nat} {hS hE : PH} {o : Ot} {Ω : Om} {κ μ : List (Nat × Int)} {ini : Bool} {cf : Nat → List PV → PH → Rs} {k : Kt} (hx : p.tables.exec = Jvm.exec) (hk : SimK s0 K p l e d s m args below meth c hS hE o M k) : StepOK s0 K p l e d s m args below meth c hS hE o M Ω κ μ ini cf k .idiv := by
  intro b len pc lp st h H ls locs hck hl hB he hlen hL hwl hws hR hG hfr
  obtain ⟨l', rfl, rfl⟩ := o1_s hck hl
  have hd := dk_108 hB
  rcases st with _ | ⟨y | ⟨y | ⟨y | y⟩⟩, _ | ⟨x | ⟨x | ⟨x | x⟩⟩, st⟩⟩ <;> first | exact no_e (show (none : Rs) = some (o, hE) from he) | skip
  have he : gd (y ≠ 0) (k (pc + 1) lp (vI (w32 (x.tdiv y)) :: st) h) = some (o, hE) := he
  obtain ⟨hy0, he⟩ := gd_some he
  have hyr : in32 y := hws.hd
  have hxr : in32 x := hws.tl.hd
  refine lv_idiv hx rfl hd (fun q => hy0 ((c_eq hyr (by unfold in32; omega)).mp q)) ?_
  rw [c_div hxr hyr]
  exact hk _ _ _ _ _ _ _ he hlen hL hwl (WFv.cons (w32_in _) hws.tl.tl) hR hG hfr
theorem sim_ldiv {s0 : State} {K : KX} {p : Program} {l : Launch} {e : Env} {d : Nat} {s : State} {m : MethodId} {args : Array Value} {below : List Frame} {meth : Method} {c : Code} {M : Nat} {hS hE : PH} {o : Ot} {Ω : Om} {κ μ : List (Nat × Int)} {ini : Bool} {cf : Nat → List PV → PH → Rs} {k : Kt} (hx : p.tables.exec = Jvm.exec) (hk : SimK s0 K p l e d s m args below meth c hS hE o M k) : StepOK s0 K p l e d s m args below meth c hS hE o M Ω κ μ ini cf k .ldiv := by
  intro b len pc lp st h H ls locs hck hl hB he hlen hL hwl hws hR hG hfr
  obtain ⟨l', rfl, rfl⟩ := o1_s hck hl
  have hd := dk_109 hB
  rcases st with _ | ⟨y | ⟨y | ⟨y | y⟩⟩, _ | ⟨x | ⟨x | ⟨x | x⟩⟩, st⟩⟩ <;> first | exact no_e (show (none : Rs) = some (o, hE) from he) | skip
  have he : gd (y ≠ 0) (k (pc + 1) lp (vJ (w64 (x.tdiv y)) :: st) h) = some (o, hE) := he
  obtain ⟨hy0, he⟩ := gd_some he
  have hyr : in64 y := hws.hd
  have hxr : in64 x := hws.tl.hd
  refine lv_ldiv hx rfl hd (fun q => hy0 ((d_eq hyr (by unfold in64; omega)).mp q)) ?_
  rw [d_div hxr hyr]
  exact hk _ _ _ _ _ _ _ he hlen hL hwl (WFv.cons (w64_in _) hws.tl.tl) hR hG hfr
theorem sim_irem {s0 : State} {K : KX} {p : Program} {l : Launch} {e : Env} {d : Nat} {s : State} {m : MethodId} {args : Array Value} {below : List Frame} {meth : Method} {c : Code} {M : Nat} {hS hE : PH} {o : Ot} {Ω : Om} {κ μ : List (Nat × Int)} {ini : Bool} {cf : Nat → List PV → PH → Rs} {k : Kt} (hx : p.tables.exec = Jvm.exec) (hk : SimK s0 K p l e d s m args below meth c hS hE o M k) : StepOK s0 K p l e d s m args below meth c hS hE o M Ω κ μ ini cf k .irem := by
  intro b len pc lp st h H ls locs hck hl hB he hlen hL hwl hws hR hG hfr
  obtain ⟨l', rfl, rfl⟩ := o1_s hck hl
  have hd := dk_112 hB
  rcases st with _ | ⟨y | ⟨y | ⟨y | y⟩⟩, _ | ⟨x | ⟨x | ⟨x | x⟩⟩, st⟩⟩ <;> first | exact no_e (show (none : Rs) = some (o, hE) from he) | skip
  have he : gd (y ≠ 0) (k (pc + 1) lp (vI (x.tmod y) :: st) h) = some (o, hE) := he
  obtain ⟨hy0, he⟩ := gd_some he
  have hyr : in32 y := hws.hd
  have hxr : in32 x := hws.tl.hd
  refine lv_irem hx rfl hd (fun q => hy0 ((c_eq hyr (by unfold in32; omega)).mp q)) ?_
  rw [c_rem hxr hyr]
  exact hk _ _ _ _ _ _ _ he hlen hL hwl (WFv.cons (tmod_in (b := 2147483648) hxr.1 hxr.2 (by decide)) hws.tl.tl) hR hG hfr
theorem sim_lrem {s0 : State} {K : KX} {p : Program} {l : Launch} {e : Env} {d : Nat} {s : State} {m : MethodId} {args : Array Value} {below : List Frame} {meth : Method} {c : Code} {M : Nat} {hS hE : PH} {o : Ot} {Ω : Om} {κ μ : List (Nat × Int)} {ini : Bool} {cf : Nat → List PV → PH → Rs} {k : Kt} (hx : p.tables.exec = Jvm.exec) (hk : SimK s0 K p l e d s m args below meth c hS hE o M k) : StepOK s0 K p l e d s m args below meth c hS hE o M Ω κ μ ini cf k .lrem := by
  intro b len pc lp st h H ls locs hck hl hB he hlen hL hwl hws hR hG hfr
  obtain ⟨l', rfl, rfl⟩ := o1_s hck hl
  have hd := dk_113 hB
  rcases st with _ | ⟨y | ⟨y | ⟨y | y⟩⟩, _ | ⟨x | ⟨x | ⟨x | x⟩⟩, st⟩⟩ <;> first | exact no_e (show (none : Rs) = some (o, hE) from he) | skip
  have he : gd (y ≠ 0) (k (pc + 1) lp (vJ (x.tmod y) :: st) h) = some (o, hE) := he
  obtain ⟨hy0, he⟩ := gd_some he
  have hyr : in64 y := hws.hd
  have hxr : in64 x := hws.tl.hd
  refine lv_lrem hx rfl hd (fun q => hy0 ((d_eq hyr (by unfold in64; omega)).mp q)) ?_
  rw [d_rem hxr hyr]
  exact hk _ _ _ _ _ _ _ he hlen hL hwl (WFv.cons (tmod_in (b := 9223372036854775808) hxr.1 hxr.2 (by decide)) hws.tl.tl) hR hG hfr
theorem sim_lneg {s0 : State} {K : KX} {p : Program} {l : Launch} {e : Env} {d : Nat} {s : State} {m : MethodId} {args : Array Value} {below : List Frame} {meth : Method} {c : Code} {M : Nat} {hS hE : PH} {o : Ot} {Ω : Om} {κ μ : List (Nat × Int)} {ini : Bool} {cf : Nat → List PV → PH → Rs} {k : Kt} (hx : p.tables.exec = Jvm.exec) (hk : SimK s0 K p l e d s m args below meth c hS hE o M k) : StepOK s0 K p l e d s m args below meth c hS hE o M Ω κ μ ini cf k .lneg := by
  intro b len pc lp st h H ls locs hck hl hB he hlen hL hwl hws hR hG hfr
  obtain ⟨l', rfl, rfl⟩ := o1_s hck hl
  have hd := dk_117 hB
  rcases st with _ | ⟨x | ⟨x | ⟨x | x⟩⟩, st⟩ <;> first | exact no_e (show (none : Rs) = some (o, hE) from he) | skip
  have he : k (pc + 1) lp (vJ (w64 (-x)) :: st) h = some (o, hE) := he
  refine lv_lneg hx rfl hd ?_
  rw [d_neg]
  exact hk _ _ _ _ _ _ _ he hlen hL hwl (WFv.cons (w64_in _) hws.tl) hR hG hfr
theorem sim_i2l {s0 : State} {K : KX} {p : Program} {l : Launch} {e : Env} {d : Nat} {s : State} {m : MethodId} {args : Array Value} {below : List Frame} {meth : Method} {c : Code} {M : Nat} {hS hE : PH} {o : Ot} {Ω : Om} {κ μ : List (Nat × Int)} {ini : Bool} {cf : Nat → List PV → PH → Rs} {k : Kt} (hx : p.tables.exec = Jvm.exec) (hk : SimK s0 K p l e d s m args below meth c hS hE o M k) : StepOK s0 K p l e d s m args below meth c hS hE o M Ω κ μ ini cf k .i2l := by
  intro b len pc lp st h H ls locs hck hl hB he hlen hL hwl hws hR hG hfr
  obtain ⟨l', rfl, rfl⟩ := o1_s hck hl
  have hd := dk_133 hB
  rcases st with _ | ⟨x | ⟨x | ⟨x | x⟩⟩, st⟩ <;> first | exact no_e (show (none : Rs) = some (o, hE) from he) | skip
  have he : k (pc + 1) lp (vJ x :: st) h = some (o, hE) := he
  have hr : in32 x := hws.hd
  exact lv_i2l hx rfl hd (e64 (by rw [Int32.toInt_toInt64, of32 hr, of64 ⟨by have := hr.1; omega, by have := hr.2; omega⟩])) (hk _ _ _ _ _ _ _ he hlen hL hwl (WFv.cons (show in64 x from ⟨by have := hr.1; omega, by have := hr.2; omega⟩) hws.tl) hR hG hfr)
theorem sim_l2i {s0 : State} {K : KX} {p : Program} {l : Launch} {e : Env} {d : Nat} {s : State} {m : MethodId} {args : Array Value} {below : List Frame} {meth : Method} {c : Code} {M : Nat} {hS hE : PH} {o : Ot} {Ω : Om} {κ μ : List (Nat × Int)} {ini : Bool} {cf : Nat → List PV → PH → Rs} {k : Kt} (hx : p.tables.exec = Jvm.exec) (hk : SimK s0 K p l e d s m args below meth c hS hE o M k) : StepOK s0 K p l e d s m args below meth c hS hE o M Ω κ μ ini cf k .l2i := by
  intro b len pc lp st h H ls locs hck hl hB he hlen hL hwl hws hR hG hfr
  obtain ⟨l', rfl, rfl⟩ := o1_s hck hl
  have hd := dk_136 hB
  rcases st with _ | ⟨x | ⟨x | ⟨x | x⟩⟩, st⟩ <;> first | exact no_e (show (none : Rs) = some (o, hE) from he) | skip
  have he : k (pc + 1) lp (vI (w32 x) :: st) h = some (o, hE) := he
  have hr : in64 x := hws.hd
  exact lv_l2i hx rfl hd (e32 (by rw [Int64.toInt_toInt32, of64 hr, ti32, w32w]; exact bm32 x)) (hk _ _ _ _ _ _ _ he hlen hL hwl (WFv.cons (w32_in _) hws.tl) hR hG hfr)
theorem sim_i2b {s0 : State} {K : KX} {p : Program} {l : Launch} {e : Env} {d : Nat} {s : State} {m : MethodId} {args : Array Value} {below : List Frame} {meth : Method} {c : Code} {M : Nat} {hS hE : PH} {o : Ot} {Ω : Om} {κ μ : List (Nat × Int)} {ini : Bool} {cf : Nat → List PV → PH → Rs} {k : Kt} (hx : p.tables.exec = Jvm.exec) (hk : SimK s0 K p l e d s m args below meth c hS hE o M k) : StepOK s0 K p l e d s m args below meth c hS hE o M Ω κ μ ini cf k .i2b := by
  intro b len pc lp st h H ls locs hck hl hB he hlen hL hwl hws hR hG hfr
  obtain ⟨l', rfl, rfl⟩ := o1_s hck hl
  have hd := dk_145 hB
  rcases st with _ | ⟨x | ⟨x | ⟨x | x⟩⟩, st⟩ <;> first | exact no_e (show (none : Rs) = some (o, hE) from he) | skip
  have he : k (pc + 1) lp (vI (w8 x) :: st) h = some (o, hE) := he
  have hr : in32 x := hws.hd
  exact lv_i2b hx rfl hd (c_w8 hr) (hk _ _ _ _ _ _ _ he hlen hL hwl (WFv.cons (w8_in _) hws.tl) hR hG hfr)
theorem sim_i2c {s0 : State} {K : KX} {p : Program} {l : Launch} {e : Env} {d : Nat} {s : State} {m : MethodId} {args : Array Value} {below : List Frame} {meth : Method} {c : Code} {M : Nat} {hS hE : PH} {o : Ot} {Ω : Om} {κ μ : List (Nat × Int)} {ini : Bool} {cf : Nat → List PV → PH → Rs} {k : Kt} (hx : p.tables.exec = Jvm.exec) (hk : SimK s0 K p l e d s m args below meth c hS hE o M k) : StepOK s0 K p l e d s m args below meth c hS hE o M Ω κ μ ini cf k .i2c := by
  intro b len pc lp st h H ls locs hck hl hB he hlen hL hwl hws hR hG hfr
  obtain ⟨l', rfl, rfl⟩ := o1_s hck hl
  have hd := dk_146 hB
  rcases st with _ | ⟨x | ⟨x | ⟨x | x⟩⟩, st⟩ <;> first | exact no_e (show (none : Rs) = some (o, hE) from he) | skip
  have he : k (pc + 1) lp (vI (x % 65536) :: st) h = some (o, hE) := he
  have hr : in32 x := hws.hd
  exact lv_i2c hx rfl hd (c_u16 hr) (hk _ _ _ _ _ _ _ he hlen hL hwl (WFv.cons (show in32 (x % 65536) from ⟨by omega, by omega⟩) hws.tl) hR hG hfr)
theorem sim_aconst_null {s0 : State} {K : KX} {p : Program} {l : Launch} {e : Env} {d : Nat} {s : State} {m : MethodId} {args : Array Value} {below : List Frame} {meth : Method} {c : Code} {M : Nat} {hS hE : PH} {o : Ot} {Ω : Om} {κ μ : List (Nat × Int)} {ini : Bool} {cf : Nat → List PV → PH → Rs} {k : Kt} (hx : p.tables.exec = Jvm.exec) (hk : SimK s0 K p l e d s m args below meth c hS hE o M k) : StepOK s0 K p l e d s m args below meth c hS hE o M Ω κ μ ini cf k .aconst_null := by
  intro b len pc lp st h H ls locs hck hl hB he hlen hL hwl hws hR hG hfr
  obtain ⟨l', rfl, rfl⟩ := o1_s hck hl
  have he : k (pc + 1) lp (vR 0 :: st) h = some (o, hE) := he
  exact lv_null hx rfl (dk_1 hB) (hk _ _ _ _ _ _ _ he hlen hL hwl (WFv.cons trivial hws) hR hG hfr)
theorem sim_iload {s0 : State} {K : KX} {p : Program} {l : Launch} {e : Env} {d : Nat} {s : State} {m : MethodId} {args : Array Value} {below : List Frame} {meth : Method} {c : Code} {M : Nat} {hS hE : PH} {o : Ot} {Ω : Om} {κ μ : List (Nat × Int)} {ini : Bool} {cf : Nat → List PV → PH → Rs} {k : Kt} (hx : p.tables.exec = Jvm.exec) (hk : SimK s0 K p l e d s m args below meth c hS hE o M k) (i0 : Nat) : StepOK s0 K p l e d s m args below meth c hS hE o M Ω κ μ ini cf k (.iload i0) := by
  intro b len pc lp st h H ls locs hck hl hB he hlen hL hwl hws hR hG hfr
  obtain ⟨hx0, hck⟩ := cond_s hck hl
  rcases hg : lget lp i0 with x | ⟨x | ⟨x | x⟩⟩ <;> simp only [stI, hg] at he <;> first | cases he | skip
  have hv := hL.at (lvE_I hg)
  have hw := wf_get hwl hg
  have hm := f0_s hck hl
  simp only [List.mem_cons, List.not_mem_nil, or_false] at hm
  rcases hm with hm | hm
  · have hd := ck_s hm.symm hl hB
    have e : len = 2 := by obtain ⟨l', rfl, e⟩ := o2_s hm.symm hl; exact e
    subst e
    exact lv_iload hx rfl hd hv (hk _ _ _ _ _ _ _ he hlen hL hwl (WFv.cons hw hws) hR hG hfr)
  · obtain ⟨q, hq, hm⟩ := ck4_s hm.symm hl
    have hd := ck_s hm hl hB
    have e : len = 1 := by obtain ⟨l', rfl, e⟩ := o1_s hm hl; exact e
    subst e
    exact lv_iload_n hx rfl hd hq hv (hk _ _ _ _ _ _ _ he hlen hL hwl (WFv.cons hw hws) hR hG hfr)
theorem sim_lload {s0 : State} {K : KX} {p : Program} {l : Launch} {e : Env} {d : Nat} {s : State} {m : MethodId} {args : Array Value} {below : List Frame} {meth : Method} {c : Code} {M : Nat} {hS hE : PH} {o : Ot} {Ω : Om} {κ μ : List (Nat × Int)} {ini : Bool} {cf : Nat → List PV → PH → Rs} {k : Kt} (hx : p.tables.exec = Jvm.exec) (hk : SimK s0 K p l e d s m args below meth c hS hE o M k) (i0 : Nat) : StepOK s0 K p l e d s m args below meth c hS hE o M Ω κ μ ini cf k (.lload i0) := by
  intro b len pc lp st h H ls locs hck hl hB he hlen hL hwl hws hR hG hfr
  obtain ⟨hx0, hck⟩ := cond_s hck hl
  rcases hg : lget lp i0 with x | ⟨x | ⟨x | x⟩⟩ <;> rcases hg2 : lget lp (i0 + 1) with w | ⟨w | ⟨w | w⟩⟩ <;> simp only [stI, hg, hg2] at he <;> first | cases he | skip
  have hv := hL.at (lvE_J hg hg2)
  have hw := wf_get hwl hg
  have hm := f0_s hck hl
  simp only [List.mem_cons, List.not_mem_nil, or_false] at hm
  rcases hm with hm | hm
  · have hd := ck_s hm.symm hl hB
    have e : len = 2 := by obtain ⟨l', rfl, e⟩ := o2_s hm.symm hl; exact e
    subst e
    exact lv_lload hx rfl hd hv (hk _ _ _ _ _ _ _ he hlen hL hwl (WFv.cons hw hws) hR hG hfr)
  · obtain ⟨q, hq, hm⟩ := ck4_s hm.symm hl
    have hd := ck_s hm hl hB
    have e : len = 1 := by obtain ⟨l', rfl, e⟩ := o1_s hm hl; exact e
    subst e
    exact lv_lload_n hx rfl hd hq hv (hk _ _ _ _ _ _ _ he hlen hL hwl (WFv.cons hw hws) hR hG hfr)
theorem sim_aload {s0 : State} {K : KX} {p : Program} {l : Launch} {e : Env} {d : Nat} {s : State} {m : MethodId} {args : Array Value} {below : List Frame} {meth : Method} {c : Code} {M : Nat} {hS hE : PH} {o : Ot} {Ω : Om} {κ μ : List (Nat × Int)} {ini : Bool} {cf : Nat → List PV → PH → Rs} {k : Kt} (hx : p.tables.exec = Jvm.exec) (hk : SimK s0 K p l e d s m args below meth c hS hE o M k) (i0 : Nat) : StepOK s0 K p l e d s m args below meth c hS hE o M Ω κ μ ini cf k (.aload i0) := by
  intro b len pc lp st h H ls locs hck hl hB he hlen hL hwl hws hR hG hfr
  obtain ⟨hx0, hck⟩ := cond_s hck hl
  rcases hg : lget lp i0 with x | ⟨x | ⟨x | x⟩⟩ <;> simp only [stI, hg] at he <;> first | cases he | skip
  have hv := hL.at (lvE_R hg)
  have hw := wf_get hwl hg
  have hm := f0_s hck hl
  simp only [List.mem_cons, List.not_mem_nil, or_false] at hm
  rcases x with _ | x
  · rcases hm with hm | hm
    · have hd := ck_s hm.symm hl hB
      have e : len = 2 := by obtain ⟨l', rfl, e⟩ := o2_s hm.symm hl; exact e
      subst e
      exact lv_aloadN hx rfl hd hv (hk _ _ _ _ _ _ _ he hlen hL hwl (WFv.cons trivial hws) hR hG hfr)
    · obtain ⟨q, hq, hm⟩ := ck4_s hm.symm hl
      have hd := ck_s hm hl hB
      have e : len = 1 := by obtain ⟨l', rfl, e⟩ := o1_s hm hl; exact e
      subst e
      exact lv_aload_nN hx rfl hd hq hv (hk _ _ _ _ _ _ _ he hlen hL hwl (WFv.cons trivial hws) hR hG hfr)
  · rcases hm with hm | hm
    · have hd := ck_s hm.symm hl hB
      have e : len = 2 := by obtain ⟨l', rfl, e⟩ := o2_s hm.symm hl; exact e
      subst e
      exact lv_aload hx rfl hd hv (hk _ _ _ _ _ _ _ he hlen hL hwl (WFv.cons trivial hws) hR hG hfr)
    · obtain ⟨q, hq, hm⟩ := ck4_s hm.symm hl
      have hd := ck_s hm hl hB
      have e : len = 1 := by obtain ⟨l', rfl, e⟩ := o1_s hm hl; exact e
      subst e
      exact lv_aload_n hx rfl hd hq hv (hk _ _ _ _ _ _ _ he hlen hL hwl (WFv.cons trivial hws) hR hG hfr)
theorem sim_istore {s0 : State} {K : KX} {p : Program} {l : Launch} {e : Env} {d : Nat} {s : State} {m : MethodId} {args : Array Value} {below : List Frame} {meth : Method} {c : Code} {M : Nat} {hS hE : PH} {o : Ot} {Ω : Om} {κ μ : List (Nat × Int)} {ini : Bool} {cf : Nat → List PV → PH → Rs} {k : Kt} (hx : p.tables.exec = Jvm.exec) (hk : SimK s0 K p l e d s m args below meth c hS hE o M k) (i0 : Nat) : StepOK s0 K p l e d s m args below meth c hS hE o M Ω κ μ ini cf k (.istore i0) := by
  intro b len pc lp st h H ls locs hck hl hB he hlen hL hwl hws hR hG hfr
  obtain ⟨hx0, hck⟩ := cond_s hck hl
  rcases st with _ | ⟨x | ⟨x | ⟨x | x⟩⟩, st⟩ <;> first | exact no_e (show (none : Rs) = some (o, hE) from he) | skip
  have hi0 : i0 < lp.length := by rw [hlen]; simp only [Nat.blt, Nat.ble_eq] at hx0; omega
  have hm := f0_s hck hl
  simp only [List.mem_cons, List.not_mem_nil, or_false] at hm
  rcases hm with hm | hm
  · have hd := ck_s hm.symm hl hB
    have e : len = 2 := by obtain ⟨l', rfl, e⟩ := o2_s hm.symm hl; exact e
    subst e
    have he : k (pc + 2) (lset lp i0 (vI x)) st h = some (o, hE) := he
    exact lv_istore hx rfl hd hL hi0 rfl (fun ls' h' => hk _ _ _ _ _ _ _ he (by rw [lset_len]; exact hlen) (LV.st1 hi0 (Or.inl ⟨x, rfl, rfl⟩) h') (WFv.set hwl hws.hd) hws.tl hR hG hfr)
  · obtain ⟨q, hq, hm⟩ := ck4_s hm.symm hl
    have hd := ck_s hm hl hB
    have e : len = 1 := by obtain ⟨l', rfl, e⟩ := o1_s hm hl; exact e
    subst e
    have he : k (pc + 1) (lset lp i0 (vI x)) st h = some (o, hE) := he
    exact lv_istore_n hx rfl hd hq hL hi0 rfl (fun ls' h' => hk _ _ _ _ _ _ _ he (by rw [lset_len]; exact hlen) (LV.st1 hi0 (Or.inl ⟨x, rfl, rfl⟩) h') (WFv.set hwl hws.hd) hws.tl hR hG hfr)
theorem sim_lstore {s0 : State} {K : KX} {p : Program} {l : Launch} {e : Env} {d : Nat} {s : State} {m : MethodId} {args : Array Value} {below : List Frame} {meth : Method} {c : Code} {M : Nat} {hS hE : PH} {o : Ot} {Ω : Om} {κ μ : List (Nat × Int)} {ini : Bool} {cf : Nat → List PV → PH → Rs} {k : Kt} (hx : p.tables.exec = Jvm.exec) (hk : SimK s0 K p l e d s m args below meth c hS hE o M k) (i0 : Nat) : StepOK s0 K p l e d s m args below meth c hS hE o M Ω κ μ ini cf k (.lstore i0) := by
  intro b len pc lp st h H ls locs hck hl hB he hlen hL hwl hws hR hG hfr
  obtain ⟨hx0, hck⟩ := cond_s hck hl
  rcases st with _ | ⟨x | ⟨x | ⟨x | x⟩⟩, st⟩ <;> first | exact no_e (show (none : Rs) = some (o, hE) from he) | skip
  have hi0 : i0 + 1 < lp.length := by rw [hlen]; simp only [Nat.blt, Nat.ble_eq] at hx0; omega
  have hm := f0_s hck hl
  simp only [List.mem_cons, List.not_mem_nil, or_false] at hm
  rcases hm with hm | hm
  · have hd := ck_s hm.symm hl hB
    have e : len = 2 := by obtain ⟨l', rfl, e⟩ := o2_s hm.symm hl; exact e
    subst e
    have he : k (pc + 2) (lset (lset lp i0 (vJ x)) (i0 + 1) vX) st h = some (o, hE) := he
    exact lv_lstore hx rfl hd hL hi0 rfl (fun ls' h' => hk _ _ _ _ _ _ _ he (by rw [lset_len, lset_len]; exact hlen) (LV.st2 hi0 h') (WFv.set (WFv.set hwl hws.hd) trivial) hws.tl hR hG hfr)
  · obtain ⟨q, hq, hm⟩ := ck4_s hm.symm hl
    have hd := ck_s hm hl hB
    have e : len = 1 := by obtain ⟨l', rfl, e⟩ := o1_s hm hl; exact e
    subst e
    have he : k (pc + 1) (lset (lset lp i0 (vJ x)) (i0 + 1) vX) st h = some (o, hE) := he
    exact lv_lstore_n hx rfl hd hq hL hi0 rfl (fun ls' h' => hk _ _ _ _ _ _ _ he (by rw [lset_len, lset_len]; exact hlen) (LV.st2 hi0 h') (WFv.set (WFv.set hwl hws.hd) trivial) hws.tl hR hG hfr)
theorem sim_astore {s0 : State} {K : KX} {p : Program} {l : Launch} {e : Env} {d : Nat} {s : State} {m : MethodId} {args : Array Value} {below : List Frame} {meth : Method} {c : Code} {M : Nat} {hS hE : PH} {o : Ot} {Ω : Om} {κ μ : List (Nat × Int)} {ini : Bool} {cf : Nat → List PV → PH → Rs} {k : Kt} (hx : p.tables.exec = Jvm.exec) (hk : SimK s0 K p l e d s m args below meth c hS hE o M k) (i0 : Nat) : StepOK s0 K p l e d s m args below meth c hS hE o M Ω κ μ ini cf k (.astore i0) := by
  intro b len pc lp st h H ls locs hck hl hB he hlen hL hwl hws hR hG hfr
  obtain ⟨hx0, hck⟩ := cond_s hck hl
  rcases st with _ | ⟨x | ⟨x | ⟨x | x⟩⟩, st⟩ <;> first | exact no_e (show (none : Rs) = some (o, hE) from he) | skip
  have hi0 : i0 < lp.length := by rw [hlen]; simp only [Nat.blt, Nat.ble_eq] at hx0; omega
  have hm := f0_s hck hl
  simp only [List.mem_cons, List.not_mem_nil, or_false] at hm
  rcases x with _ | x
  · rcases hm with hm | hm
    · have hd := ck_s hm.symm hl hB
      have e : len = 2 := by obtain ⟨l', rfl, e⟩ := o2_s hm.symm hl; exact e
      subst e
      have he : k (pc + 2) (lset lp i0 (vR 0)) st h = some (o, hE) := he
      exact lv_astoreN hx rfl hd hL hi0 rfl (fun ls' h' => hk _ _ _ _ _ _ _ he (by rw [lset_len]; exact hlen) (LV.st1 hi0 (Or.inr ⟨_, rfl, rfl⟩) h') (WFv.set hwl trivial) hws.tl hR hG hfr)
    · obtain ⟨q, hq, hm⟩ := ck4_s hm.symm hl
      have hd := ck_s hm hl hB
      have e : len = 1 := by obtain ⟨l', rfl, e⟩ := o1_s hm hl; exact e
      subst e
      have he : k (pc + 1) (lset lp i0 (vR 0)) st h = some (o, hE) := he
      exact lv_astore_nN hx rfl hd hq hL hi0 rfl (fun ls' h' => hk _ _ _ _ _ _ _ he (by rw [lset_len]; exact hlen) (LV.st1 hi0 (Or.inr ⟨_, rfl, rfl⟩) h') (WFv.set hwl trivial) hws.tl hR hG hfr)
  · rcases hm with hm | hm
    · have hd := ck_s hm.symm hl hB
      have e : len = 2 := by obtain ⟨l', rfl, e⟩ := o2_s hm.symm hl; exact e
      subst e
      have he : k (pc + 2) (lset lp i0 (vR (x + 1))) st h = some (o, hE) := he
      exact lv_astore hx rfl hd hL hi0 rfl (fun ls' h' => hk _ _ _ _ _ _ _ he (by rw [lset_len]; exact hlen) (LV.st1 hi0 (Or.inr ⟨_, rfl, rfl⟩) h') (WFv.set hwl trivial) hws.tl hR hG hfr)
    · obtain ⟨q, hq, hm⟩ := ck4_s hm.symm hl
      have hd := ck_s hm hl hB
      have e : len = 1 := by obtain ⟨l', rfl, e⟩ := o1_s hm hl; exact e
      subst e
      have he : k (pc + 1) (lset lp i0 (vR (x + 1))) st h = some (o, hE) := he
      exact lv_astore_n hx rfl hd hq hL hi0 rfl (fun ls' h' => hk _ _ _ _ _ _ _ he (by rw [lset_len]; exact hlen) (LV.st1 hi0 (Or.inr ⟨_, rfl, rfl⟩) h') (WFv.set hwl trivial) hws.tl hR hG hfr)
