/-! ALL INSTRUCTIONS, A METHOD, CALLS (printed by gen/sim27.py) -/
set_option maxRecDepth 100000
def ACN : Nat := 235929605
/-- exceptions without a message -/
def exT (t : Nat) : Prop := 45 ≤ t ∧ t ≤ 47
/-- System.arraycopy at an entry -/
def ACk (own : String) (idx : Nat) : Prop := Cond.methodLink own idx (mNm ACN) ∈ lw_all ∧ Cond.native (mNm ACN) ∈ lw_all ∧ Cond.static (mNm ACN) ∈ lw_all ∧ Cond.initialized "java/lang/System" ∈ lw_all
def OwnOK (s0 : State) (own : String) (Ω : Om) (κ μ : List (Nat × Int)) : Prop :=
  (∀ q ∈ κ, Cond.constant own q.1 (Int32.ofInt q.2) ∈ lw_all) ∧ (∀ q ∈ μ, Cond.constantLong own q.1 (Int64.ofInt q.2) ∈ lw_all) ∧
  (∀ q ∈ (nth Ω 0).getD [], q.2 ∈ iFs ∧ FLk own q.1 q.2) ∧ (∀ q ∈ (nth Ω 1).getD [], q.2 ∈ iFs ∧ PLk own q.1 q.2) ∧ (∀ q ∈ (nth Ω 2).getD [], q.2 ∈ iFs ∧ PFk own q.1 q.2) ∧
  (∀ q ∈ (nth Ω 3).getD [], q.2 ∈ sFs ∧ FLk own q.1 q.2) ∧ (∀ q ∈ (nth Ω 4).getD [], TLk own q.1 q.2 ∧ q.2 % 4 = 2) ∧ (∀ q ∈ (nth Ω 5).getD [], mdT q.2 = true ∧ NLk own q.1 q.2) ∧
  (∀ q ∈ (nth Ω 6).getD [], mdA q.2 = true ∧ ak q.2 = 2 ∧ ALk own q.1 q.2) ∧ (∀ q ∈ (nth Ω 7).getD [], XLk own q.1 q.2) ∧ (∀ q ∈ (nth Ω 8).getD [], YLk s0 own q.1 q.2) ∧
  (∀ q ∈ (nth Ω 9).getD [], q.2 = ACN ∧ ACk own q.1 ∨ q.2 ≠ ACN ∧ SMk own q.1 q.2) ∧ (∀ q ∈ (nth Ω 10).getD [], IMk own q.1 q.2 ∧ ∀ t, inT (q.2 / 16 % 128) (q.2 / 2048 % 128) t → inT 1 55 t) ∧
  (∀ q ∈ (nth Ω 11).getD [], VMk own q.1 q.2) ∧ (∀ q ∈ (nth Ω 12).getD [], ∀ n, pN q.2 n → PMk own q.1 q.2 n) ∧ (∀ q ∈ (nth Ω 13).getD [], Cond.methodLink own q.1 Lib.objectInit ∈ lw_all) ∧ (∀ q ∈ (nth Ω 14).getD [], JMk own q.1 q.2) ∧ (∀ q ∈ (nth Ω 15).getD [], exT q.2 ∧ NLk own q.1 q.2) ∧ ∀ q ∈ (nth Ω 16).getD [], exT q.2 ∧ Cond.methodLink own q.1 ⟨cN q.2, "<init>", "()V"⟩ ∈ lw_all
/-- what a method's answers are, by its code of returns -/
def retT (rc : Nat) (r : Option FieldType) : Prop := match rc with
  | 0 => r = none
  | 1 => r = some .int
  | 2 => r = some .boolean
  | 3 => r = some .char ∨ r = some .byte
  | 4 => r = some .long
  | 5 => ∃ rt, r = some rt ∧ ((∃ n, rt = .object n) ∨ ∃ t, rt = .array t)
  | _ => False
/-- words that every method may use -/
def GlobOK : Prop := (Cond.arrayClass .boolean ∈ lw_all ∧ Cond.arrayClass .byte ∈ lw_all ∧ Cond.arrayClass .int ∈ lw_all ∧ Cond.arrayClass .long ∈ lw_all) ∧ (∀ t, 1 ≤ t → t ≤ 55 → Cond.castable (cN t) "java/lang/Object" ∈ lw_tbl) ∧ Cond.castable "[I" "java/lang/Object" ∈ lw_tbl ∧ Cond.instanceMethod Lib.objectInit ∈ lw_all ∧ Cond.code Lib.objectInit ⟨#[0xb1]⟩ 1 none ∈ lw_all
/-- all polymorphic calls have the number of arguments that their row says -/
def pnOK (i : Instr) : Prop := match i with
  | .invokeinterface p n => pN p n
  | _ => True
set_option maxHeartbeats 4000000 in
theorem sim_all {s0 : State} {a0 : Array Value} {K : KX} {own : String} {p : Program} {l : Launch} {e : Env} {d : Nat} {s : State} {m : MethodId} {args : Array Value} {below : List Frame} {meth : Method} {c : Code} {M : Nat} {hS hE : PH} {o : Ot} {Ω : Om} {κ μ : List (Nat × Int)} {ini : Bool} {rc : Nat} {cf : Nat → List PV → PH → Rs} {k : Kt} (hx : p.tables.exec = Jvm.exec) (hC : CX s0 a0 K) (hW : s0.WarmedH s.vm) (hown : s.vm.findClass own = some m.cls) (hlocks : meth.locks = false) (hml : c.maxLocals = mxM M) (hGl : GlobOK) (hO : OwnOK s0 own Ω κ μ) (hini : ini = true → meth.name = "<init>") (hret : retT rc meth.sig.returnType)
    (HF : ∀ (M1 : Nat) (a1 : List PV) (h1 : PH) (o1 : Ot) (h2 : PH), cf M1 a1 h1 = some (o1, h2) → WFv a1 → hk h1 ≤ cLim → hs h1 ≤ sLim → MOK M1 → CallOK l s0 K d M1 a1 h1 o1 h2)
    (hkk : SimK s0 K p l e (d + 1) s m args below meth c hS hE o M k) (hT0 : ThrOK s0 K p l e (d + 1) s m args below meth c hS hE o M k) (hAC : StepOK s0 K p l e (d + 1) s m args below meth c hS hE o M Ω κ μ ini cf k (.invokestatic ACN)) (hEX : ∀ t z, StepOK s0 K p l e (d + 1) s m args below meth c hS hE o M Ω κ μ ini cf k (.multianewarray t z))
    (i : Instr) (hpn : pnOK i) (hsw : isSw i = false) {b : List Nat} {len pc : Nat} {lp st : List PV} {h : PH} {H : Heap} {ls : Array Slot} {locs : List Loc} (hck : ckR Ω κ μ (mxM M) ini pc b i = len) (hln : len ≠ 0) (hrk : rok rc i = true) (hB : BytesAt c.code pc b) (he : stI cf k M pc (pc + len) i lp st h = some (o, hE)) (hlen : lp.length = mxM M) (hL : LV ls lp) (hwl : WFv lp) (hws : WFv st) (hR : Rep s0 K h H) (hG : Ge hS h) (hfr : ∀ q ∈ locs, fr0 s0 q.base) :
    GW s0 K p l e (d + 1) s m args below meth c hS hE o h H locs (F0 m pc ls (st.map cv)) := by
  obtain ⟨O1, O2, O3, O4, O5, O6, O7, O8, O9, O10, O11, O12, O13, O14, O15, O16, O17, O18, O19⟩ := hO
  cases i
  case iadd => exact sim_iadd hx hkk _ _ _ _ _ _ _ _ _ hck hln hB he hlen hL hwl hws hR hG hfr
  case isub => exact sim_isub hx hkk _ _ _ _ _ _ _ _ _ hck hln hB he hlen hL hwl hws hR hG hfr
  case imul => exact sim_imul hx hkk _ _ _ _ _ _ _ _ _ hck hln hB he hlen hL hwl hws hR hG hfr
  case ladd => exact sim_ladd hx hkk _ _ _ _ _ _ _ _ _ hck hln hB he hlen hL hwl hws hR hG hfr
  case lsub => exact sim_lsub hx hkk _ _ _ _ _ _ _ _ _ hck hln hB he hlen hL hwl hws hR hG hfr
  case lmul => exact sim_lmul hx hkk _ _ _ _ _ _ _ _ _ hck hln hB he hlen hL hwl hws hR hG hfr
  case iand => exact sim_iand hx hkk _ _ _ _ _ _ _ _ _ hck hln hB he hlen hL hwl hws hR hG hfr
  case ior => exact sim_ior hx hkk _ _ _ _ _ _ _ _ _ hck hln hB he hlen hL hwl hws hR hG hfr
  case ishl => exact sim_ishl hx hkk _ _ _ _ _ _ _ _ _ hck hln hB he hlen hL hwl hws hR hG hfr
  case ishr => exact sim_ishr hx hkk _ _ _ _ _ _ _ _ _ hck hln hB he hlen hL hwl hws hR hG hfr
  case land => exact sim_land hx hkk _ _ _ _ _ _ _ _ _ hck hln hB he hlen hL hwl hws hR hG hfr
  case lor => exact sim_lor hx hkk _ _ _ _ _ _ _ _ _ hck hln hB he hlen hL hwl hws hR hG hfr
  case lxor => exact sim_lxor hx hkk _ _ _ _ _ _ _ _ _ hck hln hB he hlen hL hwl hws hR hG hfr
  case iushr => exact sim_iushr hx hkk _ _ _ _ _ _ _ _ _ hck hln hB he hlen hL hwl hws hR hG hfr
  case lshl => exact sim_lshl hx hkk _ _ _ _ _ _ _ _ _ hck hln hB he hlen hL hwl hws hR hG hfr
  case lshr => exact sim_lshr hx hkk _ _ _ _ _ _ _ _ _ hck hln hB he hlen hL hwl hws hR hG hfr
  case lushr => exact sim_lushr hx hkk _ _ _ _ _ _ _ _ _ hck hln hB he hlen hL hwl hws hR hG hfr
  case idiv => exact sim_idiv hx hkk _ _ _ _ _ _ _ _ _ hck hln hB he hlen hL hwl hws hR hG hfr
  case ldiv => exact sim_ldiv hx hkk _ _ _ _ _ _ _ _ _ hck hln hB he hlen hL hwl hws hR hG hfr
  case irem => exact sim_irem hx hkk _ _ _ _ _ _ _ _ _ hck hln hB he hlen hL hwl hws hR hG hfr
  case lrem => exact sim_lrem hx hkk _ _ _ _ _ _ _ _ _ hck hln hB he hlen hL hwl hws hR hG hfr
  case lneg => exact sim_lneg hx hkk _ _ _ _ _ _ _ _ _ hck hln hB he hlen hL hwl hws hR hG hfr
  case i2l => exact sim_i2l hx hkk _ _ _ _ _ _ _ _ _ hck hln hB he hlen hL hwl hws hR hG hfr
  case l2i => exact sim_l2i hx hkk _ _ _ _ _ _ _ _ _ hck hln hB he hlen hL hwl hws hR hG hfr
  case i2b => exact sim_i2b hx hkk _ _ _ _ _ _ _ _ _ hck hln hB he hlen hL hwl hws hR hG hfr
  case i2c => exact sim_i2c hx hkk _ _ _ _ _ _ _ _ _ hck hln hB he hlen hL hwl hws hR hG hfr
  case aconst_null => exact sim_aconst_null hx hkk _ _ _ _ _ _ _ _ _ hck hln hB he hlen hL hwl hws hR hG hfr
  case dup => exact sim_dup hx hkk _ _ _ _ _ _ _ _ _ hck hln hB he hlen hL hwl hws hR hG hfr
  case dup_x1 => exact sim_dup_x1 hx hkk _ _ _ _ _ _ _ _ _ hck hln hB he hlen hL hwl hws hR hG hfr
  case dup2 => exact sim_dup2 hx hkk _ _ _ _ _ _ _ _ _ hck hln hB he hlen hL hwl hws hR hG hfr
  case lcmp => exact sim_lcmp hx hkk _ _ _ _ _ _ _ _ _ hck hln hB he hlen hL hwl hws hR hG hfr
  case iload x => exact sim_iload hx hkk x _ _ _ _ _ _ _ _ _ hck hln hB he hlen hL hwl hws hR hG hfr
  case lload x => exact sim_lload hx hkk x _ _ _ _ _ _ _ _ _ hck hln hB he hlen hL hwl hws hR hG hfr
  case aload x => exact sim_aload hx hkk x _ _ _ _ _ _ _ _ _ hck hln hB he hlen hL hwl hws hR hG hfr
  case istore x => exact sim_istore hx hkk x _ _ _ _ _ _ _ _ _ hck hln hB he hlen hL hwl hws hR hG hfr
  case lstore x => exact sim_lstore hx hkk x _ _ _ _ _ _ _ _ _ hck hln hB he hlen hL hwl hws hR hG hfr
  case astore x => exact sim_astore hx hkk x _ _ _ _ _ _ _ _ _ hck hln hB he hlen hL hwl hws hR hG hfr
  case iinc x z => exact sim_iinc hx hkk x z _ _ _ _ _ _ _ _ _ hck hln hB he hlen hL hwl hws hR hG hfr
  case goto t => exact sim_goto hx hkk t _ _ _ _ _ _ _ _ _ hck hln hB he hlen hL hwl hws hR hG hfr
  case ifnull t => exact sim_ifnull hx hkk t _ _ _ _ _ _ _ _ _ hck hln hB he hlen hL hwl hws hR hG hfr
  case ifnonnull t => exact sim_ifnonnull hx hkk t _ _ _ _ _ _ _ _ _ hck hln hB he hlen hL hwl hws hR hG hfr
  case ifCond q t => exact sim_ifCond hx hkk q t _ _ _ _ _ _ _ _ _ hck hln hB he hlen hL hwl hws hR hG hfr
  case if_icmp q t => exact sim_if_icmp hx hkk q t _ _ _ _ _ _ _ _ _ hck hln hB he hlen hL hwl hws hR hG hfr
  case if_acmp q t => exact sim_if_acmp hx hkk q t _ _ _ _ _ _ _ _ _ hck hln hB he hlen hL hwl hws hR hG hfr
  case arraylength => exact sim_arraylength hx hW hkk _ _ _ _ _ _ _ _ _ hck hln hB he hlen hL hwl hws hR hG hfr
  case iaload => exact sim_iaload hx hW hkk _ _ _ _ _ _ _ _ _ hck hln hB he hlen hL hwl hws hR hG hfr
  case laload => exact sim_laload hx hW hkk _ _ _ _ _ _ _ _ _ hck hln hB he hlen hL hwl hws hR hG hfr
  case caload => exact sim_caload hx hW hkk _ _ _ _ _ _ _ _ _ hck hln hB he hlen hL hwl hws hR hG hfr
  case aaload => exact sim_aaload hx hW hkk _ _ _ _ _ _ _ _ _ hck hln hB he hlen hL hwl hws hR hG hfr
  case baload => exact sim_baload hx hW hkk _ _ _ _ _ _ _ _ _ hck hln hB he hlen hL hwl hws hR hG hfr
  case iastore => exact sim_iastore hx hW hkk _ _ _ _ _ _ _ _ _ hck hln hB he hlen hL hwl hws hR hG hfr
  case lastore => exact sim_lastore hx hW hkk _ _ _ _ _ _ _ _ _ hck hln hB he hlen hL hwl hws hR hG hfr
  case bastore => exact sim_bastore hx hW hkk _ _ _ _ _ _ _ _ _ hck hln hB he hlen hL hwl hws hR hG hfr
  case iconst z => exact sim_iconst hx hC hW hown O1 hkk z _ _ _ _ _ _ _ _ _ hck hln hB he hlen hL hwl hws hR hG hfr
  case sipush z => exact sim_sipush hx hC hW hown O2 hkk z _ _ _ _ _ _ _ _ _ hck hln hB he hlen hL hwl hws hR hG hfr
  case getfield f => exact sim_getfield hx hC hW hown O3 hkk f _ _ _ _ _ _ _ _ _ hck hln hB he hlen hL hwl hws hR hG hfr
  case getstatic f => exact sim_getstatic hx hC hW hown O6 O7 hkk f _ _ _ _ _ _ _ _ _ hck hln hB he hlen hL hwl hws hR hG hfr
  case putfield f => exact sim_putfield hx hC hW hown O4 O5 hini hkk f _ _ _ _ _ _ _ _ _ hck hln hB he hlen hL hwl hws hR hG hfr
  case newarray t => exact sim_newarray hx hC hW hown hGl.1.1 hGl.1.2.1 hGl.1.2.2.1 hGl.1.2.2.2 hkk t _ _ _ _ _ _ _ _ _ hck hln hB he hlen hL hwl hws hR hG hfr
  case anewarray t => exact sim_anewarray hx hC hW hown O9 hkk t _ _ _ _ _ _ _ _ _ hck hln hB he hlen hL hwl hws hR hG hfr
  case new t => exact sim_new hx hC hW hown O8 hkk t _ _ _ _ _ _ _ _ _ hck hln hB he hlen hL hwl hws hR hG hfr
  case aastore => exact sim_aastore hx hC hW hown hGl.2.1 hGl.2.2.1 hkk _ _ _ _ _ _ _ _ _ hck hln hB he hlen hL hwl hws hR hG hfr
  case checkcast q => exact sim_checkcast hx hC hW hown O10 hkk q _ _ _ _ _ _ _ _ _ hck hln hB he hlen hL hwl hws hR hG hfr
  case instanceof q => exact sim_instanceof hx hC hW hown O11 hkk q _ _ _ _ _ _ _ _ _ hck hln hB he hlen hL hwl hws hR hG hfr
  case pop => exact sim_pop hx hC hW hown hkk _ _ _ _ _ _ _ _ _ hck hln hB he hlen hL hwl hws hR hG hfr
  case pop2 => exact sim_pop2 hx hC hW hown (Nat.succ_le_succ (Nat.zero_le d)) hml O16 hGl.2.2.2.1 hGl.2.2.2.2 hkk _ _ _ _ _ _ _ _ _ hck hln hB he hlen hL hwl hws hR hG hfr
  case ireturn => exact sim_ireturn (own := own) (a0 := a0) hx hW hlocks (by have hq : rc = 1 := Nat.beq_eq.mp hrk; rw [hq] at hret; exact hret) hkk _ _ _ _ _ _ _ _ _ hck hln hB he hlen hL hwl hws hR hG hfr
  case freturn => exact sim_freturn (own := own) (a0 := a0) hx hW hlocks (by have hq : rc = 2 := Nat.beq_eq.mp hrk; rw [hq] at hret; exact hret) hkk _ _ _ _ _ _ _ _ _ hck hln hB he hlen hL hwl hws hR hG hfr
  case dreturn => exact sim_dreturn (own := own) (a0 := a0) hx hW hlocks (by have hq : rc = 3 := Nat.beq_eq.mp hrk; rw [hq] at hret; exact hret) hkk _ _ _ _ _ _ _ _ _ hck hln hB he hlen hL hwl hws hR hG hfr
  case lreturn => exact sim_lreturn (own := own) (a0 := a0) hx hW hlocks (by have hq : rc = 4 := Nat.beq_eq.mp hrk; rw [hq] at hret; exact hret) hkk _ _ _ _ _ _ _ _ _ hck hln hB he hlen hL hwl hws hR hG hfr
  case areturn => exact sim_areturn (own := own) (a0 := a0) hx hW hlocks (by have hq : rc = 5 := Nat.beq_eq.mp hrk; rw [hq] at hret; exact hret) hkk _ _ _ _ _ _ _ _ _ hck hln hB he hlen hL hwl hws hR hG hfr
  case return_ => exact sim_return_ (own := own) (a0 := a0) hx hW hlocks (by have hq : rc = 0 := Nat.beq_eq.mp hrk; rw [hq] at hret; exact hret) hkk _ _ _ _ _ _ _ _ _ hck hln hB he hlen hL hwl hws hR hG hfr
  case invokestatic m0 =>
    by_cases hac : m0 = ACN
    · subst hac; exact hAC _ _ _ _ _ _ _ _ _ hck hln hB he hlen hL hwl hws hR hG hfr
    · exact sim_invokestatic hx hC hW hown hlocks hml hT0 HF (fun m1 => by
        by_cases hm1 : m1 = ACN
        · subst hm1; exact Or.inl hAC
        · exact Or.inr (fun q hq e1 => (O12 q hq).elim (fun z => absurd (e1 ▸ z.1) hm1) (fun z => z.2))) hkk m0 _ _ _ _ _ _ _ _ _ hck hln hB he hlen hL hwl hws hR hG hfr
  case invokespecial m0 => exact sim_invokespecial hx hC hW hown hlocks hml hT0 HF (fun q hq => (O13 q hq).1) (fun m1 i t hq ht => (O13 (i, m1) hq).2 t ht) hkk m0 _ _ _ _ _ _ _ _ _ hck hln hB he hlen hL hwl hws hR hG hfr
  case invokevirtual m0 => exact sim_invokevirtual hx hC hW hown hlocks hml hT0 HF O14 O17 hkk m0 _ _ _ _ _ _ _ _ _ hck hln hB he hlen hL hwl hws hR hG hfr
  case invokeinterface p0 n0 => exact sim_invokeinterface hx hC hW hown hlocks hml hT0 HF (fun i q hq n hn => O15 (i, q) hq n hn) hkk p0 n0 hpn _ _ _ _ _ _ _ _ _ hck hln hB he hlen hL hwl hws hR hG hfr
  case athrow => exact sim_athrow hx hC hW hown hlocks hml hT0 hkk _ _ _ _ _ _ _ _ _ hck hln hB he hlen hL hwl hws hR hG hfr
  case multianewarray t z=> exact hEX t z _ _ _ _ _ _ _ _ _ hck hln hB he hlen hL hwl hws hR hG hfr
  case lookupswitch => cases hsw
  all_goals exact absurd hck.symm hln
/-- a method's rows against its bytes -/
def RowsOK (M : Nat) (cc : ByteArray) (Ω : Om) (κ μ : List (Nat × Int)) (ini : Bool) (rc : Nat) : Prop := (∃ b : List Nat, BytesAt cc 0 b ∧ ckA Ω κ μ (mxM M) ini rc 0 (codM (M / 262144)).flatten b = true) ∧ (∀ q ∈ (codM (M / 262144)).flatten, ∀ d ps, q.2.1 = .lookupswitch d ps → SwR cc q.1 q.2.2 d ps) ∧ ∀ q ∈ (codM (M / 262144)).flatten, pnOK q.2.1
theorem sim_step {s0 : State} {a0 : Array Value} {K : KX} {own : String} {p : Program} {l : Launch} {e : Env} {d : Nat} {s : State} {m : MethodId} {args : Array Value} {below : List Frame} {meth : Method} {c : Code} {M : Nat} {hS hE : PH} {o : Ot} {Ω : Om} {κ μ : List (Nat × Int)} {ini : Bool} {rc : Nat} {cf : Nat → List PV → PH → Rs} {k : Kt} (hx : p.tables.exec = Jvm.exec) (hC : CX s0 a0 K) (hW : s0.WarmedH s.vm) (hown : s.vm.findClass own = some m.cls) (hlocks : meth.locks = false) (hml : c.maxLocals = mxM M) (hGl : GlobOK) (hO : OwnOK s0 own Ω κ μ) (hini : ini = true → meth.name = "<init>") (hret : retT rc meth.sig.returnType) (hrows : RowsOK M c.code Ω κ μ ini rc)
    (HF : ∀ (M1 : Nat) (a1 : List PV) (h1 : PH) (o1 : Ot) (h2 : PH), cf M1 a1 h1 = some (o1, h2) → WFv a1 → hk h1 ≤ cLim → hs h1 ≤ sLim → MOK M1 → CallOK l s0 K d M1 a1 h1 o1 h2)
    (hkk : SimK s0 K p l e (d + 1) s m args below meth c hS hE o M k) (hT0 : ThrOK s0 K p l e (d + 1) s m args below meth c hS hE o M k) (hAC : StepOK s0 K p l e (d + 1) s m args below meth c hS hE o M Ω κ μ ini cf k (.invokestatic ACN)) (hEX : ∀ t z, StepOK s0 K p l e (d + 1) s m args below meth c hS hE o M Ω κ μ ini cf k (.multianewarray t z)) : SimK s0 K p l e (d + 1) s m args below meth c hS hE o M (fun pc ls st h => st1 cf k M pc ls st h) := by
  intro pc lp st h H ls locs he hlen hL hwl hws hR hG hfr
  have he : st1 cf k M pc lp st h = some (o, hE) := he
  unfold st1 at he
  rcases hf : fetch M pc with _ | ⟨i, len⟩
  · rw [hf] at he; exact no_e he
  · rw [hf] at he
    have he : stI cf k M pc (pc + len) i lp st h = some (o, hE) := he
    have hm := fetch_mem hf
    obtain ⟨⟨b, hb, hck⟩, hs, hp⟩ := hrows
    cases hst : isStuck i with
    | true =>
      cases i <;> first | (exact no_e (show (none : Rs) = some (o, hE) from he)) | cases hst
    | false =>
    cases hsw : isSw i with
    | true =>
      cases i <;> first | cases hsw | skip
      exact sim_switch hx hkk (hs _ hm _ _ rfl) he hlen hL hwl hws hR hG hfr
    | false =>
      obtain ⟨b', hB, h1, h2, h3⟩ := ckA_s _ 0 b hck hb pc len i hm hst hsw
      exact sim_all hx hC hW hown hlocks hml hGl hO hini hret HF hkk hT0 hAC hEX i (hp _ hm) hsw h1 h2 h3 hB he hlen hL hwl hws hR hG hfr
