/-! THE PURE MACHINE. st1: one instruction, in the style of continuations; ex: n of them; FA: a method from a place on; F d: a call at depth d. -/
set_option maxRecDepth 100000
abbrev Ot : Type := Option PV ⊕ Nat
abbrev Rs : Type := Option (Ot × PH)
abbrev Kt : Type := Nat → List PV → List PV → PH → Rs
abbrev inT (lo hi t : Nat) : Prop := lo ≤ t ∧ t ≤ hi
abbrev inA (j n : Int) : Prop := 0 ≤ j ∧ j < n
def lkR : Nat → List (Nat × Instr × Nat) → Option (Instr × Nat)
  | _, [] => none
  | pc, (q, i, k) :: l => cond (Nat.beq q pc) (some (i, k)) (lkR pc l)
def nth {α : Type} : List α → Nat → Option α
  | [], _ => none
  | x :: _, 0 => some x
  | _ :: l, n + 1 => nth l n
def codM (m : Nat) : List (List (Nat × Instr × Nat)) := ((nth codT (m / 32)).bind fun g => nth g (m % 32)).getD []
def fetch (M pc : Nat) : Option (Instr × Nat) := (nth (codM (M / 262144)) (pc / 64)).bind fun l => lkR pc l
def asc {α : Type} : List (Nat × α) → Nat → Option α
  | [], _ => none
  | (k, v) :: l, n => cond (Nat.beq k n) (some v) (asc l n)
def hndL (M : Nat) : List (Nat × Nat × Nat × Nat × Nat) := (asc hndT (M / 262144)).getD []
/-- the handler that takes an exception of a tag thrown at a place -/
def hndF : List (Nat × Nat × Nat × Nat × Nat) → Nat → Nat → Option Nat
  | [], _, _ => none
  | (a, b, t, lo, hi) :: l, pc, tag => if a ≤ pc ∧ pc < b ∧ lo ≤ tag ∧ tag ≤ hi then some t else hndF l pc tag
def dsp (p tag : Nat) : Option Nat := (nth dspT p).bind fun l => asc l tag
def rdF (h : PH) (f r : Nat) : PV := match f % 4 with
  | 0 => vI (gI h f r)
  | 1 => vJ (gJ h f r)
  | 2 => vR (gR h f r)
  | _ => vI (nz (gI h f r))
def lget : List PV → Nat → PV
  | [], _ => vX
  | x :: _, 0 => x
  | _ :: l, n + 1 => lget l n
def lset : List PV → Nat → PV → List PV
  | [], _, _ => []
  | _ :: l, 0, v => v :: l
  | x :: l, n + 1, v => x :: lset l n v
def pu (v : Option PV) (st : List PV) : List PV := match v with
  | some w => w :: st
  | none => st
def popN : Nat → List PV → List PV → Option (List PV × List PV)
  | 0, acc, st => some (acc, st)
  | n + 1, acc, v :: st => popN n (v :: acc) st
  | _ + 1, _, [] => none
def bnd (x : Rs) (f : Option PV → PH → Rs) : Rs := match x with
  | some (.inl v, h) => f v h
  | some (.inr e, h) => some (.inr e, h)
  | none => none
def bndH (x : Rs) (f : Option PV → PH → Rs) (g : Nat → PH → Rs) : Rs := match x with
  | some (.inl v, h) => f v h
  | some (.inr e, h) => g e h
  | none => none
def lcm (x y : Int) : Int := if x < y then -1 else if x = y then 0 else 1
def iand (x y : Int) : Int := (Int32.ofInt x &&& Int32.ofInt y).toInt
def ior (x y : Int) : Int := (Int32.ofInt x ||| Int32.ofInt y).toInt
def land (x y : Int) : Int := (Int64.ofInt x &&& Int64.ofInt y).toInt
def lor (x y : Int) : Int := (Int64.ofInt x ||| Int64.ofInt y).toInt
def lxor (x y : Int) : Int := (Int64.ofInt x ^^^ Int64.ofInt y).toInt
def ishl (x y : Int) : Int := (Int32.ofInt x <<< (Int32.ofInt y &&& 31)).toInt
def ishr (x y : Int) : Int := (Int32.ofInt x >>> (Int32.ofInt y &&& 31)).toInt
def iushr (x y : Int) : Int := ((Int32.ofInt x).toUInt32 >>> ((Int32.ofInt y).toUInt32 &&& Int32.toUInt32 31)).toInt32.toInt
def lshl (x y : Int) : Int := (Int64.ofInt x <<< ((Int32.ofInt y).toInt64 &&& 63)).toInt
def lshr (x y : Int) : Int := (Int64.ofInt x >>> ((Int32.ofInt y).toInt64 &&& 63)).toInt
def lushr (x y : Int) : Int := ((Int64.ofInt x).toUInt64 >>> ((Int32.ofInt y).toInt64.toUInt64 &&& Int64.toUInt64 63)).toInt64.toInt
def cLim : Nat := 600384
def sLim : Nat := 7289322
abbrev rmA (h : PH) (n : Int) : Prop := 0 ≤ n ∧ hk h < cLim ∧ hs h + n.toNat ≤ sLim
abbrev rmO (h : PH) (n : Nat) : Prop := hk h < cLim ∧ hs h + n ≤ sLim
/-- slots of an object by its tag -/
def slT : List Nat := [0, 11, 3, 14, 8, 8, 27, 5, 5, 8, 4, 8, 9, 9, 12, 11, 14, 9, 10, 9, 8, 9, 13, 11, 10, 9, 13, 8, 10, 9, 15, 11, 8, 10, 10, 5, 12, 3, 9, 2, 4, 4, 13, 213, 8, 6, 6, 6, 3, 1, 0, 1, 0, 0, 0, 0]
def slt (t : Nat) : Nat := (nth slT t).getD 0
/-- a new exception without a message -/
def nE (h : PH) (t n : Nat) : PH := pR (pR (pR (nO h t n) 3459210930 (hn h) (hn h)) 3467599538 (hn h) (gR h 4118806530 0)) 3475988146 (hn h) (gR h 4127195138 0)
/-- switches -/
def swk (k : Kt) (x : Int) (d : Nat) (ls st : List PV) (h : PH) : List (Int × Int) → Rs
  | [] => k d ls st h
  | (v, t) :: l => if x = v then k t.toNat ls st h else swk k x d ls st h l
/-- what may lie in an array of references of a tag -/
abbrev okE (h : PH) (t v : Nat) : Prop := v = 0 ∨ t = 71 ∧ (inT 1 55 (hc h v) ∨ hc h v = 65) ∨ t = 73 ∧ hc h v = 55 ∨ t = 74 ∧ hc h v = 40 ∨ t = 75 ∧ hc h v = 42
/-- words on a stack -/
def stw : List PV → Nat
  | [] => 0
  | .inr (.inl _) :: l => stw l + 2
  | _ :: l => stw l + 1
def callK (cf : Nat → List PV → PH → Rs) (k : Kt) (M pc nx m : Nat) (args : List PV) (ls st : List PV) (h : PH) : Rs := cond (Nat.ble (stw st) 8) (match hndL M with
  | [] => bnd (cf m args h) fun v h' => k nx ls (pu v st) h'
  | l => bndH (cf m args h) (fun v h' => k nx ls (pu v st) h') fun e h' => match hndF l pc (hc h' e) with
    | some t => k t ls [vR e] h'
    | none => some (.inr e, h')) none
def stI (cf : Nat → List PV → PH → Rs) (k : Kt) (M pc nx : Nat) (i : Instr) (ls st : List PV) (h : PH) : Rs := match i with
  | .aconst_null => k nx ls (vR 0 :: st) h
  | .iconst z => k nx ls (vI z :: st) h
  | .sipush z => k nx ls (vJ z :: st) h
  | .iload x => match lget ls x with
    | .inl v => k nx ls (vI v :: st) h
    | _ => none
  | .aload x => match lget ls x with
    | .inr (.inr (.inl v)) => k nx ls (vR v :: st) h
    | _ => none
  | .lload x => match lget ls x, lget ls (x + 1) with
    | .inr (.inl v), .inr (.inr (.inr _)) => k nx ls (vJ v :: st) h
    | _, _ => none
  | .istore x => match st with
    | .inl v :: st => k nx (lset ls x (vI v)) st h
    | _ => none
  | .astore x => match st with
    | .inr (.inr (.inl v)) :: st => k nx (lset ls x (vR v)) st h
    | _ => none
  | .lstore x => match st with
    | .inr (.inl v) :: st => k nx (lset (lset ls x (vJ v)) (x + 1) vX) st h
    | _ => none
  | .iinc x z => match lget ls x with
    | .inl v => k nx (lset ls x (vI (w32 (v + z)))) st h
    | _ => none
  | .pop => match st with
    | .inl _ :: st => k nx ls st h
    | .inr (.inr (.inl _)) :: st => k nx ls st h
    | _ => none
  | .pop2 => match st with
    | .inr (.inr (.inl r)) :: st => gd (0 < hc h r) (cond (Nat.ble (stw st) 8) (k nx ls st h) none)
    | _ => none
  | .dup => match st with
    | .inl v :: st => k nx ls (vI v :: vI v :: st) h
    | .inr (.inr (.inl v)) :: st => k nx ls (vR v :: vR v :: st) h
    | _ => none
  | .dup_x1 => match st with
    | .inl v :: .inr (.inr (.inl w)) :: st => k nx ls (vI v :: vR w :: vI v :: st) h
    | .inr (.inr (.inl v)) :: .inr (.inr (.inl w)) :: st => k nx ls (vR v :: vR w :: vR v :: st) h
    | _ => none
  | .dup2 => match st with
    | .inr (.inl v) :: st => k nx ls (vJ v :: vJ v :: st) h
    | .inl v :: .inr (.inr (.inl w)) :: st => k nx ls (vI v :: vR w :: vI v :: vR w :: st) h
    | _ => none
  | .iadd => match st with
    | .inl y :: .inl x :: st => k nx ls (vI (w32 (x + y)) :: st) h
    | _ => none
  | .isub => match st with
    | .inl y :: .inl x :: st => k nx ls (vI (w32 (x - y)) :: st) h
    | _ => none
  | .imul => match st with
    | .inl y :: .inl x :: st => k nx ls (vI (w32 (x * y)) :: st) h
    | _ => none
  | .idiv => match st with
    | .inl y :: .inl x :: st => gd (y ≠ 0) (k nx ls (vI (w32 (x.tdiv y)) :: st) h)
    | _ => none
  | .irem => match st with
    | .inl y :: .inl x :: st => gd (y ≠ 0) (k nx ls (vI (x.tmod y) :: st) h)
    | _ => none
  | .iand => match st with
    | .inl y :: .inl x :: st => k nx ls (vI (iand x y) :: st) h
    | _ => none
  | .ior => match st with
    | .inl y :: .inl x :: st => k nx ls (vI (ior x y) :: st) h
    | _ => none
  | .ishl => match st with
    | .inl y :: .inl x :: st => k nx ls (vI (ishl x y) :: st) h
    | _ => none
  | .ishr => match st with
    | .inl y :: .inl x :: st => k nx ls (vI (ishr x y) :: st) h
    | _ => none
  | .iushr => match st with
    | .inl y :: .inl x :: st => k nx ls (vI (iushr x y) :: st) h
    | _ => none
  | .ladd => match st with
    | .inr (.inl y) :: .inr (.inl x) :: st => k nx ls (vJ (w64 (x + y)) :: st) h
    | _ => none
  | .lsub => match st with
    | .inr (.inl y) :: .inr (.inl x) :: st => k nx ls (vJ (w64 (x - y)) :: st) h
    | _ => none
  | .lmul => match st with
    | .inr (.inl y) :: .inr (.inl x) :: st => k nx ls (vJ (w64 (x * y)) :: st) h
    | _ => none
  | .ldiv => match st with
    | .inr (.inl y) :: .inr (.inl x) :: st => gd (y ≠ 0) (k nx ls (vJ (w64 (x.tdiv y)) :: st) h)
    | _ => none
  | .lrem => match st with
    | .inr (.inl y) :: .inr (.inl x) :: st => gd (y ≠ 0) (k nx ls (vJ (x.tmod y) :: st) h)
    | _ => none
  | .land => match st with
    | .inr (.inl y) :: .inr (.inl x) :: st => k nx ls (vJ (land x y) :: st) h
    | _ => none
  | .lor => match st with
    | .inr (.inl y) :: .inr (.inl x) :: st => k nx ls (vJ (lor x y) :: st) h
    | _ => none
  | .lxor => match st with
    | .inr (.inl y) :: .inr (.inl x) :: st => k nx ls (vJ (lxor x y) :: st) h
    | _ => none
  | .lshl => match st with
    | .inl y :: .inr (.inl x) :: st => k nx ls (vJ (lshl x y) :: st) h
    | _ => none
  | .lshr => match st with
    | .inl y :: .inr (.inl x) :: st => k nx ls (vJ (lshr x y) :: st) h
    | _ => none
  | .lushr => match st with
    | .inl y :: .inr (.inl x) :: st => k nx ls (vJ (lushr x y) :: st) h
    | _ => none
  | .lneg => match st with
    | .inr (.inl x) :: st => k nx ls (vJ (w64 (-x)) :: st) h
    | _ => none
  | .lcmp => match st with
    | .inr (.inl y) :: .inr (.inl x) :: st => k nx ls (vI (lcm x y) :: st) h
    | _ => none
  | .i2l => match st with
    | .inl x :: st => k nx ls (vJ x :: st) h
    | _ => none
  | .l2i => match st with
    | .inr (.inl x) :: st => k nx ls (vI (w32 x) :: st) h
    | _ => none
  | .i2b => match st with
    | .inl x :: st => k nx ls (vI (w8 x) :: st) h
    | _ => none
  | .i2c => match st with
    | .inl x :: st => k nx ls (vI (x % 65536) :: st) h
    | _ => none
  | .goto t => k t.toNat ls st h
  | .ifCond o t => match st with
    | .inl x :: st => (match o with
      | .eq => if x = 0 then k t.toNat ls st h else k nx ls st h
      | .ne => if x = 0 then k nx ls st h else k t.toNat ls st h
      | .lt => if x < 0 then k t.toNat ls st h else k nx ls st h
      | .ge => if x < 0 then k nx ls st h else k t.toNat ls st h
      | .gt => if 0 < x then k t.toNat ls st h else k nx ls st h
      | .le => if 0 < x then k nx ls st h else k t.toNat ls st h)
    | _ => none
  | .if_icmp o t => match st with
    | .inl y :: .inl x :: st => (match o with
      | .eq => if x = y then k t.toNat ls st h else k nx ls st h
      | .ne => if x = y then k nx ls st h else k t.toNat ls st h
      | .lt => if x < y then k t.toNat ls st h else k nx ls st h
      | .ge => if x < y then k nx ls st h else k t.toNat ls st h
      | .gt => if y < x then k t.toNat ls st h else k nx ls st h
      | .le => if y < x then k nx ls st h else k t.toNat ls st h)
    | _ => none
  | .if_acmp o t => match st with
    | .inr (.inr (.inl y)) :: .inr (.inr (.inl x)) :: st => (match o with
      | .eq => if x = y then k t.toNat ls st h else k nx ls st h
      | .ne => if x = y then k nx ls st h else k t.toNat ls st h)
    | _ => none
  | .ifnull t => match st with
    | .inr (.inr (.inl x)) :: st => if x = 0 then k t.toNat ls st h else k nx ls st h
    | _ => none
  | .ifnonnull t => match st with
    | .inr (.inr (.inl x)) :: st => if x = 0 then k nx ls st h else k t.toNat ls st h
    | _ => none
  | .lookupswitch d ps => match st with
    | .inl x :: st => swk k x d.toNat ls st h ps.toList
    | _ => none
  | .getstatic f => k nx ls (rdF h f 0 :: st) h
  | .getfield f => match st with
    | .inr (.inr (.inl r)) :: st => gd (inT (f / 4 % 128) (f / 65536 % 128) (hc h r)) (k nx ls (rdF h f r :: st) h)
    | _ => none
  | .putfield f => match st with
    | .inl v :: .inr (.inr (.inl r)) :: st => gd (inT (f / 4 % 128) (f / 512 % 128) (hc h r)) (match f % 4 with
      | 0 => k nx ls st (pI h f r v)
      | 3 => gd (v = 0 ∨ v = 1) (k nx ls st (pI h f r v))
      | _ => none)
    | .inr (.inl v) :: .inr (.inr (.inl r)) :: st => gd (inT (f / 4 % 128) (f / 512 % 128) (hc h r)) (match f % 4 with
      | 1 => k nx ls st (pJ h f r v)
      | _ => none)
    | .inr (.inr (.inl v)) :: .inr (.inr (.inl r)) :: st => gd (inT (f / 4 % 128) (f / 512 % 128) (hc h r)) (match f % 4 with
      | 2 => k nx ls st (pR h f r v)
      | _ => none)
    | _ => none
  | .arraylength => match st with
    | .inr (.inr (.inl r)) :: st => gd (inT 64 77 (hc h r) ∨ inT 64 77 (kc h r)) (k nx ls (vI (hl h r) :: st) h)
    | _ => none
  | .iaload => match st with
    | .inl j :: .inr (.inr (.inl r)) :: st => gd ((inT 64 65 (hc h r) ∨ inT 64 65 (kc h r)) ∧ inA j (hl h r)) (k nx ls (vI (eI h r j) :: st) h)
    | _ => none
  | .laload => match st with
    | .inl j :: .inr (.inr (.inl r)) :: st => gd (hc h r = 66 ∧ inA j (hl h r)) (k nx ls (vJ (eJ h r j) :: st) h)
    | _ => none
  | .baload => match st with
    | .inl j :: .inr (.inr (.inl r)) :: st => gd ((inT 67 69 (hc h r) ∨ inT 68 68 (kc h r)) ∧ inA j (hl h r)) (k nx ls (vI (if hc h r = 69 then nz (eI h r j) else eI h r j) :: st) h)
    | _ => none
  | .caload => match st with
    | .inl j :: .inr (.inr (.inl r)) :: st => gd ((inT 70 70 (hc h r) ∨ inT 70 70 (kc h r)) ∧ inA j (hl h r)) (k nx ls (vI (eI h r j) :: st) h)
    | _ => none
  | .aaload => match st with
    | .inl j :: .inr (.inr (.inl r)) :: st => gd ((inT 71 77 (hc h r) ∨ inT 71 77 (kc h r)) ∧ inA j (hl h r)) (k nx ls (vR (eR h r j) :: st) h)
    | _ => none
  | .iastore => match st with
    | .inl v :: .inl j :: .inr (.inr (.inl r)) :: st => gd (hc h r = 65 ∧ inA j (hl h r)) (k nx ls st (qI h r j v))
    | _ => none
  | .lastore => match st with
    | .inr (.inl v) :: .inl j :: .inr (.inr (.inl r)) :: st => gd (hc h r = 66 ∧ inA j (hl h r)) (k nx ls st (qJ h r j v))
    | _ => none
  | .bastore => match st with
    | .inl v :: .inl j :: .inr (.inr (.inl r)) :: st => gd ((hc h r = 67 ∨ hc h r = 69 ∧ (v = 0 ∨ v = 1)) ∧ inA j (hl h r)) (k nx ls st (qI h r j (if hc h r = 69 then v else w8 v)))
    | _ => none
  | .aastore => match st with
    | .inr (.inr (.inl v)) :: .inl j :: .inr (.inr (.inl r)) :: st => gd (inT 71 75 (hc h r) ∧ hc h r ≠ 72 ∧ okE h (hc h r) v ∧ inA j (hl h r)) (k nx ls st (qR h r j v))
    | _ => none
  | .newarray t => match st with
    | .inl n :: st => gd (rmA h n) (match t with
      | .int => k nx ls (vR (hn h) :: st) (nA h 65 n)
      | .long => k nx ls (vR (hn h) :: st) (nA h 66 n)
      | .byte => k nx ls (vR (hn h) :: st) (nA h 67 n)
      | .boolean => k nx ls (vR (hn h) :: st) (nA h 69 n)
      | _ => none)
    | _ => none
  | .anewarray t => match st with
    | .inl n :: st => gd (rmA h n) (k nx ls (vR (hn h) :: st) (nA h t n))
    | _ => none
  | .new t => gd (rmO h (slt t)) (k nx ls (vR (hn h) :: st) (nO h t (slt t)))
  | .multianewarray t _ => gd (rmO h (slt t) ∧ stw st ≤ 8) (k nx ls (vR (hn h) :: st) (nE h t (slt t)))
  | .checkcast q => match st with
    | .inr (.inr (.inl r)) :: st => gd (r = 0 ∨ inT (q % 128) (q / 128) (hc h r)) (k nx ls (vR r :: st) h)
    | _ => none
  | .instanceof q => match st with
    | .inr (.inr (.inl r)) :: st => gd (r = 0 ∨ inT (q / 16384 % 128) (q / 2097152) (hc h r)) (k nx ls (vI (if r = 0 then 0 else if inT (q % 128) (q / 128 % 128) (hc h r) then 1 else 0) :: st) h)
    | _ => none
  | .invokestatic m => match popN (m % 16) [] st with
    | some (args, st) => callK cf k M pc nx m args ls st h
    | none => none
  | .invokespecial m => match popN (m % 16) [] st with
    | some (.inr (.inr (.inl r)) :: args, st) => gd (inT (m / 16 % 128) (m / 2048 % 128) (hc h r)) (callK cf k M pc nx m (vR r :: args) ls st h)
    | _ => none
  | .invokevirtual m => match popN (m % 16) [] st with
    | some (.inr (.inr (.inl r)) :: args, st) => gd (inT (m / 16 % 128) (m / 2048 % 128) (hc h r)) (callK cf k M pc nx m (vR r :: args) ls st h)
    | _ => none
  | .invokeinterface p n => match popN n [] st with
    | some (.inr (.inr (.inl r)) :: args, st) => (match dsp p (hc h r) with
      | some m => callK cf k M pc nx m (vR r :: args) ls st h
      | none => none)
    | _ => none
  | .athrow => match st with
    | .inr (.inr (.inl r)) :: _ => gd (inT 44 47 (hc h r)) (match hndF (hndL M) pc (hc h r) with
      | some t => k t ls [vR r] h
      | none => some (.inr r, h))
    | _ => none
  | .ireturn => match st with
    | [.inl v] => some (.inl (some (vI v)), h)
    | _ => none
  | .freturn => match st with
    | [.inl v] => gd (v = 0 ∨ v = 1) (some (.inl (some (vI v)), h))
    | _ => none
  | .dreturn => match st with
    | [.inl v] => gd (0 ≤ v ∧ v < 128) (some (.inl (some (vI v)), h))
    | _ => none
  | .lreturn => match st with
    | [.inr (.inl v)] => some (.inl (some (vJ v)), h)
    | _ => none
  | .areturn => match st with
    | [.inr (.inr (.inl v))] => some (.inl (some (vR v)), h)
    | _ => none
  | .return_ => match st with
    | [] => some (.inl none, h)
    | _ => none
  | _ => none
def st1 (cf : Nat → List PV → PH → Rs) (k : Kt) (M pc : Nat) (ls st : List PV) (h : PH) : Rs := match fetch M pc with
  | some (i, len) => stI cf k M pc (pc + len) i ls st h
  | none => none
def ex (cf : Nat → List PV → PH → Rs) (K : Kt) (M : Nat) : Nat → Kt
  | 0 => K
  | n + 1 => fun pc ls st h => st1 cf (ex cf K M n) M pc ls st h
