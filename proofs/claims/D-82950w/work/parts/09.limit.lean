/-! FA, the limit of ex; F, calls by depth -/
set_option maxRecDepth 100000
def Tl (f : Kt → Rs) : Prop := (∃ r, ∀ k, f k = r) ∨ ∃ pc ls st h, ∀ k : Kt, f k = k pc ls st h
theorem tl_k {pc : Nat} {ls st : List PV} {h : PH} : Tl (fun k => k pc ls st h) := Or.inr ⟨pc, ls, st, h, fun _ => rfl⟩
theorem tl_c {r : Rs} : Tl (fun _ => r) := Or.inl ⟨r, fun _ => rfl⟩
theorem tl_gd {c : Prop} [Decidable c] {f : Kt → Rs} (h : Tl f) : Tl (fun k => gd c (f k)) := by
  by_cases hc : c
  · have e : (fun k => gd c (f k)) = f := funext fun k => if_pos hc
    rw [e]; exact h
  · exact Or.inl ⟨none, fun k => if_neg hc⟩
theorem tl_ite {c : Prop} [Decidable c] {f g : Kt → Rs} (h : Tl f) (h2 : Tl g) : Tl (fun k => if c then f k else g k) := by
  by_cases hc : c
  · simp only [hc, if_true]; exact h
  · simp only [hc, if_false]; exact h2
theorem tl_callK {cf : Nat → List PV → PH → Rs} {M pc nx m : Nat} {args ls st : List PV} {h : PH} : Tl (fun k => callK cf k M pc nx m args ls st h) := by
  unfold callK
  cases Nat.ble (stw st) 8 with
  | false => exact (tl_c (r := none))
  | true =>
  simp only [cond_true]
  cases hndL M with
  | nil =>
    unfold bnd
    rcases cf m args h with _ | ⟨v | e, h'⟩
    · exact tl_c
    · exact tl_k
    · exact tl_c
  | cons x l =>
    unfold bndH
    rcases cf m args h with _ | ⟨v | e, h'⟩
    · exact tl_c
    · exact tl_k
    · dsimp only
      cases hndF (x :: l) pc (hc h' e) with
      | none => exact tl_c
      | some t => exact tl_k
theorem tl_swk {x : Int} {d : Nat} {ls st : List PV} {h : PH} (l : List (Int × Int)) : Tl (fun k => swk k x d ls st h l) := by
  induction l with
  | nil => exact tl_k
  | cons a l ih => exact tl_ite tl_k ih
set_option maxHeartbeats 4000000 in
theorem tl_stI (cf : Nat → List PV → PH → Rs) (M pc nx : Nat) (i : Instr) (ls st : List PV) (h : PH) : Tl (fun k => stI cf k M pc nx i ls st h) := by
  cases i
  case iload x => dsimp only [stI]; rcases lget ls x with v | ⟨v | ⟨v | v⟩⟩ <;> first | exact tl_k | exact (tl_c (r := none))
  case aload x => dsimp only [stI]; rcases lget ls x with v | ⟨v | ⟨v | v⟩⟩ <;> first | exact tl_k | exact (tl_c (r := none))
  case iinc x z => dsimp only [stI]; rcases lget ls x with v | ⟨v | ⟨v | v⟩⟩ <;> first | exact tl_k | exact (tl_c (r := none))
  case lload x => dsimp only [stI]; rcases lget ls x with v | ⟨v | ⟨v | v⟩⟩ <;> rcases lget ls (x + 1) with w | ⟨w | ⟨w | w⟩⟩ <;> first | exact tl_k | exact (tl_c (r := none))
  case ifCond o t => dsimp only [stI]; rcases st with _ | ⟨v | ⟨v | ⟨v | v⟩⟩, st⟩ <;> first | exact (tl_c (r := none)) | (cases o <;> exact tl_ite tl_k tl_k)
  case if_icmp o t => dsimp only [stI]; rcases st with _ | ⟨v | ⟨v | ⟨v | v⟩⟩, _ | ⟨w | ⟨w | ⟨w | w⟩⟩, st⟩⟩ <;> first | exact (tl_c (r := none)) | (cases o <;> exact tl_ite tl_k tl_k)
  case if_acmp o t => dsimp only [stI]; rcases st with _ | ⟨v | ⟨v | ⟨v | v⟩⟩, _ | ⟨w | ⟨w | ⟨w | w⟩⟩, st⟩⟩ <;> first | exact (tl_c (r := none)) | (cases o <;> exact tl_ite tl_k tl_k)
  case lookupswitch d ps => dsimp only [stI]; rcases st with _ | ⟨v | ⟨v | ⟨v | v⟩⟩, st⟩ <;> first | exact (tl_c (r := none)) | exact tl_swk _
  case putfield f =>
    dsimp only [stI]
    rcases st with _ | ⟨v | ⟨v | ⟨v | v⟩⟩, _ | ⟨w | ⟨w | ⟨w | w⟩⟩, st⟩⟩ <;> first | exact (tl_c (r := none)) | (refine tl_gd ?_; rcases f % 4 with _ | _ | _ | _ | _ <;> first | exact tl_k | exact (tl_c (r := none)) | exact tl_gd tl_k)
  case newarray t => dsimp only [stI]; rcases st with _ | ⟨v | ⟨v | ⟨v | v⟩⟩, st⟩ <;> first | exact (tl_c (r := none)) | (refine tl_gd ?_; cases t <;> first | exact tl_k | exact (tl_c (r := none)))
  case iastore => dsimp only [stI]; rcases st with _ | ⟨v | ⟨v | ⟨v | v⟩⟩, _ | ⟨w | ⟨w | ⟨w | w⟩⟩, _ | ⟨u | ⟨u | ⟨u | u⟩⟩, st⟩⟩⟩ <;> first | exact (tl_c (r := none)) | exact tl_gd tl_k
  case lastore => dsimp only [stI]; rcases st with _ | ⟨v | ⟨v | ⟨v | v⟩⟩, _ | ⟨w | ⟨w | ⟨w | w⟩⟩, _ | ⟨u | ⟨u | ⟨u | u⟩⟩, st⟩⟩⟩ <;> first | exact (tl_c (r := none)) | exact tl_gd tl_k
  case bastore => dsimp only [stI]; rcases st with _ | ⟨v | ⟨v | ⟨v | v⟩⟩, _ | ⟨w | ⟨w | ⟨w | w⟩⟩, _ | ⟨u | ⟨u | ⟨u | u⟩⟩, st⟩⟩⟩ <;> first | exact (tl_c (r := none)) | exact tl_gd tl_k
  case aastore => dsimp only [stI]; rcases st with _ | ⟨v | ⟨v | ⟨v | v⟩⟩, _ | ⟨w | ⟨w | ⟨w | w⟩⟩, _ | ⟨u | ⟨u | ⟨u | u⟩⟩, st⟩⟩⟩ <;> first | exact (tl_c (r := none)) | exact tl_gd tl_k
  case invokestatic m => dsimp only [stI]; rcases popN (m % 16) [] st with _ | ⟨a, st'⟩ <;> first | exact (tl_c (r := none)) | exact tl_callK
  case invokespecial m => dsimp only [stI]; rcases popN (m % 16) [] st with _ | ⟨_ | ⟨v | ⟨v | ⟨v | v⟩⟩, a⟩, st'⟩ <;> first | exact (tl_c (r := none)) | exact tl_gd tl_callK
  case invokevirtual m => dsimp only [stI]; rcases popN (m % 16) [] st with _ | ⟨_ | ⟨v | ⟨v | ⟨v | v⟩⟩, a⟩, st'⟩ <;> first | exact (tl_c (r := none)) | exact tl_gd tl_callK
  case invokeinterface p n => dsimp only [stI]; rcases popN n [] st with _ | ⟨_ | ⟨v | ⟨v | ⟨v | v⟩⟩, a⟩, st'⟩ <;> first | exact (tl_c (r := none)) | (dsimp only; cases dsp p (hc h v) <;> first | exact (tl_c (r := none)) | exact tl_callK)
  case pop2 => dsimp only [stI]; rcases st with _ | ⟨v | ⟨v | ⟨v | v⟩⟩, st⟩ <;> first | exact (tl_c (r := none)) | (refine tl_gd ?_; cases Nat.ble (stw st) 8 <;> first | exact tl_k | exact (tl_c (r := none)))
  case athrow => dsimp only [stI]; rcases st with _ | ⟨v | ⟨v | ⟨v | v⟩⟩, st⟩ <;> first | exact (tl_c (r := none)) | (refine tl_gd ?_; cases hndF (hndL M) pc (hc h v) <;> first | exact tl_k | exact (tl_c (r := some (.inr v, h))))
  case ireturn => dsimp only [stI]; rcases st with _ | ⟨v | ⟨v | ⟨v | v⟩⟩, _ | ⟨w, st⟩⟩ <;> exact tl_c
  case freturn => dsimp only [stI]; rcases st with _ | ⟨v | ⟨v | ⟨v | v⟩⟩, _ | ⟨w, st⟩⟩ <;> exact tl_c
  case dreturn => dsimp only [stI]; rcases st with _ | ⟨v | ⟨v | ⟨v | v⟩⟩, _ | ⟨w, st⟩⟩ <;> exact tl_c
  case lreturn => dsimp only [stI]; rcases st with _ | ⟨v | ⟨v | ⟨v | v⟩⟩, _ | ⟨w, st⟩⟩ <;> exact tl_c
  case areturn => dsimp only [stI]; rcases st with _ | ⟨v | ⟨v | ⟨v | v⟩⟩, _ | ⟨w, st⟩⟩ <;> exact tl_c
  case return_ => dsimp only [stI]; rcases st with _ | ⟨w, st⟩ <;> exact tl_c
  all_goals first
    | exact tl_k
    | exact (tl_c (r := none))
    | exact tl_gd tl_k
    | (dsimp only [stI]; rcases st with _ | ⟨v | ⟨v | ⟨v | v⟩⟩, st⟩ <;> first | exact tl_k | exact (tl_c (r := none)) | exact tl_gd tl_k | exact tl_ite tl_k tl_k)
    | (dsimp only [stI]; rcases st with _ | ⟨v | ⟨v | ⟨v | v⟩⟩, _ | ⟨w | ⟨w | ⟨w | w⟩⟩, st⟩⟩ <;> first | exact tl_k | exact (tl_c (r := none)) | exact tl_gd tl_k)
theorem tl_st1' (cf : Nat → List PV → PH → Rs) (M pc : Nat) (ls st : List PV) (h : PH) : Tl (fun k => st1 cf k M pc ls st h) := by
  unfold st1
  rcases fetch M pc with _ | ⟨i, len⟩
  · exact tl_c
  · exact tl_stI cf M pc (pc + len) i ls st h
theorem tl_st1 (cf : Nat → List PV → PH → Rs) (M pc : Nat) (ls st : List PV) (h : PH) : (∃ r, ∀ k, st1 cf k M pc ls st h = r) ∨ ∃ pc' ls' st' h', ∀ k : Kt, st1 cf k M pc ls st h = k pc' ls' st' h' := tl_st1' cf M pc ls st h
def exN (cf : Nat → List PV → PH → Rs) (M n : Nat) : Kt := ex cf (fun _ _ _ _ => none) M n
theorem exN_mono {cf : Nat → List PV → PH → Rs} {M : Nat} : ∀ (n m : Nat), n ≤ m → ∀ (pc : Nat) (ls st : List PV) (h : PH) (y : Ot × PH), exN cf M n pc ls st h = some y → exN cf M m pc ls st h = some y := by
  intro n
  induction n with
  | zero => intro m _ pc ls st h y hy; cases hy
  | succ n ih =>
    intro m hm pc ls st h y hy
    cases m with
    | zero => omega
    | succ m =>
      have h1 : st1 cf (exN cf M n) M pc ls st h = some y := hy
      show st1 cf (exN cf M m) M pc ls st h = some y
      rcases tl_st1 cf M pc ls st h with ⟨r, hr⟩ | ⟨pc', ls', st', h', hr⟩
      · rw [hr] at h1 ⊢; exact h1
      · rw [hr] at h1 ⊢; exact ih m (by omega) _ _ _ _ _ h1
noncomputable def FA (cf : Nat → List PV → PH → Rs) (M : Nat) : Kt := fun pc ls st h =>
  haveI := Classical.propDecidable (∃ n, (exN cf M n pc ls st h).isSome = true); if H : ∃ n, (exN cf M n pc ls st h).isSome = true then exN cf M (Classical.choose H) pc ls st h else none
theorem FA_iff {cf : Nat → List PV → PH → Rs} {M pc : Nat} {ls st : List PV} {h : PH} {y : Ot × PH} : FA cf M pc ls st h = some y ↔ ∃ n, exN cf M n pc ls st h = some y := by
  unfold FA
  constructor
  · intro e
    split at e
    · exact ⟨_, e⟩
    · cases e
  · intro ⟨n, hn⟩
    have H : ∃ n, (exN cf M n pc ls st h).isSome = true := ⟨n, by rw [hn]; rfl⟩
    rw [dif_pos H]
    have h1 := Classical.choose_spec H
    cases hz : exN cf M (Classical.choose H) pc ls st h with
    | none => rw [hz] at h1; cases h1
    | some z =>
      have a := exN_mono _ (n + Classical.choose H) (by omega) _ _ _ _ _ hn
      have b := exN_mono _ (n + Classical.choose H) (by omega) _ _ _ _ _ hz
      rw [a] at b
      exact b.symm
theorem opt_ext {α : Type} {a b : Option α} (h : ∀ y, a = some y ↔ b = some y) : a = b := by
  cases a with
  | none => cases b with
    | none => rfl
    | some y => exact absurd ((h y).mpr rfl) (by simp)
  | some y => exact ((h y).mp rfl).symm
theorem FA_st1 (cf : Nat → List PV → PH → Rs) (M pc : Nat) (ls st : List PV) (h : PH) : FA cf M pc ls st h = st1 cf (FA cf M) M pc ls st h := by
  refine opt_ext fun y => ?_
  rw [FA_iff]
  rcases tl_st1 cf M pc ls st h with ⟨r, hr⟩ | ⟨pc', ls', st', h', hr⟩
  · rw [hr]
    constructor
    · intro ⟨n, hn⟩
      cases n with
      | zero => cases hn
      | succ n => exact (hr (exN cf M n)) ▸ hn
    · intro e
      exact ⟨1, (hr (exN cf M 0)).trans e⟩
  · rw [hr, FA_iff]
    constructor
    · intro ⟨n, hn⟩
      cases n with
      | zero => cases hn
      | succ n => exact ⟨n, (hr (exN cf M n)) ▸ hn⟩
    · intro ⟨n, hn⟩
      exact ⟨n + 1, (hr (exN cf M n)).trans hn⟩
theorem FA_ex (cf : Nat → List PV → PH → Rs) (M : Nat) : ∀ (n pc : Nat) (ls st : List PV) (h : PH), FA cf M pc ls st h = ex cf (FA cf M) M n pc ls st h := by
  intro n
  induction n with
  | zero => intro pc ls st h; rfl
  | succ n ih =>
    intro pc ls st h
    rw [FA_st1]
    have e : ex cf (FA cf M) M n = FA cf M := funext fun a => funext fun b => funext fun c => funext fun d => (ih a b c d).symm
    show _ = st1 cf (ex cf (FA cf M) M n) M pc ls st h
    rw [e]
def entL : List PV → List PV
  | [] => []
  | .inr (.inl x) :: l => vJ x :: vX :: entL l
  | v :: l => v :: entL l
def padL : Nat → List PV → List PV
  | 0, l => l
  | n + 1, [] => vX :: padL n []
  | n + 1, x :: l => x :: padL n l
def mxM (M : Nat) : Nat := ((nth mxT (M / 262144 / 32)).bind fun g => nth g (M / 262144 % 32)).getD 0
/-- what lies in an array of objects may lie in one -/
abbrev okAll (h : PH) (a : Nat) (i : Int) (n : Nat) : Prop := ((List.range n).all fun k => decide (okE h 71 (eR h a (i + (k : Int))))) = true
abbrev okByt (h : PH) (a : Nat) (i : Int) (n : Nat) : Prop := ((List.range n).all fun k => decide (-128 ≤ eI h a (i + (k : Int)) ∧ eI h a (i + (k : Int)) < 128)) = true
theorem okAll_iff {h : PH} {a : Nat} {i : Int} {n : Nat} : okAll h a i n ↔ ∀ k : Nat, k < n → okE h 71 (eR h a (i + (k : Int))) := by
  constructor
  · intro q k z
    exact of_decide_eq_true (List.all_eq_true.mp q k (List.mem_range.mpr z))
  · intro q
    exact List.all_eq_true.mpr fun k z => decide_eq_true (q k (List.mem_range.mp z))
theorem okByt_iff {h : PH} {a : Nat} {i : Int} {n : Nat} : okByt h a i n ↔ ∀ k : Nat, k < n → -128 ≤ eI h a (i + (k : Int)) ∧ eI h a (i + (k : Int)) < 128 := by
  constructor
  · intro q k z
    exact of_decide_eq_true (List.all_eq_true.mp q k (List.mem_range.mpr z))
  · intro q
    exact List.all_eq_true.mpr fun k z => decide_eq_true (q k (List.mem_range.mp z))
/-- methods that are taken as one step: System.arraycopy, Arrays.copyOf of objects, exceptions without a message -/
def prim (m : Nat) (args : List PV) (h : PH) : Rs := match m - 900, args with
  | 0, [.inr (.inr (.inl a)), .inl i, .inr (.inr (.inl b)), .inl j, .inl n] => gd ((hc h a = hc h b ∨ kc h a = 72 ∧ hc h b = 71) ∧ (hc h b = 65 ∨ hc h b = 66 ∨ hc h b = 67 ∨ hc h b = 71) ∧ 0 ≤ i ∧ 0 ≤ j ∧ 0 ≤ n ∧ i + n ≤ hl h a ∧ j + n ≤ hl h b ∧ (hc h b = 71 → okAll h a i n.toNat) ∧ (hc h b = 67 → okByt h a i n.toNat)) (some (.inl none, aC h a i b j n))
  | 1, [.inr (.inr (.inl a)), .inl n] => gd ((hc h a = 71 ∨ kc h a = 72) ∧ rmA h n ∧ okAll h a 0 (if n < hl h a then n else hl h a).toNat) (some (.inl (some (vR (hn h))), aC (nA h 71 n) a 0 (hn h) 0 (if n < hl h a then n else hl h a)))
  | _, _ => none
noncomputable def F : Nat → Nat → List PV → PH → Rs
  | 0 => fun _ _ _ => none
  | d + 1 => fun M args h => cond (Nat.ble 900 (M / 262144)) (prim (M / 262144) args h) (cond (Nat.ble (entL args).length (mxM M)) (FA (F d) M 0 (padL (mxM M) (entL args)) [] h) none)
