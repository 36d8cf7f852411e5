/-! WHAT CODE LEAVES ALONE: fields by number and tag, arrays by tag -/
set_option maxRecDepth 100000
def Frm (W : Nat → Nat → Bool) (A : Nat → Bool) (h h' : PH) : Prop := Le h h' ∧ (∀ r, hn h' ≤ r → hc h' r = hc h r) ∧ ∀ r, r < hn h → (∀ f, W f (hc h r) = false → gI h' f r = gI h f r ∧ gJ h' f r = gJ h f r ∧ gR h' f r = gR h f r) ∧ (A (hc h r) = false → ∀ j, eI h' r j = eI h r j ∧ eJ h' r j = eJ h r j ∧ eR h' r j = eR h r j)
section FRM
variable {W : Nat → Nat → Bool} {A : Nat → Bool} {h h1 h2 h3 : PH}
theorem Frm.rf : Frm W A h h := ⟨Le.rf, fun _ _ => rfl, fun _ _ => ⟨fun _ _ => ⟨rfl, rfl, rfl⟩, fun _ _ => ⟨rfl, rfl, rfl⟩⟩⟩
theorem Frm.tr (a : Frm W A h1 h2) (b : Frm W A h2 h3) : Frm W A h1 h3 := by
  refine ⟨a.1.tr b.1, fun r hr => (b.2.1 r hr).trans (a.2.1 r (Nat.le_trans b.1.1 hr)), fun r hr => ?_⟩
  have e := a.1.2.2.2.1 r hr
  obtain ⟨a1, a2⟩ := a.2.2 r hr
  obtain ⟨b1, b2⟩ := b.2.2 r (Nat.lt_of_lt_of_le hr a.1.1)
  rw [e] at b1 b2
  exact ⟨fun f hf => ⟨(b1 f hf).1.trans (a1 f hf).1, (b1 f hf).2.1.trans (a1 f hf).2.1, (b1 f hf).2.2.trans (a1 f hf).2.2⟩, fun hf j => ⟨(b2 hf j).1.trans (a2 hf j).1, (b2 hf j).2.1.trans (a2 hf j).2.1, (b2 hf j).2.2.trans (a2 hf j).2.2⟩⟩
theorem le_same {h' : PH} (e1 : hc h' = hc h) (e2 : hl h' = hl h) (e3 : hn h' = hn h) (e4 : hs h' = hs h) (e5 : hk h' = hk h) : Le h h' := ⟨Nat.le_of_eq e3.symm, Nat.le_of_eq e4.symm, Nat.le_of_eq e5.symm, fun _ _ => by rw [e1], fun _ _ => by rw [e2]⟩
theorem frm_pI {f r : Nat} {v : Int} (hW : W f (hc h r) = true) : Frm W A h (pI h f r v) := by
  refine ⟨le_same rfl rfl rfl rfl rfl, fun _ _ => rfl, fun q _ => ⟨fun g hg => ⟨?_, rfl, rfl⟩, fun _ _ => ⟨rfl, rfl, rfl⟩⟩⟩
  show up2 (gI h) f r v g q = _
  unfold up2
  rw [if_neg]
  rintro ⟨rfl, rfl⟩
  rw [hW] at hg; cases hg
theorem frm_pJ {f r : Nat} {v : Int} (hW : W f (hc h r) = true) : Frm W A h (pJ h f r v) := by
  refine ⟨le_same rfl rfl rfl rfl rfl, fun _ _ => rfl, fun q _ => ⟨fun g hg => ⟨rfl, ?_, rfl⟩, fun _ _ => ⟨rfl, rfl, rfl⟩⟩⟩
  show up2 (gJ h) f r v g q = _
  unfold up2
  rw [if_neg]
  rintro ⟨rfl, rfl⟩
  rw [hW] at hg; cases hg
theorem frm_pR {f r v : Nat} (hW : W f (hc h r) = true) : Frm W A h (pR h f r v) := by
  refine ⟨le_same rfl rfl rfl rfl rfl, fun _ _ => rfl, fun q _ => ⟨fun g hg => ⟨rfl, rfl, ?_⟩, fun _ _ => ⟨rfl, rfl, rfl⟩⟩⟩
  show up2 (gR h) f r v g q = _
  unfold up2
  rw [if_neg]
  rintro ⟨rfl, rfl⟩
  rw [hW] at hg; cases hg
theorem frm_pRn {f r v : Nat} (a : Frm W A h h1) (hr : hn h ≤ r) : Frm W A h (pR h1 f r v) := by
  refine ⟨a.1.tr (le_same rfl rfl rfl rfl rfl), a.2.1, fun q hq => ⟨fun g hg => ⟨((a.2.2 q hq).1 g hg).1, ((a.2.2 q hq).1 g hg).2.1, ?_⟩, (a.2.2 q hq).2⟩⟩
  show up2 (gR h1) f r v g q = _
  unfold up2
  rw [if_neg (fun z => by omega)]
  exact ((a.2.2 q hq).1 g hg).2.2
theorem frm_qI {r : Nat} {j v : Int} (hA : A (hc h r) = true) : Frm W A h (qI h r j v) := by
  refine ⟨le_same rfl rfl rfl rfl rfl, fun _ _ => rfl, fun q _ => ⟨fun _ _ => ⟨rfl, rfl, rfl⟩, fun hq i => ⟨?_, rfl, rfl⟩⟩⟩
  show ue2 (eI h) r j v q i = _
  unfold ue2
  rw [if_neg]
  rintro ⟨rfl, rfl⟩
  rw [hA] at hq; cases hq
theorem frm_qJ {r : Nat} {j v : Int} (hA : A (hc h r) = true) : Frm W A h (qJ h r j v) := by
  refine ⟨le_same rfl rfl rfl rfl rfl, fun _ _ => rfl, fun q _ => ⟨fun _ _ => ⟨rfl, rfl, rfl⟩, fun hq i => ⟨rfl, ?_, rfl⟩⟩⟩
  show ue2 (eJ h) r j v q i = _
  unfold ue2
  rw [if_neg]
  rintro ⟨rfl, rfl⟩
  rw [hA] at hq; cases hq
theorem frm_qR {r v : Nat} {j : Int} (hA : A (hc h r) = true) : Frm W A h (qR h r j v) := by
  refine ⟨le_same rfl rfl rfl rfl rfl, fun _ _ => rfl, fun q _ => ⟨fun _ _ => ⟨rfl, rfl, rfl⟩, fun hq i => ⟨rfl, rfl, ?_⟩⟩⟩
  show ue2 (eR h) r j v q i = _
  unfold ue2
  rw [if_neg]
  rintro ⟨rfl, rfl⟩
  rw [hA] at hq; cases hq
theorem frm_nO {t n : Nat} : Frm W A h (nO h t n) := by
  refine ⟨Le.nO, fun r hr => if_neg (by have z : hn h + 1 ≤ r := hr; omega), fun q hq => ⟨fun g _ => ⟨?_, ?_, ?_⟩, fun _ _ => ⟨rfl, rfl, rfl⟩⟩⟩
  · exact if_neg (by omega)
  · exact if_neg (by omega)
  · exact if_neg (by omega)
theorem frm_nA {t : Nat} {n : Int} : Frm W A h (nA h t n) := by
  refine ⟨Le.nA, fun r hr => if_neg (by have z : hn h + 1 ≤ r := hr; omega), fun q hq => ⟨fun _ _ => ⟨rfl, rfl, rfl⟩, fun _ j => ⟨?_, ?_, ?_⟩⟩⟩
  · exact if_neg (by omega)
  · exact if_neg (by omega)
  · exact if_neg (by omega)
theorem frm_nE {t n : Nat} : Frm W A h (nE h t n) := frm_pRn (frm_pRn (frm_pRn frm_nO (Nat.le_refl _)) (Nat.le_refl _)) (Nat.le_refl _)
theorem frm_aC {a b : Nat} {i j n : Int} (a1 : Frm W A h h1) (hb : hn h ≤ b ∨ A (hc h b) = true) : Frm W A h (aC h1 a i b j n) := by
  refine ⟨a1.1.tr (le_same rfl rfl rfl rfl rfl), a1.2.1, fun q hq => ⟨(a1.2.2 q hq).1, fun hA y => ?_⟩⟩
  have hne : ¬ (q = b ∧ j ≤ y ∧ y < j + n) := by
    rintro ⟨rfl, -⟩
    rcases hb with z | z
    · omega
    · rw [hA] at z; cases z
  refine ⟨(if_neg hne).trans ((a1.2.2 q hq).2 hA y).1, (if_neg hne).trans ((a1.2.2 q hq).2 hA y).2.1, (if_neg hne).trans ((a1.2.2 q hq).2 hA y).2.2⟩
def TlF (W : Nat → Nat → Bool) (A : Nat → Bool) (h : PH) (f : Kt → Rs) : Prop := (∀ k, f k = none) ∨ (∃ o h1, Frm W A h h1 ∧ ∀ k, f k = some (o, h1)) ∨ ∃ pc ls st h1, Frm W A h h1 ∧ ∀ k : Kt, f k = k pc ls st h1
theorem tf_k {pc : Nat} {ls st : List PV} (a : Frm W A h h1) : TlF W A h (fun k => k pc ls st h1) := Or.inr (Or.inr ⟨pc, ls, st, h1, a, fun _ => rfl⟩)
theorem tf_n : TlF W A h (fun _ => none) := Or.inl fun _ => rfl
theorem tf_s {o : Ot} (a : Frm W A h h1) : TlF W A h (fun _ => some (o, h1)) := Or.inr (Or.inl ⟨o, h1, a, fun _ => rfl⟩)
theorem tf_gd {c : Prop} [Decidable c] {f : Kt → Rs} (a : c → TlF W A h f) : TlF W A h (fun k => gd c (f k)) := by
  by_cases hq : c
  · have e : (fun k => gd c (f k)) = f := funext fun k => if_pos hq
    rw [e]; exact a hq
  · exact Or.inl fun k => if_neg hq
theorem tf_ite {c : Prop} [Decidable c] {f g : Kt → Rs} (a : TlF W A h f) (b : TlF W A h g) : TlF W A h (fun k => if c then f k else g k) := by
  by_cases hq : c
  · simp only [hq, if_true]; exact a
  · simp only [hq, if_false]; exact b
theorem tf_callK {cf : Nat → List PV → PH → Rs} {M pc nx m : Nat} {args ls st : List PV} (hcf : ∀ o h', cf m args h = some (o, h') → Frm W A h h') : TlF W A h (fun k => callK cf k M pc nx m args ls st h) := by
  unfold callK
  cases Nat.ble (stw st) 8 with
  | false => exact tf_n
  | true =>
  simp only [cond_true]
  cases hndL M with
  | nil =>
    unfold bnd
    rcases hq : cf m args h with _ | ⟨v | e, h'⟩
    · exact tf_n
    · exact tf_k (hcf _ _ hq)
    · exact tf_s (hcf _ _ hq)
  | cons x l =>
    unfold bndH
    rcases hq : cf m args h with _ | ⟨v | e, h'⟩
    · exact tf_n
    · exact tf_k (hcf _ _ hq)
    · dsimp only
      cases hndF (x :: l) pc (hc h' e) with
      | none => exact tf_s (hcf _ _ hq)
      | some t => exact tf_k (hcf _ _ hq)
theorem tf_swk {x : Int} {d : Nat} {ls st : List PV} (l : List (Int × Int)) : TlF W A h (fun k => swk k x d ls st h l) := by
  induction l with
  | nil => exact tf_k Frm.rf
  | cons a l ih => exact tf_ite (tf_k Frm.rf) ih
def okI (W : Nat → Nat → Bool) (A : Nat → Bool) (S : Nat → Bool) (i : Instr) : Bool := match i with
  | .putfield f => (List.range (f / 512 % 128 + 1 - f / 4 % 128)).all fun t => W f (f / 4 % 128 + t)
  | .iastore => A 65
  | .lastore => A 66
  | .bastore => A 67 && A 69
  | .aastore => A 71 && (A 73 && (A 74 && A 75))
  | .invokestatic m => S m
  | .invokespecial m => S m
  | .invokevirtual m => S m
  | .invokeinterface p _ => ((nth dspT p).getD []).all fun q => S q.2
  | _ => true
theorem asc_mem {α : Type} : ∀ {l : List (Nat × α)} {n : Nat} {v : α}, asc l n = some v → ∃ k, (k, v) ∈ l
  | [], _, _, e => by cases e
  | (k, w) :: l, n, v, e => by
    unfold asc at e
    cases hb : Nat.beq k n with
    | true =>
      rw [hb] at e
      cases e
      exact ⟨k, List.mem_cons_self⟩
    | false =>
      rw [hb] at e
      obtain ⟨k', hk'⟩ := asc_mem (l := l) e
      exact ⟨k', List.mem_cons_of_mem _ hk'⟩
set_option maxHeartbeats 4000000 in
theorem tf_stI {S : Nat → Bool} (cf : Nat → List PV → PH → Rs) (hcf : ∀ m args o h', S m = true → cf m args h = some (o, h') → Frm W A h h') (M pc nx : Nat) (i : Instr) (hok : okI W A S i = true) (ls st : List PV) : TlF W A h (fun k => stI cf k M pc nx i ls st h) := by
  cases i
  case iload x => dsimp only [stI]; rcases lget ls x with v | ⟨v | ⟨v | v⟩⟩ <;> first | exact tf_k Frm.rf | exact tf_n
  case aload x => dsimp only [stI]; rcases lget ls x with v | ⟨v | ⟨v | v⟩⟩ <;> first | exact tf_k Frm.rf | exact tf_n
  case iinc x z => dsimp only [stI]; rcases lget ls x with v | ⟨v | ⟨v | v⟩⟩ <;> first | exact tf_k Frm.rf | exact tf_n
  case lload x => dsimp only [stI]; rcases lget ls x with v | ⟨v | ⟨v | v⟩⟩ <;> rcases lget ls (x + 1) with w | ⟨w | ⟨w | w⟩⟩ <;> first | exact tf_k Frm.rf | exact tf_n
  case ifCond o t => dsimp only [stI]; rcases st with _ | ⟨v | ⟨v | ⟨v | v⟩⟩, st⟩ <;> first | exact tf_n | (cases o <;> exact tf_ite (tf_k Frm.rf) (tf_k Frm.rf))
  case if_icmp o t => dsimp only [stI]; rcases st with _ | ⟨v | ⟨v | ⟨v | v⟩⟩, _ | ⟨w | ⟨w | ⟨w | w⟩⟩, st⟩⟩ <;> first | exact tf_n | (cases o <;> exact tf_ite (tf_k Frm.rf) (tf_k Frm.rf))
  case if_acmp o t => dsimp only [stI]; rcases st with _ | ⟨v | ⟨v | ⟨v | v⟩⟩, _ | ⟨w | ⟨w | ⟨w | w⟩⟩, st⟩⟩ <;> first | exact tf_n | (cases o <;> exact tf_ite (tf_k Frm.rf) (tf_k Frm.rf))
  case lookupswitch d ps => dsimp only [stI]; rcases st with _ | ⟨v | ⟨v | ⟨v | v⟩⟩, st⟩ <;> first | exact tf_n | exact tf_swk _
  case putfield f =>
    dsimp only [stI]
    have hW : ∀ w, inT (f / 4 % 128) (f / 512 % 128) (hc h w) → W f (hc h w) = true := by
      intro w hg
      have hok : ((List.range (f / 512 % 128 + 1 - f / 4 % 128)).all fun t => W f (f / 4 % 128 + t)) = true := hok
      have h1 := List.all_eq_true.mp hok (hc h w - f / 4 % 128) (List.mem_range.mpr (by have := hg.1; have := hg.2; omega))
      have e : f / 4 % 128 + (hc h w - f / 4 % 128) = hc h w := by have := hg.1; omega
      rw [e] at h1
      exact h1
    rcases st with _ | ⟨v | ⟨v | ⟨v | v⟩⟩, _ | ⟨w | ⟨w | ⟨w | w⟩⟩, st⟩⟩ <;> first | exact tf_n | (refine tf_gd (fun hg => ?_); rcases f % 4 with _ | _ | _ | _ | _ <;> first | exact tf_k (frm_pI (hW _ hg)) | exact tf_k (frm_pJ (hW _ hg)) | exact tf_k (frm_pR (hW _ hg)) | exact tf_n | exact tf_gd (fun _ => tf_k (frm_pI (hW _ hg))))
  case newarray t => dsimp only [stI]; rcases st with _ | ⟨v | ⟨v | ⟨v | v⟩⟩, st⟩ <;> first | exact tf_n | (refine tf_gd (fun _ => ?_); cases t <;> first | exact tf_k frm_nA | exact tf_n)
  case anewarray t => dsimp only [stI]; rcases st with _ | ⟨v | ⟨v | ⟨v | v⟩⟩, st⟩ <;> first | exact tf_n | exact tf_gd (fun _ => tf_k frm_nA)
  case new t => exact tf_gd (fun _ => tf_k frm_nO)
  case multianewarray t z => exact tf_gd (fun _ => tf_k frm_nE)
  case iastore => dsimp only [stI]; rcases st with _ | ⟨v | ⟨v | ⟨v | v⟩⟩, _ | ⟨w | ⟨w | ⟨w | w⟩⟩, _ | ⟨u | ⟨u | ⟨u | u⟩⟩, st⟩⟩⟩ <;> first | exact tf_n | exact tf_gd (fun hg => tf_k (frm_qI (by rw [hg.1]; exact hok)))
  case lastore => dsimp only [stI]; rcases st with _ | ⟨v | ⟨v | ⟨v | v⟩⟩, _ | ⟨w | ⟨w | ⟨w | w⟩⟩, _ | ⟨u | ⟨u | ⟨u | u⟩⟩, st⟩⟩⟩ <;> first | exact tf_n | exact tf_gd (fun hg => tf_k (frm_qJ (by rw [hg.1]; exact hok)))
  case bastore =>
    have hok : (A 67 && A 69) = true := hok
    rw [Bool.and_eq_true] at hok
    dsimp only [stI]; rcases st with _ | ⟨v | ⟨v | ⟨v | v⟩⟩, _ | ⟨w | ⟨w | ⟨w | w⟩⟩, _ | ⟨u | ⟨u | ⟨u | u⟩⟩, st⟩⟩⟩ <;> first | exact tf_n | exact tf_gd (fun hg => tf_k (frm_qI (by rcases hg.1 with z | ⟨z, -⟩ <;> rw [z]; exact hok.1; exact hok.2)))
  case aastore =>
    have hok : (A 71 && (A 73 && (A 74 && A 75))) = true := hok
    simp only [Bool.and_eq_true] at hok
    obtain ⟨k1, k2, k3, k4⟩ := hok
    have hA : ∀ r v, inT 71 75 (hc h r) ∧ hc h r ≠ 72 ∧ okE h (hc h r) v ∧ True → A (hc h r) = true := by
      intro r v hg
      rcases (by have := hg.1.1; have := hg.1.2; have := hg.2.1; omega : hc h r = 71 ∨ hc h r = 73 ∨ hc h r = 74 ∨ hc h r = 75) with z | z | z | z <;> rw [z] <;> assumption
    dsimp only [stI]; rcases st with _ | ⟨v | ⟨v | ⟨v | v⟩⟩, _ | ⟨w | ⟨w | ⟨w | w⟩⟩, _ | ⟨u | ⟨u | ⟨u | u⟩⟩, st⟩⟩⟩ <;> first | exact tf_n | exact tf_gd (fun hg => tf_k (frm_qR (hA _ _ ⟨hg.1, hg.2.1, hg.2.2.1, trivial⟩)))
  case invokestatic m => dsimp only [stI]; rcases popN (m % 16) [] st with _ | ⟨a, st'⟩ <;> first | exact tf_n | exact tf_callK (fun o h' => hcf _ _ o h' hok)
  case invokespecial m => dsimp only [stI]; rcases popN (m % 16) [] st with _ | ⟨_ | ⟨v | ⟨v | ⟨v | v⟩⟩, a⟩, st'⟩ <;> first | exact tf_n | exact tf_gd (fun _ => tf_callK (fun o h' => hcf _ _ o h' hok))
  case invokevirtual m => dsimp only [stI]; rcases popN (m % 16) [] st with _ | ⟨_ | ⟨v | ⟨v | ⟨v | v⟩⟩, a⟩, st'⟩ <;> first | exact tf_n | exact tf_gd (fun _ => tf_callK (fun o h' => hcf _ _ o h' hok))
  case invokeinterface p n =>
    have hS : ∀ t m, dsp p t = some m → S m = true := by
      intro t m e
      unfold dsp at e
      cases hq : nth dspT p with
      | none => rw [hq] at e; cases e
      | some l =>
        rw [hq] at e
        have e : asc l t = some m := e
        obtain ⟨k', hk'⟩ := asc_mem e
        have hok : ((nth dspT p).getD []).all (fun q => S q.2) = true := hok
        rw [hq] at hok
        exact List.all_eq_true.mp hok _ hk'
    dsimp only [stI]; rcases popN n [] st with _ | ⟨_ | ⟨v | ⟨v | ⟨v | v⟩⟩, a⟩, st'⟩ <;> first | exact tf_n | (dsimp only; cases hq : dsp p (hc h v) <;> first | exact tf_n | exact tf_callK (fun o h' => hcf _ _ o h' (hS _ _ hq)))
  case pop2 => dsimp only [stI]; rcases st with _ | ⟨v | ⟨v | ⟨v | v⟩⟩, st⟩ <;> first | exact tf_n | (refine tf_gd (fun _ => ?_); cases Nat.ble (stw st) 8 <;> first | exact tf_k Frm.rf | exact tf_n)
  case athrow => dsimp only [stI]; rcases st with _ | ⟨v | ⟨v | ⟨v | v⟩⟩, st⟩ <;> first | exact tf_n | (refine tf_gd (fun _ => ?_); cases hndF (hndL M) pc (hc h v) <;> first | exact tf_k Frm.rf | exact tf_s Frm.rf)
  case ireturn => dsimp only [stI]; rcases st with _ | ⟨v | ⟨v | ⟨v | v⟩⟩, _ | ⟨w, st⟩⟩ <;> first | exact tf_n | exact tf_s Frm.rf
  case freturn => dsimp only [stI]; rcases st with _ | ⟨v | ⟨v | ⟨v | v⟩⟩, _ | ⟨w, st⟩⟩ <;> first | exact tf_n | exact tf_gd (fun _ => tf_s Frm.rf)
  case dreturn => dsimp only [stI]; rcases st with _ | ⟨v | ⟨v | ⟨v | v⟩⟩, _ | ⟨w, st⟩⟩ <;> first | exact tf_n | exact tf_gd (fun _ => tf_s Frm.rf)
  case lreturn => dsimp only [stI]; rcases st with _ | ⟨v | ⟨v | ⟨v | v⟩⟩, _ | ⟨w, st⟩⟩ <;> first | exact tf_n | exact tf_s Frm.rf
  case areturn => dsimp only [stI]; rcases st with _ | ⟨v | ⟨v | ⟨v | v⟩⟩, _ | ⟨w, st⟩⟩ <;> first | exact tf_n | exact tf_s Frm.rf
  case return_ => dsimp only [stI]; rcases st with _ | ⟨w, st⟩ <;> first | exact tf_n | exact tf_s Frm.rf
  all_goals first
    | exact tf_k Frm.rf
    | exact tf_n
    | exact tf_gd (fun _ => tf_k Frm.rf)
    | (dsimp only [stI]; rcases st with _ | ⟨v | ⟨v | ⟨v | v⟩⟩, st⟩ <;> first | exact tf_k Frm.rf | exact tf_n | exact tf_gd (fun _ => tf_k Frm.rf) | exact tf_ite (tf_k Frm.rf) (tf_k Frm.rf))
    | (dsimp only [stI]; rcases st with _ | ⟨v | ⟨v | ⟨v | v⟩⟩, _ | ⟨w | ⟨w | ⟨w | w⟩⟩, st⟩⟩ <;> first | exact tf_k Frm.rf | exact tf_n | exact tf_gd (fun _ => tf_k Frm.rf))
end FRM
/-- all rows of a method are allowed -/
def okM (W : Nat → Nat → Bool) (A : Nat → Bool) (S : Nat → Bool) (m : Nat) : Bool := (codM m).all fun l => l.all fun q => okI W A S q.2.1
theorem lkR_in : ∀ {l : List (Nat × Instr × Nat)} {pc : Nat} {q : Instr × Nat}, lkR pc l = some q → ∃ p, (p, q.1, q.2) ∈ l
  | [], _, _, e => by cases e
  | (p, i, k) :: l, pc, q, e => by
    unfold lkR at e
    cases hb : Nat.beq p pc with
    | true =>
      rw [hb] at e
      cases e
      exact ⟨p, List.mem_cons_self⟩
    | false =>
      rw [hb] at e
      obtain ⟨p', hp'⟩ := lkR_in (l := l) e
      exact ⟨p', List.mem_cons_of_mem _ hp'⟩
theorem nth_in {α : Type} : ∀ {l : List α} {n : Nat} {x : α}, nth l n = some x → x ∈ l
  | [], _, _, e => by unfold nth at e; cases e
  | _ :: _, 0, _, e => by unfold nth at e; cases e; exact List.mem_cons_self
  | _ :: l, n + 1, _, e => by unfold nth at e; exact List.mem_cons_of_mem _ (nth_in (l := l) e)
theorem fetch_ok {W : Nat → Nat → Bool} {A S : Nat → Bool} {M pc : Nat} {i : Instr} {len : Nat} (h : okM W A S (M / 262144) = true) (hf : fetch M pc = some (i, len)) : okI W A S i = true := by
  unfold fetch at hf
  cases hq : nth (codM (M / 262144)) (pc / 64) with
  | none => rw [hq] at hf; cases hf
  | some l =>
    rw [hq] at hf
    have hf : lkR pc l = some (i, len) := hf
    obtain ⟨p, hp⟩ := lkR_in hf
    exact List.all_eq_true.mp (List.all_eq_true.mp h l (nth_in hq)) _ hp
/-- a closed set of methods writes only what its rows write -/
def FrOK (W : Nat → Nat → Bool) (A S : Nat → Bool) : Prop := (∀ M, S M = true → M / 262144 < 900 → okM W A S (M / 262144) = true) ∧ ((∃ M, S M = true ∧ M / 262144 = 900) → A 65 = true ∧ A 66 = true ∧ A 67 = true ∧ A 71 = true)
theorem F_frm {W : Nat → Nat → Bool} {A S : Nat → Bool} (hO : FrOK W A S) : ∀ (d M : Nat) (av : List PV) (h : PH) (o : Ot) (h' : PH), S M = true → F d M av h = some (o, h') → Frm W A h h' := by
  intro d
  induction d with
  | zero => intro M av h o h' _ hF; cases hF
  | succ d ih =>
    intro M av h o h' hS hF
    have hF : cond (Nat.ble 900 (M / 262144)) (prim (M / 262144) av h) (cond (Nat.ble (entL av).length (mxM M)) (FA (F d) M 0 (padL (mxM M) (entL av)) [] h) none) = some (o, h') := hF
    cases hb : Nat.ble 900 (M / 262144) with
    | true =>
      rw [hb] at hF
      have hp : prim (M / 262144) av h = some (o, h') := hF
      clear hF
      unfold prim at hp
      split at hp
      · obtain ⟨hg, e⟩ := gd_some hp
        cases e
        have e9 : M / 262144 = 900 := by have := Nat.ble_eq.mp hb; have : M / 262144 - 900 = 0 := by assumption
                                         omega
        obtain ⟨k1, k2, k3, k4⟩ := hO.2 ⟨M, hS, e9⟩
        refine frm_aC Frm.rf (Or.inr ?_)
        rcases hg.2.1 with z | z | z | z <;> rw [z] <;> assumption
      · obtain ⟨hg, e⟩ := gd_some hp
        cases e
        exact frm_aC frm_nA (Or.inl (Nat.le_refl _))
      · cases hp
    | false =>
      rw [hb] at hF
      cases hq : Nat.ble (entL av).length (mxM M) with
      | false => rw [hq] at hF; cases hF
      | true =>
        rw [hq] at hF
        have hF2 : FA (F d) M 0 (padL (mxM M) (entL av)) [] h = some (o, h') := hF
        obtain ⟨n, hn0⟩ := FA_iff.mp hF2
        have hlt : M / 262144 < 900 := by
          rcases Nat.lt_or_ge (M / 262144) 900 with z | z
          · exact z
          · rw [Nat.ble_eq.mpr z] at hb; cases hb
        have hM := hO.1 M hS hlt
        have key : ∀ (n pc : Nat) (ls st : List PV) (g : PH), exN (F d) M n pc ls st g = some (o, h') → Frm W A g h' := by
          intro n
          induction n with
          | zero => intro pc ls st g e; cases e
          | succ n ihn =>
            intro pc ls st g e
            have e : st1 (F d) (exN (F d) M n) M pc ls st g = some (o, h') := e
            unfold st1 at e
            cases hfe : fetch M pc with
            | none => rw [hfe] at e; cases e
            | some q =>
              obtain ⟨i, len⟩ := q
              rw [hfe] at e
              have e : stI (F d) (exN (F d) M n) M pc (pc + len) i ls st g = some (o, h') := e
              rcases tf_stI (W := W) (A := A) (S := S) (h := g) (F d) (fun m args o1 h1 hm hc1 => ih m args g o1 h1 hm hc1) M pc (pc + len) i (fetch_ok hM hfe) ls st with z | ⟨o1, h1, z1, z2⟩ | ⟨pc1, ls1, st1, h1, z1, z2⟩
              · cases e.symm.trans (z (exN (F d) M n))
              · cases e.symm.trans (z2 (exN (F d) M n)); exact z1
              · exact z1.tr (ihn _ _ _ _ ((z2 (exN (F d) M n)).symm.trans e))
        exact key n _ _ _ _ hn0
/-- all code: nothing is lost -/
theorem F_all {d M : Nat} {av : List PV} {h h' : PH} {o : Ot} (hF : F d M av h = some (o, h')) : Frm (fun _ _ => true) (fun _ => true) h h' := by
  refine F_frm (S := fun _ => true) ⟨fun M _ _ => ?_, fun _ => ⟨rfl, rfl, rfl, rfl⟩⟩ d M av h o h' rfl hF
  refine List.all_eq_true.mpr fun l _ => List.all_eq_true.mpr fun q _ => ?_
  have : ∀ i : Instr, okI (fun _ _ => true) (fun _ => true) (fun _ => true) i = true := by
    intro i
    cases i <;> first | rfl | (simp [okI])
  exact this _
theorem F_le {d M : Nat} {av : List PV} {h h' : PH} {o : Ot} (hF : F d M av h = some (o, h')) : Le h h' := (F_all hF).1
