/-! A METHOD'S BYTES AGAINST ITS RESOLVED ROWS -/
set_option maxRecDepth 100000
abbrev Om : Type := List (List (Nat × Nat))
def inL (Ω : Om) (n idx v : Nat) : Bool := ((nth Ω n).getD []).any fun e => Nat.beq e.1 idx && Nat.beq e.2 v
def inK (κ : List (Nat × Int)) (idx : Nat) (z : Int) : Bool := κ.any fun e => Nat.beq e.1 idx && decide (e.2 = z)
theorem inL_s {Ω : Om} {n idx v : Nat} (h : inL Ω n idx v = true) : (idx, v) ∈ (nth Ω n).getD [] := by
  unfold inL at h
  obtain ⟨e, he, h2⟩ := List.any_eq_true.mp h
  simp only [Bool.and_eq_true, Nat.beq_eq] at h2
  obtain ⟨rfl, rfl⟩ := h2
  exact he
theorem inK_s {κ : List (Nat × Int)} {idx : Nat} {z : Int} (h : inK κ idx z = true) : (idx, z) ∈ κ := by
  unfold inK at h
  obtain ⟨e, he, h2⟩ := List.any_eq_true.mp h
  simp only [Bool.and_eq_true, Nat.beq_eq, decide_eq_true_eq] at h2
  obtain ⟨rfl, rfl⟩ := h2
  exact he
def l3 (op : Nat) (Ω : Om) (n v : Nat) (b : List Nat) : Nat := match b with
  | x :: y :: z :: _ => cond (Nat.beq x op && inL Ω n (y * 256 + z) v) 3 0
  | _ => 0
def l2 (op : Nat) (Ω : Om) (n v : Nat) (b : List Nat) : Nat := match b with
  | x :: y :: _ => cond (Nat.beq x op && inL Ω n y v) 2 0
  | _ => 0
def c3 (op : Nat) (κ : List (Nat × Int)) (v : Int) (b : List Nat) : Nat := match b with
  | x :: y :: z :: _ => cond (Nat.beq x op && inK κ (y * 256 + z) v) 3 0
  | _ => 0
def c2 (op : Nat) (κ : List (Nat × Int)) (v : Int) (b : List Nat) : Nat := match b with
  | x :: y :: _ => cond (Nat.beq x op && inK κ y v) 2 0
  | _ => 0
theorem cond_s {c : Bool} {a k : Nat} (h : cond c a 0 = k) (hk : k ≠ 0) : c = true ∧ a = k := by
  cases c with
  | true => exact ⟨rfl, h⟩
  | false => exact absurd h.symm hk
theorem l3_s {op n v k : Nat} {Ω : Om} {b : List Nat} (h : l3 op Ω n v b = k) (hk : k ≠ 0) : ∃ y z l, b = op :: y :: z :: l ∧ (y * 256 + z, v) ∈ (nth Ω n).getD [] ∧ k = 3 := by
  unfold l3 at h
  split at h
  · obtain ⟨h1, h2⟩ := cond_s h hk
    simp only [Bool.and_eq_true, Nat.beq_eq] at h1
    obtain ⟨rfl, h3⟩ := h1
    exact ⟨_, _, _, rfl, inL_s h3, h2.symm⟩
  · exact absurd h.symm hk
theorem l2_s {op n v k : Nat} {Ω : Om} {b : List Nat} (h : l2 op Ω n v b = k) (hk : k ≠ 0) : ∃ y l, b = op :: y :: l ∧ (y, v) ∈ (nth Ω n).getD [] ∧ k = 2 := by
  unfold l2 at h
  split at h
  · obtain ⟨h1, h2⟩ := cond_s h hk
    simp only [Bool.and_eq_true, Nat.beq_eq] at h1
    obtain ⟨rfl, h3⟩ := h1
    exact ⟨_, _, rfl, inL_s h3, h2.symm⟩
  · exact absurd h.symm hk
theorem c3_s {op k : Nat} {κ : List (Nat × Int)} {v : Int} {b : List Nat} (h : c3 op κ v b = k) (hk : k ≠ 0) : ∃ y z l, b = op :: y :: z :: l ∧ (y * 256 + z, v) ∈ κ ∧ k = 3 := by
  unfold c3 at h
  split at h
  · obtain ⟨h1, h2⟩ := cond_s h hk
    simp only [Bool.and_eq_true, Nat.beq_eq] at h1
    obtain ⟨rfl, h3⟩ := h1
    exact ⟨_, _, _, rfl, inK_s h3, h2.symm⟩
  · exact absurd h.symm hk
theorem c2_s {op k : Nat} {κ : List (Nat × Int)} {v : Int} {b : List Nat} (h : c2 op κ v b = k) (hk : k ≠ 0) : ∃ y l, b = op :: y :: l ∧ (y, v) ∈ κ ∧ k = 2 := by
  unfold c2 at h
  split at h
  · obtain ⟨h1, h2⟩ := cond_s h hk
    simp only [Bool.and_eq_true, Nat.beq_eq] at h1
    obtain ⟨rfl, h3⟩ := h1
    exact ⟨_, _, rfl, inK_s h3, h2.symm⟩
  · exact absurd h.symm hk
/-- the first that isn't 0 -/
def f0 : List Nat → Nat
  | [] => 0
  | 0 :: l => f0 l
  | (n + 1) :: _ => n + 1
theorem f0_s : ∀ {l : List Nat} {k : Nat}, f0 l = k → k ≠ 0 → k ∈ l
  | [], _, h, hk => absurd h.symm hk
  | 0 :: l, _, h, hk => List.mem_cons_of_mem _ (f0_s (l := l) h hk)
  | (n + 1) :: _, _, h, _ => by rw [← h]; exact List.mem_cons_self
def ck4 (mk : Fin 4 → Instr) (x : Nat) (b : List Nat) : Nat := if h : x < 4 then ck (mk ⟨x, h⟩) b else 0
theorem ck4_s {mk : Fin 4 → Instr} {x k : Nat} {b : List Nat} (h : ck4 mk x b = k) (hk : k ≠ 0) : ∃ q : Fin 4, q.val = x ∧ ck (mk q) b = k := by
  unfold ck4 at h
  split at h
  · exact ⟨_, rfl, h⟩
  · exact absurd h.symm hk
def ckR (Ω : Om) (κ μ : List (Nat × Int)) (mx : Nat) (ini : Bool) (pc : Nat) (b : List Nat) (i : Instr) : Nat := match i with
  | .iconst z => cond (decide (-2147483648 ≤ z) && decide (z < 2147483648)) (f0 [ck (.iconst z) b, cond (decide (-128 ≤ z) && decide (z < 128)) (ck (.bipush z) b) 0, cond (decide (-32768 ≤ z) && decide (z < 32768)) (ck (.sipush z) b) 0, c2 18 κ z b, c3 19 κ z b]) 0
  | .sipush z => cond (decide (-9223372036854775808 ≤ z) && decide (z < 9223372036854775808)) (f0 [cond (decide (z = 0)) (o1 9 b) 0, cond (decide (z = 1)) (o1 10 b) 0, c3 20 μ z b]) 0
  | .iload x => cond (Nat.blt x mx) (f0 [ck (.iload x) b, ck4 .iload_n x b]) 0
  | .lload x => cond (Nat.blt x mx) (f0 [ck (.lload x) b, ck4 .lload_n x b]) 0
  | .aload x => cond (Nat.blt x mx) (f0 [ck (.aload x) b, ck4 .aload_n x b]) 0
  | .istore x => cond (Nat.blt x mx) (f0 [ck (.istore x) b, ck4 .istore_n x b]) 0
  | .lstore x => cond (Nat.blt (x + 1) mx) (f0 [ck (.lstore x) b, ck4 .lstore_n x b]) 0
  | .astore x => cond (Nat.blt x mx) (f0 [ck (.astore x) b, ck4 .astore_n x b]) 0
  | .iinc x z => cond (Nat.blt x mx) (ck (.iinc x z) b) 0
  | .pop => o1 87 b
  | .pop2 => l3 183 Ω 13 0 b
  | .goto t => cond (decide (0 ≤ t)) (ck (.goto (t - pc)) b) 0
  | .ifCond o t => cond (decide (0 ≤ t)) (ck (.ifCond o (t - pc)) b) 0
  | .if_icmp o t => cond (decide (0 ≤ t)) (ck (.if_icmp o (t - pc)) b) 0
  | .if_acmp o t => cond (decide (0 ≤ t)) (ck (.if_acmp o (t - pc)) b) 0
  | .ifnull t => cond (decide (0 ≤ t)) (ck (.ifnull (t - pc)) b) 0
  | .ifnonnull t => cond (decide (0 ≤ t)) (ck (.ifnonnull (t - pc)) b) 0
  | .getstatic f => f0 [l3 178 Ω 3 f b, l2 18 Ω 4 f b, l3 19 Ω 4 f b]
  | .getfield f => l3 180 Ω 0 f b
  | .putfield f => f0 [l3 181 Ω 1 f b, cond ini (l3 181 Ω 2 f b) 0]
  | .new t => l3 187 Ω 5 t b
  | .multianewarray t _ => match b with
    | 187 :: y :: z :: 89 :: 183 :: y2 :: z2 :: _ => cond (inL Ω 15 (y * 256 + z) t && inL Ω 16 (y2 * 256 + z2) t) 7 0
    | _ => 0
  | .anewarray t => l3 189 Ω 6 t b
  | .checkcast q => l3 192 Ω 7 q b
  | .instanceof q => l3 193 Ω 8 q b
  | .invokestatic m => l3 184 Ω 9 m b
  | .invokespecial m => l3 183 Ω 10 m b
  | .invokevirtual m => f0 [l3 182 Ω 11 m b, match b with
    | 185 :: y :: z :: 1 :: 0 :: _ => cond (inL Ω 14 (y * 256 + z) m) 5 0
    | _ => 0]
  | .invokeinterface p _ => l3 182 Ω 12 p b
  | .freturn => ck .ireturn b
  | .dreturn => ck .ireturn b
  | .aconst_null => o1 1 b
  | .dup => o1 89 b
  | .dup_x1 => o1 90 b
  | .dup2 => o1 92 b
  | .iadd => o1 96 b
  | .ladd => o1 97 b
  | .isub => o1 100 b
  | .lsub => o1 101 b
  | .imul => o1 104 b
  | .lmul => o1 105 b
  | .idiv => o1 108 b
  | .ldiv => o1 109 b
  | .irem => o1 112 b
  | .lrem => o1 113 b
  | .lneg => o1 117 b
  | .ishl => o1 120 b
  | .lshl => o1 121 b
  | .ishr => o1 122 b
  | .lshr => o1 123 b
  | .iushr => o1 124 b
  | .lushr => o1 125 b
  | .iand => o1 126 b
  | .land => o1 127 b
  | .ior => o1 128 b
  | .lor => o1 129 b
  | .lxor => o1 131 b
  | .i2l => o1 133 b
  | .l2i => o1 136 b
  | .i2b => o1 145 b
  | .i2c => o1 146 b
  | .lcmp => o1 148 b
  | .ireturn => o1 172 b
  | .lreturn => o1 173 b
  | .areturn => o1 176 b
  | .return_ => o1 177 b
  | .arraylength => o1 190 b
  | .athrow => o1 191 b
  | .iaload => o1 46 b
  | .laload => o1 47 b
  | .aaload => o1 50 b
  | .baload => o1 51 b
  | .caload => o1 52 b
  | .iastore => o1 79 b
  | .lastore => o1 80 b
  | .aastore => o1 83 b
  | .bastore => o1 84 b
  | .newarray t => ck (.newarray t) b
  | _ => 0
def isStuck : Instr → Bool
  | .monitorenter => true
  | _ => false
def isSw : Instr → Bool
  | .lookupswitch .. => true
  | _ => false
/-- returns of a method: 0 nothing, 1 int, 2 boolean, 3 char or byte, 4 long, 5 a reference -/
def rok (rc : Nat) : Instr → Bool
  | .ireturn => Nat.beq rc 1
  | .freturn => Nat.beq rc 2
  | .dreturn => Nat.beq rc 3
  | .lreturn => Nat.beq rc 4
  | .areturn => Nat.beq rc 5
  | .return_ => Nat.beq rc 0
  | _ => true
def ckA (Ω : Om) (κ μ : List (Nat × Int)) (mx : Nat) (ini : Bool) (rc : Nat) : Nat → List (Nat × Instr × Nat) → List Nat → Bool
  | _, [], _ => true
  | pc, (q, i, k) :: l, b => Nat.beq q pc && (isStuck i || isSw i || (Nat.beq (ckR Ω κ μ mx ini pc b i) k && Nat.blt 0 k && rok rc i)) && ckA Ω κ μ mx ini rc (pc + k) l (b.drop k)
theorem ckA_s {Ω : Om} {κ μ : List (Nat × Int)} {mx : Nat} {ini : Bool} {rc : Nat} {code : ByteArray} : ∀ (l : List (Nat × Instr × Nat)) (pc : Nat) (b : List Nat), ckA Ω κ μ mx ini rc pc l b = true → BytesAt code pc b → ∀ (q k : Nat) (i : Instr), (q, i, k) ∈ l → isStuck i = false → isSw i = false → ∃ b', BytesAt code q b' ∧ ckR Ω κ μ mx ini q b' i = k ∧ k ≠ 0 ∧ rok rc i = true := by
  intro l
  induction l with
  | nil => intro pc b _ _ q k i h; cases h
  | cons x t ih =>
    obtain ⟨q0, i0, k0⟩ := x
    intro pc b h hB q k i hm h1 h2
    simp only [ckA, Bool.and_eq_true, Bool.or_eq_true, Nat.beq_eq] at h
    obtain ⟨⟨rfl, h4⟩, h5⟩ := h
    rcases List.mem_cons.mp hm with e | e
    · cases e
      rcases h4 with (h4 | h4) | h4
      · rw [h1] at h4; cases h4
      · rw [h2] at h4; cases h4
      · refine ⟨b, hB, h4.1.1, ?_, h4.2⟩
        have := h4.1.2
        simp only [Nat.blt, Nat.ble_eq] at this
        omega
    · exact ih (q0 + k0) (b.drop k0) h5 (hB.drop k0) q k i e h1 h2
theorem lkR_mem : ∀ {l : List (Nat × Instr × Nat)} {pc k : Nat} {i : Instr}, lkR pc l = some (i, k) → (pc, i, k) ∈ l
  | [], _, _, _, h => by cases h
  | (q, j, n) :: l, pc, k, i, h => by
    unfold lkR at h
    cases hq : Nat.beq q pc with
    | true => rw [hq] at h; simp only [cond_true, Option.some.injEq, Prod.mk.injEq] at h; obtain ⟨rfl, rfl⟩ := h; rw [← Nat.beq_eq.mp hq]; exact List.mem_cons_self
    | false => rw [hq] at h; exact List.mem_cons_of_mem _ (lkR_mem h)
theorem nth_mem {α : Type} : ∀ {l : List α} {n : Nat} {x : α}, nth l n = some x → x ∈ l
  | [], _, _, h => by unfold nth at h; cases h
  | y :: _, 0, _, h => by unfold nth at h; cases h; exact List.mem_cons_self
  | _ :: l, n + 1, x, h => by unfold nth at h; exact List.mem_cons_of_mem _ (nth_mem h)
theorem fetch_mem {M pc k : Nat} {i : Instr} (h : fetch M pc = some (i, k)) : (pc, i, k) ∈ (codM (M / 262144)).flatten := by
  unfold fetch at h
  cases hn : nth (codM (M / 262144)) (pc / 64) with
  | none => rw [hn] at h; cases h
  | some l => rw [hn] at h; exact List.mem_flatten.mpr ⟨l, nth_mem hn, lkR_mem h⟩
