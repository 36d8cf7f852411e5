/-! A METHOD'S INSTRUCTIONS BY ITS BYTES -/
def o1 (n : Nat) : List Nat → Nat
  | x :: _ => if x = n then 1 else 0
  | [] => 0
def o2 (n a : Nat) : List Nat → Nat
  | x :: y :: _ => if x = n ∧ y = a then 2 else 0
  | _ => 0
def o3 (n a : Nat) : List Nat → Nat
  | x :: y :: z :: _ => if x = n ∧ y * 256 + z = a then 3 else 0
  | _ => 0
def o3s (n : Nat) (a : Int) : List Nat → Nat
  | x :: y :: z :: _ => if x = n ∧ Reader.signed 16 (y * 256 + z) = a then 3 else 0
  | _ => 0
theorem o1_s {n k : Nat} {b : List Nat} (h : o1 n b = k) (hk : k ≠ 0) : ∃ l, b = n :: l ∧ k = 1 := by
  unfold o1 at h
  split at h
  · split at h
    · subst h; rename_i q; subst q; exact ⟨_, rfl, rfl⟩
    · exact absurd h.symm hk
  · exact absurd h.symm hk
theorem o2_s {n a k : Nat} {b : List Nat} (h : o2 n a b = k) (hk : k ≠ 0) : ∃ l, b = n :: a :: l ∧ k = 2 := by
  unfold o2 at h
  split at h
  · split at h
    · subst h; rename_i q; obtain ⟨rfl, rfl⟩ := q; exact ⟨_, rfl, rfl⟩
    · exact absurd h.symm hk
  · exact absurd h.symm hk
theorem o3_s {n a k : Nat} {b : List Nat} (h : o3 n a b = k) (hk : k ≠ 0) : ∃ y z l, b = n :: y :: z :: l ∧ y * 256 + z = a ∧ k = 3 := by
  unfold o3 at h
  split at h
  · split at h
    · subst h; rename_i q; obtain ⟨rfl, rfl⟩ := q; exact ⟨_, _, _, rfl, rfl, rfl⟩
    · exact absurd h.symm hk
  · exact absurd h.symm hk
theorem o3s_s {n k : Nat} {a : Int} {b : List Nat} (h : o3s n a b = k) (hk : k ≠ 0) : ∃ y z l, b = n :: y :: z :: l ∧ Reader.signed 16 (y * 256 + z) = a ∧ k = 3 := by
  unfold o3s at h
  split at h
  · split at h
    · subst h; rename_i q; obtain ⟨rfl, rfl⟩ := q; exact ⟨_, _, _, rfl, rfl, rfl⟩
    · exact absurd h.symm hk
  · exact absurd h.symm hk
def ck (i : Instr) (b : List Nat) : Nat := match i with
  | .aconst_null => o1 1 b
  | .iaload => o1 46 b
  | .laload => o1 47 b
  | .aaload => o1 50 b
  | .baload => o1 51 b
  | .caload => o1 52 b
  | .saload => o1 53 b
  | .iastore => o1 79 b
  | .lastore => o1 80 b
  | .aastore => o1 83 b
  | .bastore => o1 84 b
  | .pop => o1 87 b
  | .dup => o1 89 b
  | .dup_x1 => o1 90 b
  | .dup2 => o1 92 b
  | .iadd => o1 96 b
  | .ladd => o1 97 b
  | .isub => o1 100 b
  | .lsub => o1 101 b
  | .imul => o1 104 b
  | .lmul => o1 105 b
  | .idiv => o1 108 b
  | .ldiv => o1 109 b
  | .irem => o1 112 b
  | .lrem => o1 113 b
  | .ineg => o1 116 b
  | .lneg => o1 117 b
  | .ishl => o1 120 b
  | .lshl => o1 121 b
  | .ishr => o1 122 b
  | .lshr => o1 123 b
  | .iushr => o1 124 b
  | .lushr => o1 125 b
  | .iand => o1 126 b
  | .land => o1 127 b
  | .ior => o1 128 b
  | .lor => o1 129 b
  | .ixor => o1 130 b
  | .lxor => o1 131 b
  | .i2l => o1 133 b
  | .l2i => o1 136 b
  | .i2b => o1 145 b
  | .i2c => o1 146 b
  | .lcmp => o1 148 b
  | .ireturn => o1 172 b
  | .lreturn => o1 173 b
  | .areturn => o1 176 b
  | .return_ => o1 177 b
  | .arraylength => o1 190 b
  | .athrow => o1 191 b
  | .ldc a => o2 18 a b
  | .iload a => o2 21 a b
  | .lload a => o2 22 a b
  | .aload a => o2 25 a b
  | .istore a => o2 54 a b
  | .lstore a => o2 55 a b
  | .astore a => o2 58 a b
  | .ldc_w a => o3 19 a b
  | .ldc2_w a => o3 20 a b
  | .getstatic a => o3 178 a b
  | .getfield a => o3 180 a b
  | .putfield a => o3 181 a b
  | .invokevirtual a => o3 182 a b
  | .invokespecial a => o3 183 a b
  | .invokestatic a => o3 184 a b
  | .new a => o3 187 a b
  | .anewarray a => o3 189 a b
  | .checkcast a => o3 192 a b
  | .instanceof a => o3 193 a b
  | .sipush a => o3s 17 a b
  | .goto a => o3s 167 a b
  | .ifnull a => o3s 198 a b
  | .ifnonnull a => o3s 199 a b
  | .iconst n => if n = -1 then o1 2 b else if n = 0 then o1 3 b else if n = 1 then o1 4 b else if n = 2 then o1 5 b else if n = 3 then o1 6 b else if n = 4 then o1 7 b else if n = 5 then o1 8 b else 0
  | .lconst n => o1 (9 + n.val) b
  | .iload_n n => o1 (26 + n.val) b
  | .lload_n n => o1 (30 + n.val) b
  | .aload_n n => o1 (42 + n.val) b
  | .istore_n n => o1 (59 + n.val) b
  | .lstore_n n => o1 (63 + n.val) b
  | .astore_n n => o1 (75 + n.val) b
  | .bipush a => match b with
    | x :: y :: _ => if x = 16 ∧ Reader.signed 8 y = a then 2 else 0
    | _ => 0
  | .iinc u v => match b with
    | x :: y :: z :: _ => if x = 132 ∧ y = u ∧ Reader.signed 8 z = v then 3 else 0
    | _ => 0
  | .ifCond o a => match o with
    | .eq => o3s 153 a b
    | .ne => o3s 154 a b
    | .lt => o3s 155 a b
    | .ge => o3s 156 a b
    | .gt => o3s 157 a b
    | .le => o3s 158 a b
  | .if_icmp o a => match o with
    | .eq => o3s 159 a b
    | .ne => o3s 160 a b
    | .lt => o3s 161 a b
    | .ge => o3s 162 a b
    | .gt => o3s 163 a b
    | .le => o3s 164 a b
  | .if_acmp o a => match o with
    | .eq => o3s 165 a b
    | .ne => o3s 166 a b
  | .newarray t => match t with
    | .boolean => o2 188 4 b
    | .char => o2 188 5 b
    | .byte => o2 188 8 b
    | .int => o2 188 10 b
    | .long => o2 188 11 b
    | _ => 0
  | _ => 0
set_option maxHeartbeats 4000000 in
theorem ck_s {code : ByteArray} {pc k : Nat} {i : Instr} {b : List Nat} (h : ck i b = k) (hk : k ≠ 0) (hB : BytesAt code pc b) : decode code pc = .ok (i, k) := by
  unfold ck at h
  split at h
  · obtain ⟨l, rfl, rfl⟩ := o1_s h hk; exact dk_1 hB
  · obtain ⟨l, rfl, rfl⟩ := o1_s h hk; exact dk_46 hB
  · obtain ⟨l, rfl, rfl⟩ := o1_s h hk; exact dk_47 hB
  · obtain ⟨l, rfl, rfl⟩ := o1_s h hk; exact dk_50 hB
  · obtain ⟨l, rfl, rfl⟩ := o1_s h hk; exact dk_51 hB
  · obtain ⟨l, rfl, rfl⟩ := o1_s h hk; exact dk_52 hB
  · obtain ⟨l, rfl, rfl⟩ := o1_s h hk; exact dk_53 hB
  · obtain ⟨l, rfl, rfl⟩ := o1_s h hk; exact dk_79 hB
  · obtain ⟨l, rfl, rfl⟩ := o1_s h hk; exact dk_80 hB
  · obtain ⟨l, rfl, rfl⟩ := o1_s h hk; exact dk_83 hB
  · obtain ⟨l, rfl, rfl⟩ := o1_s h hk; exact dk_84 hB
  · obtain ⟨l, rfl, rfl⟩ := o1_s h hk; exact dk_87 hB
  · obtain ⟨l, rfl, rfl⟩ := o1_s h hk; exact dk_89 hB
  · obtain ⟨l, rfl, rfl⟩ := o1_s h hk; exact dk_90 hB
  · obtain ⟨l, rfl, rfl⟩ := o1_s h hk; exact dk_92 hB
  · obtain ⟨l, rfl, rfl⟩ := o1_s h hk; exact dk_96 hB
  · obtain ⟨l, rfl, rfl⟩ := o1_s h hk; exact dk_97 hB
  · obtain ⟨l, rfl, rfl⟩ := o1_s h hk; exact dk_100 hB
  · obtain ⟨l, rfl, rfl⟩ := o1_s h hk; exact dk_101 hB
  · obtain ⟨l, rfl, rfl⟩ := o1_s h hk; exact dk_104 hB
  · obtain ⟨l, rfl, rfl⟩ := o1_s h hk; exact dk_105 hB
  · obtain ⟨l, rfl, rfl⟩ := o1_s h hk; exact dk_108 hB
  · obtain ⟨l, rfl, rfl⟩ := o1_s h hk; exact dk_109 hB
  · obtain ⟨l, rfl, rfl⟩ := o1_s h hk; exact dk_112 hB
  · obtain ⟨l, rfl, rfl⟩ := o1_s h hk; exact dk_113 hB
  · obtain ⟨l, rfl, rfl⟩ := o1_s h hk; exact dk_116 hB
  · obtain ⟨l, rfl, rfl⟩ := o1_s h hk; exact dk_117 hB
  · obtain ⟨l, rfl, rfl⟩ := o1_s h hk; exact dk_120 hB
  · obtain ⟨l, rfl, rfl⟩ := o1_s h hk; exact dk_121 hB
  · obtain ⟨l, rfl, rfl⟩ := o1_s h hk; exact dk_122 hB
  · obtain ⟨l, rfl, rfl⟩ := o1_s h hk; exact dk_123 hB
  · obtain ⟨l, rfl, rfl⟩ := o1_s h hk; exact dk_124 hB
  · obtain ⟨l, rfl, rfl⟩ := o1_s h hk; exact dk_125 hB
  · obtain ⟨l, rfl, rfl⟩ := o1_s h hk; exact dk_126 hB
  · obtain ⟨l, rfl, rfl⟩ := o1_s h hk; exact dk_127 hB
  · obtain ⟨l, rfl, rfl⟩ := o1_s h hk; exact dk_128 hB
  · obtain ⟨l, rfl, rfl⟩ := o1_s h hk; exact dk_129 hB
  · obtain ⟨l, rfl, rfl⟩ := o1_s h hk; exact dk_130 hB
  · obtain ⟨l, rfl, rfl⟩ := o1_s h hk; exact dk_131 hB
  · obtain ⟨l, rfl, rfl⟩ := o1_s h hk; exact dk_133 hB
  · obtain ⟨l, rfl, rfl⟩ := o1_s h hk; exact dk_136 hB
  · obtain ⟨l, rfl, rfl⟩ := o1_s h hk; exact dk_145 hB
  · obtain ⟨l, rfl, rfl⟩ := o1_s h hk; exact dk_146 hB
  · obtain ⟨l, rfl, rfl⟩ := o1_s h hk; exact dk_148 hB
  · obtain ⟨l, rfl, rfl⟩ := o1_s h hk; exact dk_172 hB
  · obtain ⟨l, rfl, rfl⟩ := o1_s h hk; exact dk_173 hB
  · obtain ⟨l, rfl, rfl⟩ := o1_s h hk; exact dk_176 hB
  · obtain ⟨l, rfl, rfl⟩ := o1_s h hk; exact dk_177 hB
  · obtain ⟨l, rfl, rfl⟩ := o1_s h hk; exact dk_190 hB
  · obtain ⟨l, rfl, rfl⟩ := o1_s h hk; exact dk_191 hB
  · obtain ⟨l, rfl, rfl⟩ := o2_s h hk; exact dk_18 hB
  · obtain ⟨l, rfl, rfl⟩ := o2_s h hk; exact dk_21 hB
  · obtain ⟨l, rfl, rfl⟩ := o2_s h hk; exact dk_22 hB
  · obtain ⟨l, rfl, rfl⟩ := o2_s h hk; exact dk_25 hB
  · obtain ⟨l, rfl, rfl⟩ := o2_s h hk; exact dk_54 hB
  · obtain ⟨l, rfl, rfl⟩ := o2_s h hk; exact dk_55 hB
  · obtain ⟨l, rfl, rfl⟩ := o2_s h hk; exact dk_58 hB
  · obtain ⟨y, z, l, rfl, rfl, rfl⟩ := o3_s h hk; exact dk_19 hB
  · obtain ⟨y, z, l, rfl, rfl, rfl⟩ := o3_s h hk; exact dk_20 hB
  · obtain ⟨y, z, l, rfl, rfl, rfl⟩ := o3_s h hk; exact dk_178 hB
  · obtain ⟨y, z, l, rfl, rfl, rfl⟩ := o3_s h hk; exact dk_180 hB
  · obtain ⟨y, z, l, rfl, rfl, rfl⟩ := o3_s h hk; exact dk_181 hB
  · obtain ⟨y, z, l, rfl, rfl, rfl⟩ := o3_s h hk; exact dk_182 hB
  · obtain ⟨y, z, l, rfl, rfl, rfl⟩ := o3_s h hk; exact dk_183 hB
  · obtain ⟨y, z, l, rfl, rfl, rfl⟩ := o3_s h hk; exact dk_184 hB
  · obtain ⟨y, z, l, rfl, rfl, rfl⟩ := o3_s h hk; exact dk_187 hB
  · obtain ⟨y, z, l, rfl, rfl, rfl⟩ := o3_s h hk; exact dk_189 hB
  · obtain ⟨y, z, l, rfl, rfl, rfl⟩ := o3_s h hk; exact dk_192 hB
  · obtain ⟨y, z, l, rfl, rfl, rfl⟩ := o3_s h hk; exact dk_193 hB
  · obtain ⟨y, z, l, rfl, rfl, rfl⟩ := o3s_s h hk; exact dk_17 hB
  · obtain ⟨y, z, l, rfl, rfl, rfl⟩ := o3s_s h hk; exact dk_167 hB
  · obtain ⟨y, z, l, rfl, rfl, rfl⟩ := o3s_s h hk; exact dk_198 hB
  · obtain ⟨y, z, l, rfl, rfl, rfl⟩ := o3s_s h hk; exact dk_199 hB
  · split at h
    · rename_i e; subst e; obtain ⟨l, rfl, rfl⟩ := o1_s h hk; exact dk_2 hB
    split at h
    · rename_i e; subst e; obtain ⟨l, rfl, rfl⟩ := o1_s h hk; exact dk_3 hB
    split at h
    · rename_i e; subst e; obtain ⟨l, rfl, rfl⟩ := o1_s h hk; exact dk_4 hB
    split at h
    · rename_i e; subst e; obtain ⟨l, rfl, rfl⟩ := o1_s h hk; exact dk_5 hB
    split at h
    · rename_i e; subst e; obtain ⟨l, rfl, rfl⟩ := o1_s h hk; exact dk_6 hB
    split at h
    · rename_i e; subst e; obtain ⟨l, rfl, rfl⟩ := o1_s h hk; exact dk_7 hB
    split at h
    · rename_i e; subst e; obtain ⟨l, rfl, rfl⟩ := o1_s h hk; exact dk_8 hB
    · exact absurd h.symm hk
  · rename_i n; obtain ⟨l, rfl, rfl⟩ := o1_s h hk
    match n, hB with
    | 0, hB => exact dk_9 hB
    | 1, hB => exact dk_10 hB
  · rename_i n; obtain ⟨l, rfl, rfl⟩ := o1_s h hk
    match n, hB with
    | 0, hB => exact dk_26 hB
    | 1, hB => exact dk_27 hB
    | 2, hB => exact dk_28 hB
    | 3, hB => exact dk_29 hB
  · rename_i n; obtain ⟨l, rfl, rfl⟩ := o1_s h hk
    match n, hB with
    | 0, hB => exact dk_30 hB
    | 1, hB => exact dk_31 hB
    | 2, hB => exact dk_32 hB
    | 3, hB => exact dk_33 hB
  · rename_i n; obtain ⟨l, rfl, rfl⟩ := o1_s h hk
    match n, hB with
    | 0, hB => exact dk_42 hB
    | 1, hB => exact dk_43 hB
    | 2, hB => exact dk_44 hB
    | 3, hB => exact dk_45 hB
  · rename_i n; obtain ⟨l, rfl, rfl⟩ := o1_s h hk
    match n, hB with
    | 0, hB => exact dk_59 hB
    | 1, hB => exact dk_60 hB
    | 2, hB => exact dk_61 hB
    | 3, hB => exact dk_62 hB
  · rename_i n; obtain ⟨l, rfl, rfl⟩ := o1_s h hk
    match n, hB with
    | 0, hB => exact dk_63 hB
    | 1, hB => exact dk_64 hB
    | 2, hB => exact dk_65 hB
    | 3, hB => exact dk_66 hB
  · rename_i n; obtain ⟨l, rfl, rfl⟩ := o1_s h hk
    match n, hB with
    | 0, hB => exact dk_75 hB
    | 1, hB => exact dk_76 hB
    | 2, hB => exact dk_77 hB
    | 3, hB => exact dk_78 hB
  · split at h
    · split at h
      · rename_i e; obtain ⟨rfl, rfl⟩ := e; subst h; exact dk_16 hB
      · exact absurd h.symm hk
    · exact absurd h.symm hk
  · split at h
    · split at h
      · rename_i e; obtain ⟨rfl, rfl, rfl⟩ := e; subst h; exact dk_132 hB
      · exact absurd h.symm hk
    · exact absurd h.symm hk
  · split at h
    · obtain ⟨y, z, l, rfl, rfl, rfl⟩ := o3s_s h hk; exact dk_153 hB
    · obtain ⟨y, z, l, rfl, rfl, rfl⟩ := o3s_s h hk; exact dk_154 hB
    · obtain ⟨y, z, l, rfl, rfl, rfl⟩ := o3s_s h hk; exact dk_155 hB
    · obtain ⟨y, z, l, rfl, rfl, rfl⟩ := o3s_s h hk; exact dk_156 hB
    · obtain ⟨y, z, l, rfl, rfl, rfl⟩ := o3s_s h hk; exact dk_157 hB
    · obtain ⟨y, z, l, rfl, rfl, rfl⟩ := o3s_s h hk; exact dk_158 hB
  · split at h
    · obtain ⟨y, z, l, rfl, rfl, rfl⟩ := o3s_s h hk; exact dk_159 hB
    · obtain ⟨y, z, l, rfl, rfl, rfl⟩ := o3s_s h hk; exact dk_160 hB
    · obtain ⟨y, z, l, rfl, rfl, rfl⟩ := o3s_s h hk; exact dk_161 hB
    · obtain ⟨y, z, l, rfl, rfl, rfl⟩ := o3s_s h hk; exact dk_162 hB
    · obtain ⟨y, z, l, rfl, rfl, rfl⟩ := o3s_s h hk; exact dk_163 hB
    · obtain ⟨y, z, l, rfl, rfl, rfl⟩ := o3s_s h hk; exact dk_164 hB
  · split at h
    · obtain ⟨y, z, l, rfl, rfl, rfl⟩ := o3s_s h hk; exact dk_165 hB
    · obtain ⟨y, z, l, rfl, rfl, rfl⟩ := o3s_s h hk; exact dk_166 hB
  · split at h
    · obtain ⟨l, rfl, rfl⟩ := o2_s h hk; exact dk_188_4 hB
    · obtain ⟨l, rfl, rfl⟩ := o2_s h hk; exact dk_188_5 hB
    · obtain ⟨l, rfl, rfl⟩ := o2_s h hk; exact dk_188_8 hB
    · obtain ⟨l, rfl, rfl⟩ := o2_s h hk; exact dk_188_10 hB
    · obtain ⟨l, rfl, rfl⟩ := o2_s h hk; exact dk_188_11 hB
    · exact absurd h.symm hk
  · exact absurd h.symm hk
def isCk (i : Instr) : Bool := match i with
  | .tableswitch .. => false
  | .lookupswitch .. => false
  | .invokeinterface .. => false
  | _ => true
/-- a method's rows: pc, instruction, length; what isn't of ck (switches) is passed -/
def ckL : Nat → List (Nat × Instr × Nat) → List Nat → Bool
  | _, [], _ => true
  | pc, (q, i, k) :: l, b => (q == pc) && ((ck i b == k) || !isCk i) && ckL (pc + k) l (b.drop k)
theorem ckL_s {code : ByteArray} : ∀ (l : List (Nat × Instr × Nat)) (pc : Nat) (b : List Nat), ckL pc l b = true → BytesAt code pc b → ∀ (n q k : Nat) (i : Instr), l[n]? = some (q, i, k) → isCk i = true → k ≠ 0 → decode code q = .ok (i, k) := by
  intro l
  induction l with
  | nil => intro pc b _ _ n q k i h; simp at h
  | cons x t ih =>
    obtain ⟨q0, i0, k0⟩ := x
    intro pc b h hB n q k i hn hi hk
    simp only [ckL, Bool.and_eq_true, beq_iff_eq] at h
    obtain ⟨⟨h1, h2⟩, h3⟩ := h
    cases n with
    | zero =>
      simp at hn
      obtain ⟨rfl, rfl, rfl⟩ := hn
      subst h1
      simp only [Bool.or_eq_true, beq_iff_eq, hi] at h2
      rcases h2 with h2 | h2
      · exact ck_s h2 hk hB
      · cases h2
    | succ n => exact ih (pc + k0) (b.drop k0) h3 (hB.drop k0) n q k i (by simpa using hn) hi hk
theorem bytes_of {code : ByteArray} {l : List Nat} (h : code.data.toList.map (fun b => b.toNat) = l) : BytesAt code 0 l := by
  subst h
  intro k n hk
  rw [List.getElem?_map, Array.getElem?_toList] at hk
  cases hq : code.data[k]? with
  | none => rw [hq] at hk; cases hk
  | some b =>
    rw [hq] at hk
    obtain ⟨hlt, he⟩ := Array.getElem?_eq_some_iff.mp hq
    refine ⟨by rw [Nat.zero_add]; exact hlt, ?_⟩
    simp only [Nat.zero_add]
    show code.data[k].toNat = n
    rw [he]
    exact Option.some.inj hk
/-- a method's bytes and its rows -/
def Mth (cc : ByteArray) (l : List (Nat × Instr × Nat)) : Prop := ∀ (n q k : Nat) (i : Instr), l[n]? = some (q, i, k) → isCk i = true → k ≠ 0 → decode cc q = .ok (i, k)
theorem Mth.of {cc : ByteArray} {l : List (Nat × Instr × Nat)} (b : List Nat) (h : cc.data.toList.map (fun b => b.toNat) = b) (hc : ckL 0 l b = true) : Mth cc l := ckL_s l 0 b hc (bytes_of h)
