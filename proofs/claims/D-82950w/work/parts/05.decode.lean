/-! DECODING BY THE EXPECTED INSTRUCTION: a row an opcode, once; a method's list of instructions is then looked at by its bytes alone. -/
set_option maxRecDepth 100000
theorem u1_run {code : ByteArray} {pc n : Nat} (h : pc < code.size) (hb : code[pc].toNat = n) : (Reader.u1 : Decoder Nat).runAt code pc = .ok (n, pc + 1) := by
  have e : (Reader.u1 : Decoder Nat).runAt code pc = (if h : pc < code.size then (do set (pc + 1); Pure.pure code[pc].toNat : Decoder Nat) else throw (HasTruncated.truncated pc)).runAt code pc := rfl
  rw [e, dif_pos h, ← hb]
  rfl
theorem dk_bind {α β : Type} {x : Decoder α} {f : α → Decoder β} {code : ByteArray} {p q : Nat} {a : α} (h : x.runAt code p = .ok (a, q)) : (x >>= f).runAt code p = (f a).runAt code q := by
  unfold Reader.runAt at h ⊢
  show Except.bind ((ReaderT.run x code).run p) _ = _
  rw [h]
  rfl
theorem u2_run {code : ByteArray} {pc a b : Nat} (h : pc < code.size) (hb : code[pc].toNat = a) (h1 : pc + 1 < code.size) (hb1 : code[pc + 1].toNat = b) : (Reader.u2 : Decoder Nat).runAt code pc = .ok (a * 256 + b, pc + 2) := by
  unfold Reader.u2
  rw [dk_bind (u1_run h hb), dk_bind (u1_run h1 hb1)]
  rfl
theorem s1_run {code : ByteArray} {pc a : Nat} (h : pc < code.size) (hb : code[pc].toNat = a) : (Reader.s1 : Decoder Int).runAt code pc = .ok (Reader.signed 8 a, pc + 1) := by
  show ((Reader.u1 : Decoder Nat) >>= fun x => Pure.pure (Reader.signed 8 x)).runAt code pc = _
  rw [dk_bind (u1_run h hb)]
  rfl
theorem s2_run {code : ByteArray} {pc a b : Nat} (h : pc < code.size) (hb : code[pc].toNat = a) (h1 : pc + 1 < code.size) (hb1 : code[pc + 1].toNat = b) : (Reader.s2 : Decoder Int).runAt code pc = .ok (Reader.signed 16 (a * 256 + b), pc + 2) := by
  show ((Reader.u2 : Decoder Nat) >>= fun x => Pure.pure (Reader.signed 16 x)).runAt code pc = _
  rw [dk_bind (u2_run h hb h1 hb1)]
  rfl
theorem dk_dec {code : ByteArray} {pc k : Nat} {i : Instr} (h : (Decoder.instr pc).runAt code pc = .ok (i, pc + k)) : decode code pc = .ok (i, k) := by
  unfold decode
  rw [h]
  show Except.ok (i, pc + k - pc) = _
  rw [Nat.add_sub_cancel_left]
/-- the bytes of a method from a place on, as numbers -/
def BytesAt (code : ByteArray) (pc : Nat) (l : List Nat) : Prop := ∀ k n, l[k]? = some n → ∃ h : pc + k < code.size, code[pc + k].toNat = n
theorem BytesAt.one {code : ByteArray} {pc n : Nat} {l : List Nat} (h : BytesAt code pc (n :: l)) : ∃ h : pc < code.size, code[pc].toNat = n := h 0 n rfl
theorem BytesAt.tail {code : ByteArray} {pc n : Nat} {l : List Nat} (h : BytesAt code pc (n :: l)) : BytesAt code (pc + 1) l := by
  intro k m hk
  obtain ⟨h1, h2⟩ := h (k + 1) m hk
  have e : pc + 1 + k = pc + (k + 1) := by omega
  exact ⟨by omega, by simp only [e]; exact h2⟩
theorem BytesAt.drop {code : ByteArray} {pc : Nat} (j : Nat) {l : List Nat} (h : BytesAt code pc l) : BytesAt code (pc + j) (l.drop j) := by
  intro k m hk
  rw [List.getElem?_drop] at hk
  obtain ⟨h1, h2⟩ := h (j + k) m hk
  have e : pc + j + k = pc + (j + k) := by omega
  exact ⟨by omega, by simp only [e]; exact h2⟩

theorem dk_1 {code : ByteArray} {pc : Nat} {l : List Nat} (h : BytesAt code pc (1 :: l)) : decode code pc = .ok (.aconst_null, 1) := by
  obtain ⟨h0, hb⟩ := h.one
  exact dk_dec (by unfold Decoder.instr; rw [dk_bind (u1_run h0 hb)]; rfl)
theorem dk_2 {code : ByteArray} {pc : Nat} {l : List Nat} (h : BytesAt code pc (2 :: l)) : decode code pc = .ok (.iconst (-1), 1) := by
  obtain ⟨h0, hb⟩ := h.one
  exact dk_dec (by unfold Decoder.instr; rw [dk_bind (u1_run h0 hb)]; rfl)
theorem dk_3 {code : ByteArray} {pc : Nat} {l : List Nat} (h : BytesAt code pc (3 :: l)) : decode code pc = .ok (.iconst 0, 1) := by
  obtain ⟨h0, hb⟩ := h.one
  exact dk_dec (by unfold Decoder.instr; rw [dk_bind (u1_run h0 hb)]; rfl)
theorem dk_4 {code : ByteArray} {pc : Nat} {l : List Nat} (h : BytesAt code pc (4 :: l)) : decode code pc = .ok (.iconst 1, 1) := by
  obtain ⟨h0, hb⟩ := h.one
  exact dk_dec (by unfold Decoder.instr; rw [dk_bind (u1_run h0 hb)]; rfl)
theorem dk_5 {code : ByteArray} {pc : Nat} {l : List Nat} (h : BytesAt code pc (5 :: l)) : decode code pc = .ok (.iconst 2, 1) := by
  obtain ⟨h0, hb⟩ := h.one
  exact dk_dec (by unfold Decoder.instr; rw [dk_bind (u1_run h0 hb)]; rfl)
theorem dk_6 {code : ByteArray} {pc : Nat} {l : List Nat} (h : BytesAt code pc (6 :: l)) : decode code pc = .ok (.iconst 3, 1) := by
  obtain ⟨h0, hb⟩ := h.one
  exact dk_dec (by unfold Decoder.instr; rw [dk_bind (u1_run h0 hb)]; rfl)
theorem dk_7 {code : ByteArray} {pc : Nat} {l : List Nat} (h : BytesAt code pc (7 :: l)) : decode code pc = .ok (.iconst 4, 1) := by
  obtain ⟨h0, hb⟩ := h.one
  exact dk_dec (by unfold Decoder.instr; rw [dk_bind (u1_run h0 hb)]; rfl)
theorem dk_8 {code : ByteArray} {pc : Nat} {l : List Nat} (h : BytesAt code pc (8 :: l)) : decode code pc = .ok (.iconst 5, 1) := by
  obtain ⟨h0, hb⟩ := h.one
  exact dk_dec (by unfold Decoder.instr; rw [dk_bind (u1_run h0 hb)]; rfl)
theorem dk_9 {code : ByteArray} {pc : Nat} {l : List Nat} (h : BytesAt code pc (9 :: l)) : decode code pc = .ok (.lconst 0, 1) := by
  obtain ⟨h0, hb⟩ := h.one
  exact dk_dec (by unfold Decoder.instr; rw [dk_bind (u1_run h0 hb)]; rfl)
theorem dk_10 {code : ByteArray} {pc : Nat} {l : List Nat} (h : BytesAt code pc (10 :: l)) : decode code pc = .ok (.lconst 1, 1) := by
  obtain ⟨h0, hb⟩ := h.one
  exact dk_dec (by unfold Decoder.instr; rw [dk_bind (u1_run h0 hb)]; rfl)
theorem dk_26 {code : ByteArray} {pc : Nat} {l : List Nat} (h : BytesAt code pc (26 :: l)) : decode code pc = .ok (.iload_n 0, 1) := by
  obtain ⟨h0, hb⟩ := h.one
  exact dk_dec (by unfold Decoder.instr; rw [dk_bind (u1_run h0 hb)]; rfl)
theorem dk_27 {code : ByteArray} {pc : Nat} {l : List Nat} (h : BytesAt code pc (27 :: l)) : decode code pc = .ok (.iload_n 1, 1) := by
  obtain ⟨h0, hb⟩ := h.one
  exact dk_dec (by unfold Decoder.instr; rw [dk_bind (u1_run h0 hb)]; rfl)
theorem dk_28 {code : ByteArray} {pc : Nat} {l : List Nat} (h : BytesAt code pc (28 :: l)) : decode code pc = .ok (.iload_n 2, 1) := by
  obtain ⟨h0, hb⟩ := h.one
  exact dk_dec (by unfold Decoder.instr; rw [dk_bind (u1_run h0 hb)]; rfl)
theorem dk_29 {code : ByteArray} {pc : Nat} {l : List Nat} (h : BytesAt code pc (29 :: l)) : decode code pc = .ok (.iload_n 3, 1) := by
  obtain ⟨h0, hb⟩ := h.one
  exact dk_dec (by unfold Decoder.instr; rw [dk_bind (u1_run h0 hb)]; rfl)
theorem dk_30 {code : ByteArray} {pc : Nat} {l : List Nat} (h : BytesAt code pc (30 :: l)) : decode code pc = .ok (.lload_n 0, 1) := by
  obtain ⟨h0, hb⟩ := h.one
  exact dk_dec (by unfold Decoder.instr; rw [dk_bind (u1_run h0 hb)]; rfl)
theorem dk_31 {code : ByteArray} {pc : Nat} {l : List Nat} (h : BytesAt code pc (31 :: l)) : decode code pc = .ok (.lload_n 1, 1) := by
  obtain ⟨h0, hb⟩ := h.one
  exact dk_dec (by unfold Decoder.instr; rw [dk_bind (u1_run h0 hb)]; rfl)
theorem dk_32 {code : ByteArray} {pc : Nat} {l : List Nat} (h : BytesAt code pc (32 :: l)) : decode code pc = .ok (.lload_n 2, 1) := by
  obtain ⟨h0, hb⟩ := h.one
  exact dk_dec (by unfold Decoder.instr; rw [dk_bind (u1_run h0 hb)]; rfl)
theorem dk_33 {code : ByteArray} {pc : Nat} {l : List Nat} (h : BytesAt code pc (33 :: l)) : decode code pc = .ok (.lload_n 3, 1) := by
  obtain ⟨h0, hb⟩ := h.one
  exact dk_dec (by unfold Decoder.instr; rw [dk_bind (u1_run h0 hb)]; rfl)
theorem dk_42 {code : ByteArray} {pc : Nat} {l : List Nat} (h : BytesAt code pc (42 :: l)) : decode code pc = .ok (.aload_n 0, 1) := by
  obtain ⟨h0, hb⟩ := h.one
  exact dk_dec (by unfold Decoder.instr; rw [dk_bind (u1_run h0 hb)]; rfl)
theorem dk_43 {code : ByteArray} {pc : Nat} {l : List Nat} (h : BytesAt code pc (43 :: l)) : decode code pc = .ok (.aload_n 1, 1) := by
  obtain ⟨h0, hb⟩ := h.one
  exact dk_dec (by unfold Decoder.instr; rw [dk_bind (u1_run h0 hb)]; rfl)
theorem dk_44 {code : ByteArray} {pc : Nat} {l : List Nat} (h : BytesAt code pc (44 :: l)) : decode code pc = .ok (.aload_n 2, 1) := by
  obtain ⟨h0, hb⟩ := h.one
  exact dk_dec (by unfold Decoder.instr; rw [dk_bind (u1_run h0 hb)]; rfl)
theorem dk_45 {code : ByteArray} {pc : Nat} {l : List Nat} (h : BytesAt code pc (45 :: l)) : decode code pc = .ok (.aload_n 3, 1) := by
  obtain ⟨h0, hb⟩ := h.one
  exact dk_dec (by unfold Decoder.instr; rw [dk_bind (u1_run h0 hb)]; rfl)
theorem dk_46 {code : ByteArray} {pc : Nat} {l : List Nat} (h : BytesAt code pc (46 :: l)) : decode code pc = .ok (.iaload, 1) := by
  obtain ⟨h0, hb⟩ := h.one
  exact dk_dec (by unfold Decoder.instr; rw [dk_bind (u1_run h0 hb)]; rfl)
theorem dk_47 {code : ByteArray} {pc : Nat} {l : List Nat} (h : BytesAt code pc (47 :: l)) : decode code pc = .ok (.laload, 1) := by
  obtain ⟨h0, hb⟩ := h.one
  exact dk_dec (by unfold Decoder.instr; rw [dk_bind (u1_run h0 hb)]; rfl)
theorem dk_50 {code : ByteArray} {pc : Nat} {l : List Nat} (h : BytesAt code pc (50 :: l)) : decode code pc = .ok (.aaload, 1) := by
  obtain ⟨h0, hb⟩ := h.one
  exact dk_dec (by unfold Decoder.instr; rw [dk_bind (u1_run h0 hb)]; rfl)
theorem dk_51 {code : ByteArray} {pc : Nat} {l : List Nat} (h : BytesAt code pc (51 :: l)) : decode code pc = .ok (.baload, 1) := by
  obtain ⟨h0, hb⟩ := h.one
  exact dk_dec (by unfold Decoder.instr; rw [dk_bind (u1_run h0 hb)]; rfl)
theorem dk_52 {code : ByteArray} {pc : Nat} {l : List Nat} (h : BytesAt code pc (52 :: l)) : decode code pc = .ok (.caload, 1) := by
  obtain ⟨h0, hb⟩ := h.one
  exact dk_dec (by unfold Decoder.instr; rw [dk_bind (u1_run h0 hb)]; rfl)
theorem dk_53 {code : ByteArray} {pc : Nat} {l : List Nat} (h : BytesAt code pc (53 :: l)) : decode code pc = .ok (.saload, 1) := by
  obtain ⟨h0, hb⟩ := h.one
  exact dk_dec (by unfold Decoder.instr; rw [dk_bind (u1_run h0 hb)]; rfl)
theorem dk_59 {code : ByteArray} {pc : Nat} {l : List Nat} (h : BytesAt code pc (59 :: l)) : decode code pc = .ok (.istore_n 0, 1) := by
  obtain ⟨h0, hb⟩ := h.one
  exact dk_dec (by unfold Decoder.instr; rw [dk_bind (u1_run h0 hb)]; rfl)
theorem dk_60 {code : ByteArray} {pc : Nat} {l : List Nat} (h : BytesAt code pc (60 :: l)) : decode code pc = .ok (.istore_n 1, 1) := by
  obtain ⟨h0, hb⟩ := h.one
  exact dk_dec (by unfold Decoder.instr; rw [dk_bind (u1_run h0 hb)]; rfl)
theorem dk_61 {code : ByteArray} {pc : Nat} {l : List Nat} (h : BytesAt code pc (61 :: l)) : decode code pc = .ok (.istore_n 2, 1) := by
  obtain ⟨h0, hb⟩ := h.one
  exact dk_dec (by unfold Decoder.instr; rw [dk_bind (u1_run h0 hb)]; rfl)
theorem dk_62 {code : ByteArray} {pc : Nat} {l : List Nat} (h : BytesAt code pc (62 :: l)) : decode code pc = .ok (.istore_n 3, 1) := by
  obtain ⟨h0, hb⟩ := h.one
  exact dk_dec (by unfold Decoder.instr; rw [dk_bind (u1_run h0 hb)]; rfl)
theorem dk_63 {code : ByteArray} {pc : Nat} {l : List Nat} (h : BytesAt code pc (63 :: l)) : decode code pc = .ok (.lstore_n 0, 1) := by
  obtain ⟨h0, hb⟩ := h.one
  exact dk_dec (by unfold Decoder.instr; rw [dk_bind (u1_run h0 hb)]; rfl)
theorem dk_64 {code : ByteArray} {pc : Nat} {l : List Nat} (h : BytesAt code pc (64 :: l)) : decode code pc = .ok (.lstore_n 1, 1) := by
  obtain ⟨h0, hb⟩ := h.one
  exact dk_dec (by unfold Decoder.instr; rw [dk_bind (u1_run h0 hb)]; rfl)
theorem dk_65 {code : ByteArray} {pc : Nat} {l : List Nat} (h : BytesAt code pc (65 :: l)) : decode code pc = .ok (.lstore_n 2, 1) := by
  obtain ⟨h0, hb⟩ := h.one
  exact dk_dec (by unfold Decoder.instr; rw [dk_bind (u1_run h0 hb)]; rfl)
theorem dk_66 {code : ByteArray} {pc : Nat} {l : List Nat} (h : BytesAt code pc (66 :: l)) : decode code pc = .ok (.lstore_n 3, 1) := by
  obtain ⟨h0, hb⟩ := h.one
  exact dk_dec (by unfold Decoder.instr; rw [dk_bind (u1_run h0 hb)]; rfl)
theorem dk_75 {code : ByteArray} {pc : Nat} {l : List Nat} (h : BytesAt code pc (75 :: l)) : decode code pc = .ok (.astore_n 0, 1) := by
  obtain ⟨h0, hb⟩ := h.one
  exact dk_dec (by unfold Decoder.instr; rw [dk_bind (u1_run h0 hb)]; rfl)
theorem dk_76 {code : ByteArray} {pc : Nat} {l : List Nat} (h : BytesAt code pc (76 :: l)) : decode code pc = .ok (.astore_n 1, 1) := by
  obtain ⟨h0, hb⟩ := h.one
  exact dk_dec (by unfold Decoder.instr; rw [dk_bind (u1_run h0 hb)]; rfl)
theorem dk_77 {code : ByteArray} {pc : Nat} {l : List Nat} (h : BytesAt code pc (77 :: l)) : decode code pc = .ok (.astore_n 2, 1) := by
  obtain ⟨h0, hb⟩ := h.one
  exact dk_dec (by unfold Decoder.instr; rw [dk_bind (u1_run h0 hb)]; rfl)
theorem dk_78 {code : ByteArray} {pc : Nat} {l : List Nat} (h : BytesAt code pc (78 :: l)) : decode code pc = .ok (.astore_n 3, 1) := by
  obtain ⟨h0, hb⟩ := h.one
  exact dk_dec (by unfold Decoder.instr; rw [dk_bind (u1_run h0 hb)]; rfl)
theorem dk_79 {code : ByteArray} {pc : Nat} {l : List Nat} (h : BytesAt code pc (79 :: l)) : decode code pc = .ok (.iastore, 1) := by
  obtain ⟨h0, hb⟩ := h.one
  exact dk_dec (by unfold Decoder.instr; rw [dk_bind (u1_run h0 hb)]; rfl)
theorem dk_80 {code : ByteArray} {pc : Nat} {l : List Nat} (h : BytesAt code pc (80 :: l)) : decode code pc = .ok (.lastore, 1) := by
  obtain ⟨h0, hb⟩ := h.one
  exact dk_dec (by unfold Decoder.instr; rw [dk_bind (u1_run h0 hb)]; rfl)
theorem dk_83 {code : ByteArray} {pc : Nat} {l : List Nat} (h : BytesAt code pc (83 :: l)) : decode code pc = .ok (.aastore, 1) := by
  obtain ⟨h0, hb⟩ := h.one
  exact dk_dec (by unfold Decoder.instr; rw [dk_bind (u1_run h0 hb)]; rfl)
theorem dk_84 {code : ByteArray} {pc : Nat} {l : List Nat} (h : BytesAt code pc (84 :: l)) : decode code pc = .ok (.bastore, 1) := by
  obtain ⟨h0, hb⟩ := h.one
  exact dk_dec (by unfold Decoder.instr; rw [dk_bind (u1_run h0 hb)]; rfl)
theorem dk_87 {code : ByteArray} {pc : Nat} {l : List Nat} (h : BytesAt code pc (87 :: l)) : decode code pc = .ok (.pop, 1) := by
  obtain ⟨h0, hb⟩ := h.one
  exact dk_dec (by unfold Decoder.instr; rw [dk_bind (u1_run h0 hb)]; rfl)
theorem dk_89 {code : ByteArray} {pc : Nat} {l : List Nat} (h : BytesAt code pc (89 :: l)) : decode code pc = .ok (.dup, 1) := by
  obtain ⟨h0, hb⟩ := h.one
  exact dk_dec (by unfold Decoder.instr; rw [dk_bind (u1_run h0 hb)]; rfl)
theorem dk_90 {code : ByteArray} {pc : Nat} {l : List Nat} (h : BytesAt code pc (90 :: l)) : decode code pc = .ok (.dup_x1, 1) := by
  obtain ⟨h0, hb⟩ := h.one
  exact dk_dec (by unfold Decoder.instr; rw [dk_bind (u1_run h0 hb)]; rfl)
theorem dk_92 {code : ByteArray} {pc : Nat} {l : List Nat} (h : BytesAt code pc (92 :: l)) : decode code pc = .ok (.dup2, 1) := by
  obtain ⟨h0, hb⟩ := h.one
  exact dk_dec (by unfold Decoder.instr; rw [dk_bind (u1_run h0 hb)]; rfl)
theorem dk_96 {code : ByteArray} {pc : Nat} {l : List Nat} (h : BytesAt code pc (96 :: l)) : decode code pc = .ok (.iadd, 1) := by
  obtain ⟨h0, hb⟩ := h.one
  exact dk_dec (by unfold Decoder.instr; rw [dk_bind (u1_run h0 hb)]; rfl)
theorem dk_97 {code : ByteArray} {pc : Nat} {l : List Nat} (h : BytesAt code pc (97 :: l)) : decode code pc = .ok (.ladd, 1) := by
  obtain ⟨h0, hb⟩ := h.one
  exact dk_dec (by unfold Decoder.instr; rw [dk_bind (u1_run h0 hb)]; rfl)
theorem dk_100 {code : ByteArray} {pc : Nat} {l : List Nat} (h : BytesAt code pc (100 :: l)) : decode code pc = .ok (.isub, 1) := by
  obtain ⟨h0, hb⟩ := h.one
  exact dk_dec (by unfold Decoder.instr; rw [dk_bind (u1_run h0 hb)]; rfl)
theorem dk_101 {code : ByteArray} {pc : Nat} {l : List Nat} (h : BytesAt code pc (101 :: l)) : decode code pc = .ok (.lsub, 1) := by
  obtain ⟨h0, hb⟩ := h.one
  exact dk_dec (by unfold Decoder.instr; rw [dk_bind (u1_run h0 hb)]; rfl)
theorem dk_104 {code : ByteArray} {pc : Nat} {l : List Nat} (h : BytesAt code pc (104 :: l)) : decode code pc = .ok (.imul, 1) := by
  obtain ⟨h0, hb⟩ := h.one
  exact dk_dec (by unfold Decoder.instr; rw [dk_bind (u1_run h0 hb)]; rfl)
theorem dk_105 {code : ByteArray} {pc : Nat} {l : List Nat} (h : BytesAt code pc (105 :: l)) : decode code pc = .ok (.lmul, 1) := by
  obtain ⟨h0, hb⟩ := h.one
  exact dk_dec (by unfold Decoder.instr; rw [dk_bind (u1_run h0 hb)]; rfl)
theorem dk_108 {code : ByteArray} {pc : Nat} {l : List Nat} (h : BytesAt code pc (108 :: l)) : decode code pc = .ok (.idiv, 1) := by
  obtain ⟨h0, hb⟩ := h.one
  exact dk_dec (by unfold Decoder.instr; rw [dk_bind (u1_run h0 hb)]; rfl)
theorem dk_109 {code : ByteArray} {pc : Nat} {l : List Nat} (h : BytesAt code pc (109 :: l)) : decode code pc = .ok (.ldiv, 1) := by
  obtain ⟨h0, hb⟩ := h.one
  exact dk_dec (by unfold Decoder.instr; rw [dk_bind (u1_run h0 hb)]; rfl)
theorem dk_112 {code : ByteArray} {pc : Nat} {l : List Nat} (h : BytesAt code pc (112 :: l)) : decode code pc = .ok (.irem, 1) := by
  obtain ⟨h0, hb⟩ := h.one
  exact dk_dec (by unfold Decoder.instr; rw [dk_bind (u1_run h0 hb)]; rfl)
theorem dk_113 {code : ByteArray} {pc : Nat} {l : List Nat} (h : BytesAt code pc (113 :: l)) : decode code pc = .ok (.lrem, 1) := by
  obtain ⟨h0, hb⟩ := h.one
  exact dk_dec (by unfold Decoder.instr; rw [dk_bind (u1_run h0 hb)]; rfl)
theorem dk_116 {code : ByteArray} {pc : Nat} {l : List Nat} (h : BytesAt code pc (116 :: l)) : decode code pc = .ok (.ineg, 1) := by
  obtain ⟨h0, hb⟩ := h.one
  exact dk_dec (by unfold Decoder.instr; rw [dk_bind (u1_run h0 hb)]; rfl)
theorem dk_117 {code : ByteArray} {pc : Nat} {l : List Nat} (h : BytesAt code pc (117 :: l)) : decode code pc = .ok (.lneg, 1) := by
  obtain ⟨h0, hb⟩ := h.one
  exact dk_dec (by unfold Decoder.instr; rw [dk_bind (u1_run h0 hb)]; rfl)
theorem dk_120 {code : ByteArray} {pc : Nat} {l : List Nat} (h : BytesAt code pc (120 :: l)) : decode code pc = .ok (.ishl, 1) := by
  obtain ⟨h0, hb⟩ := h.one
  exact dk_dec (by unfold Decoder.instr; rw [dk_bind (u1_run h0 hb)]; rfl)
theorem dk_121 {code : ByteArray} {pc : Nat} {l : List Nat} (h : BytesAt code pc (121 :: l)) : decode code pc = .ok (.lshl, 1) := by
  obtain ⟨h0, hb⟩ := h.one
  exact dk_dec (by unfold Decoder.instr; rw [dk_bind (u1_run h0 hb)]; rfl)
theorem dk_122 {code : ByteArray} {pc : Nat} {l : List Nat} (h : BytesAt code pc (122 :: l)) : decode code pc = .ok (.ishr, 1) := by
  obtain ⟨h0, hb⟩ := h.one
  exact dk_dec (by unfold Decoder.instr; rw [dk_bind (u1_run h0 hb)]; rfl)
theorem dk_123 {code : ByteArray} {pc : Nat} {l : List Nat} (h : BytesAt code pc (123 :: l)) : decode code pc = .ok (.lshr, 1) := by
  obtain ⟨h0, hb⟩ := h.one
  exact dk_dec (by unfold Decoder.instr; rw [dk_bind (u1_run h0 hb)]; rfl)
theorem dk_124 {code : ByteArray} {pc : Nat} {l : List Nat} (h : BytesAt code pc (124 :: l)) : decode code pc = .ok (.iushr, 1) := by
  obtain ⟨h0, hb⟩ := h.one
  exact dk_dec (by unfold Decoder.instr; rw [dk_bind (u1_run h0 hb)]; rfl)
theorem dk_125 {code : ByteArray} {pc : Nat} {l : List Nat} (h : BytesAt code pc (125 :: l)) : decode code pc = .ok (.lushr, 1) := by
  obtain ⟨h0, hb⟩ := h.one
  exact dk_dec (by unfold Decoder.instr; rw [dk_bind (u1_run h0 hb)]; rfl)
theorem dk_126 {code : ByteArray} {pc : Nat} {l : List Nat} (h : BytesAt code pc (126 :: l)) : decode code pc = .ok (.iand, 1) := by
  obtain ⟨h0, hb⟩ := h.one
  exact dk_dec (by unfold Decoder.instr; rw [dk_bind (u1_run h0 hb)]; rfl)
theorem dk_127 {code : ByteArray} {pc : Nat} {l : List Nat} (h : BytesAt code pc (127 :: l)) : decode code pc = .ok (.land, 1) := by
  obtain ⟨h0, hb⟩ := h.one
  exact dk_dec (by unfold Decoder.instr; rw [dk_bind (u1_run h0 hb)]; rfl)
theorem dk_128 {code : ByteArray} {pc : Nat} {l : List Nat} (h : BytesAt code pc (128 :: l)) : decode code pc = .ok (.ior, 1) := by
  obtain ⟨h0, hb⟩ := h.one
  exact dk_dec (by unfold Decoder.instr; rw [dk_bind (u1_run h0 hb)]; rfl)
theorem dk_129 {code : ByteArray} {pc : Nat} {l : List Nat} (h : BytesAt code pc (129 :: l)) : decode code pc = .ok (.lor, 1) := by
  obtain ⟨h0, hb⟩ := h.one
  exact dk_dec (by unfold Decoder.instr; rw [dk_bind (u1_run h0 hb)]; rfl)
theorem dk_130 {code : ByteArray} {pc : Nat} {l : List Nat} (h : BytesAt code pc (130 :: l)) : decode code pc = .ok (.ixor, 1) := by
  obtain ⟨h0, hb⟩ := h.one
  exact dk_dec (by unfold Decoder.instr; rw [dk_bind (u1_run h0 hb)]; rfl)
theorem dk_131 {code : ByteArray} {pc : Nat} {l : List Nat} (h : BytesAt code pc (131 :: l)) : decode code pc = .ok (.lxor, 1) := by
  obtain ⟨h0, hb⟩ := h.one
  exact dk_dec (by unfold Decoder.instr; rw [dk_bind (u1_run h0 hb)]; rfl)
theorem dk_133 {code : ByteArray} {pc : Nat} {l : List Nat} (h : BytesAt code pc (133 :: l)) : decode code pc = .ok (.i2l, 1) := by
  obtain ⟨h0, hb⟩ := h.one
  exact dk_dec (by unfold Decoder.instr; rw [dk_bind (u1_run h0 hb)]; rfl)
theorem dk_136 {code : ByteArray} {pc : Nat} {l : List Nat} (h : BytesAt code pc (136 :: l)) : decode code pc = .ok (.l2i, 1) := by
  obtain ⟨h0, hb⟩ := h.one
  exact dk_dec (by unfold Decoder.instr; rw [dk_bind (u1_run h0 hb)]; rfl)
theorem dk_145 {code : ByteArray} {pc : Nat} {l : List Nat} (h : BytesAt code pc (145 :: l)) : decode code pc = .ok (.i2b, 1) := by
  obtain ⟨h0, hb⟩ := h.one
  exact dk_dec (by unfold Decoder.instr; rw [dk_bind (u1_run h0 hb)]; rfl)
theorem dk_146 {code : ByteArray} {pc : Nat} {l : List Nat} (h : BytesAt code pc (146 :: l)) : decode code pc = .ok (.i2c, 1) := by
  obtain ⟨h0, hb⟩ := h.one
  exact dk_dec (by unfold Decoder.instr; rw [dk_bind (u1_run h0 hb)]; rfl)
theorem dk_148 {code : ByteArray} {pc : Nat} {l : List Nat} (h : BytesAt code pc (148 :: l)) : decode code pc = .ok (.lcmp, 1) := by
  obtain ⟨h0, hb⟩ := h.one
  exact dk_dec (by unfold Decoder.instr; rw [dk_bind (u1_run h0 hb)]; rfl)
theorem dk_172 {code : ByteArray} {pc : Nat} {l : List Nat} (h : BytesAt code pc (172 :: l)) : decode code pc = .ok (.ireturn, 1) := by
  obtain ⟨h0, hb⟩ := h.one
  exact dk_dec (by unfold Decoder.instr; rw [dk_bind (u1_run h0 hb)]; rfl)
theorem dk_173 {code : ByteArray} {pc : Nat} {l : List Nat} (h : BytesAt code pc (173 :: l)) : decode code pc = .ok (.lreturn, 1) := by
  obtain ⟨h0, hb⟩ := h.one
  exact dk_dec (by unfold Decoder.instr; rw [dk_bind (u1_run h0 hb)]; rfl)
theorem dk_176 {code : ByteArray} {pc : Nat} {l : List Nat} (h : BytesAt code pc (176 :: l)) : decode code pc = .ok (.areturn, 1) := by
  obtain ⟨h0, hb⟩ := h.one
  exact dk_dec (by unfold Decoder.instr; rw [dk_bind (u1_run h0 hb)]; rfl)
theorem dk_177 {code : ByteArray} {pc : Nat} {l : List Nat} (h : BytesAt code pc (177 :: l)) : decode code pc = .ok (.return_, 1) := by
  obtain ⟨h0, hb⟩ := h.one
  exact dk_dec (by unfold Decoder.instr; rw [dk_bind (u1_run h0 hb)]; rfl)
theorem dk_190 {code : ByteArray} {pc : Nat} {l : List Nat} (h : BytesAt code pc (190 :: l)) : decode code pc = .ok (.arraylength, 1) := by
  obtain ⟨h0, hb⟩ := h.one
  exact dk_dec (by unfold Decoder.instr; rw [dk_bind (u1_run h0 hb)]; rfl)
theorem dk_191 {code : ByteArray} {pc : Nat} {l : List Nat} (h : BytesAt code pc (191 :: l)) : decode code pc = .ok (.athrow, 1) := by
  obtain ⟨h0, hb⟩ := h.one
  exact dk_dec (by unfold Decoder.instr; rw [dk_bind (u1_run h0 hb)]; rfl)
theorem dk_18 {code : ByteArray} {pc a : Nat} {l : List Nat} (h : BytesAt code pc (18 :: a :: l)) : decode code pc = .ok (.ldc a, 2) := by
  obtain ⟨h0, hb⟩ := h.one
  obtain ⟨h1, hb1⟩ := h.tail.one
  refine dk_dec ?_
  unfold Decoder.instr
  rw [dk_bind (u1_run h0 hb)]
  show ((Reader.u1 : Decoder Nat) >>= fun a => Pure.pure (Instr.ldc a)).runAt code (pc + 1) = _
  rw [dk_bind (u1_run h1 hb1)]
  rfl
theorem dk_21 {code : ByteArray} {pc a : Nat} {l : List Nat} (h : BytesAt code pc (21 :: a :: l)) : decode code pc = .ok (.iload a, 2) := by
  obtain ⟨h0, hb⟩ := h.one
  obtain ⟨h1, hb1⟩ := h.tail.one
  refine dk_dec ?_
  unfold Decoder.instr
  rw [dk_bind (u1_run h0 hb)]
  show ((Reader.u1 : Decoder Nat) >>= fun a => Pure.pure (Instr.iload a)).runAt code (pc + 1) = _
  rw [dk_bind (u1_run h1 hb1)]
  rfl
theorem dk_22 {code : ByteArray} {pc a : Nat} {l : List Nat} (h : BytesAt code pc (22 :: a :: l)) : decode code pc = .ok (.lload a, 2) := by
  obtain ⟨h0, hb⟩ := h.one
  obtain ⟨h1, hb1⟩ := h.tail.one
  refine dk_dec ?_
  unfold Decoder.instr
  rw [dk_bind (u1_run h0 hb)]
  show ((Reader.u1 : Decoder Nat) >>= fun a => Pure.pure (Instr.lload a)).runAt code (pc + 1) = _
  rw [dk_bind (u1_run h1 hb1)]
  rfl
theorem dk_25 {code : ByteArray} {pc a : Nat} {l : List Nat} (h : BytesAt code pc (25 :: a :: l)) : decode code pc = .ok (.aload a, 2) := by
  obtain ⟨h0, hb⟩ := h.one
  obtain ⟨h1, hb1⟩ := h.tail.one
  refine dk_dec ?_
  unfold Decoder.instr
  rw [dk_bind (u1_run h0 hb)]
  show ((Reader.u1 : Decoder Nat) >>= fun a => Pure.pure (Instr.aload a)).runAt code (pc + 1) = _
  rw [dk_bind (u1_run h1 hb1)]
  rfl
theorem dk_54 {code : ByteArray} {pc a : Nat} {l : List Nat} (h : BytesAt code pc (54 :: a :: l)) : decode code pc = .ok (.istore a, 2) := by
  obtain ⟨h0, hb⟩ := h.one
  obtain ⟨h1, hb1⟩ := h.tail.one
  refine dk_dec ?_
  unfold Decoder.instr
  rw [dk_bind (u1_run h0 hb)]
  show ((Reader.u1 : Decoder Nat) >>= fun a => Pure.pure (Instr.istore a)).runAt code (pc + 1) = _
  rw [dk_bind (u1_run h1 hb1)]
  rfl
theorem dk_55 {code : ByteArray} {pc a : Nat} {l : List Nat} (h : BytesAt code pc (55 :: a :: l)) : decode code pc = .ok (.lstore a, 2) := by
  obtain ⟨h0, hb⟩ := h.one
  obtain ⟨h1, hb1⟩ := h.tail.one
  refine dk_dec ?_
  unfold Decoder.instr
  rw [dk_bind (u1_run h0 hb)]
  show ((Reader.u1 : Decoder Nat) >>= fun a => Pure.pure (Instr.lstore a)).runAt code (pc + 1) = _
  rw [dk_bind (u1_run h1 hb1)]
  rfl
theorem dk_58 {code : ByteArray} {pc a : Nat} {l : List Nat} (h : BytesAt code pc (58 :: a :: l)) : decode code pc = .ok (.astore a, 2) := by
  obtain ⟨h0, hb⟩ := h.one
  obtain ⟨h1, hb1⟩ := h.tail.one
  refine dk_dec ?_
  unfold Decoder.instr
  rw [dk_bind (u1_run h0 hb)]
  show ((Reader.u1 : Decoder Nat) >>= fun a => Pure.pure (Instr.astore a)).runAt code (pc + 1) = _
  rw [dk_bind (u1_run h1 hb1)]
  rfl
theorem dk_16 {code : ByteArray} {pc a : Nat} {l : List Nat} (h : BytesAt code pc (16 :: a :: l)) : decode code pc = .ok (.bipush (Reader.signed 8 a), 2) := by
  obtain ⟨h0, hb⟩ := h.one
  obtain ⟨h1, hb1⟩ := h.tail.one
  refine dk_dec ?_
  unfold Decoder.instr
  rw [dk_bind (u1_run h0 hb)]
  show ((Reader.s1 : Decoder Int) >>= fun a => Pure.pure (Instr.bipush a)).runAt code (pc + 1) = _
  rw [dk_bind (s1_run h1 hb1)]
  rfl
theorem dk_19 {code : ByteArray} {pc a b : Nat} {l : List Nat} (h : BytesAt code pc (19 :: a :: b :: l)) : decode code pc = .ok (.ldc_w (a * 256 + b), 3) := by
  obtain ⟨h0, hb⟩ := h.one
  obtain ⟨h1, hb1⟩ := h.tail.one
  obtain ⟨h2, hb2⟩ := h.tail.tail.one
  refine dk_dec ?_
  unfold Decoder.instr
  rw [dk_bind (u1_run h0 hb)]
  show ((Reader.u2 : Decoder Nat) >>= fun a => Pure.pure (Instr.ldc_w a)).runAt code (pc + 1) = _
  rw [dk_bind (u2_run h1 hb1 h2 hb2)]
  rfl
theorem dk_20 {code : ByteArray} {pc a b : Nat} {l : List Nat} (h : BytesAt code pc (20 :: a :: b :: l)) : decode code pc = .ok (.ldc2_w (a * 256 + b), 3) := by
  obtain ⟨h0, hb⟩ := h.one
  obtain ⟨h1, hb1⟩ := h.tail.one
  obtain ⟨h2, hb2⟩ := h.tail.tail.one
  refine dk_dec ?_
  unfold Decoder.instr
  rw [dk_bind (u1_run h0 hb)]
  show ((Reader.u2 : Decoder Nat) >>= fun a => Pure.pure (Instr.ldc2_w a)).runAt code (pc + 1) = _
  rw [dk_bind (u2_run h1 hb1 h2 hb2)]
  rfl
theorem dk_178 {code : ByteArray} {pc a b : Nat} {l : List Nat} (h : BytesAt code pc (178 :: a :: b :: l)) : decode code pc = .ok (.getstatic (a * 256 + b), 3) := by
  obtain ⟨h0, hb⟩ := h.one
  obtain ⟨h1, hb1⟩ := h.tail.one
  obtain ⟨h2, hb2⟩ := h.tail.tail.one
  refine dk_dec ?_
  unfold Decoder.instr
  rw [dk_bind (u1_run h0 hb)]
  show ((Reader.u2 : Decoder Nat) >>= fun a => Pure.pure (Instr.getstatic a)).runAt code (pc + 1) = _
  rw [dk_bind (u2_run h1 hb1 h2 hb2)]
  rfl
theorem dk_180 {code : ByteArray} {pc a b : Nat} {l : List Nat} (h : BytesAt code pc (180 :: a :: b :: l)) : decode code pc = .ok (.getfield (a * 256 + b), 3) := by
  obtain ⟨h0, hb⟩ := h.one
  obtain ⟨h1, hb1⟩ := h.tail.one
  obtain ⟨h2, hb2⟩ := h.tail.tail.one
  refine dk_dec ?_
  unfold Decoder.instr
  rw [dk_bind (u1_run h0 hb)]
  show ((Reader.u2 : Decoder Nat) >>= fun a => Pure.pure (Instr.getfield a)).runAt code (pc + 1) = _
  rw [dk_bind (u2_run h1 hb1 h2 hb2)]
  rfl
theorem dk_181 {code : ByteArray} {pc a b : Nat} {l : List Nat} (h : BytesAt code pc (181 :: a :: b :: l)) : decode code pc = .ok (.putfield (a * 256 + b), 3) := by
  obtain ⟨h0, hb⟩ := h.one
  obtain ⟨h1, hb1⟩ := h.tail.one
  obtain ⟨h2, hb2⟩ := h.tail.tail.one
  refine dk_dec ?_
  unfold Decoder.instr
  rw [dk_bind (u1_run h0 hb)]
  show ((Reader.u2 : Decoder Nat) >>= fun a => Pure.pure (Instr.putfield a)).runAt code (pc + 1) = _
  rw [dk_bind (u2_run h1 hb1 h2 hb2)]
  rfl
theorem dk_182 {code : ByteArray} {pc a b : Nat} {l : List Nat} (h : BytesAt code pc (182 :: a :: b :: l)) : decode code pc = .ok (.invokevirtual (a * 256 + b), 3) := by
  obtain ⟨h0, hb⟩ := h.one
  obtain ⟨h1, hb1⟩ := h.tail.one
  obtain ⟨h2, hb2⟩ := h.tail.tail.one
  refine dk_dec ?_
  unfold Decoder.instr
  rw [dk_bind (u1_run h0 hb)]
  show ((Reader.u2 : Decoder Nat) >>= fun a => Pure.pure (Instr.invokevirtual a)).runAt code (pc + 1) = _
  rw [dk_bind (u2_run h1 hb1 h2 hb2)]
  rfl
theorem dk_183 {code : ByteArray} {pc a b : Nat} {l : List Nat} (h : BytesAt code pc (183 :: a :: b :: l)) : decode code pc = .ok (.invokespecial (a * 256 + b), 3) := by
  obtain ⟨h0, hb⟩ := h.one
  obtain ⟨h1, hb1⟩ := h.tail.one
  obtain ⟨h2, hb2⟩ := h.tail.tail.one
  refine dk_dec ?_
  unfold Decoder.instr
  rw [dk_bind (u1_run h0 hb)]
  show ((Reader.u2 : Decoder Nat) >>= fun a => Pure.pure (Instr.invokespecial a)).runAt code (pc + 1) = _
  rw [dk_bind (u2_run h1 hb1 h2 hb2)]
  rfl
theorem dk_184 {code : ByteArray} {pc a b : Nat} {l : List Nat} (h : BytesAt code pc (184 :: a :: b :: l)) : decode code pc = .ok (.invokestatic (a * 256 + b), 3) := by
  obtain ⟨h0, hb⟩ := h.one
  obtain ⟨h1, hb1⟩ := h.tail.one
  obtain ⟨h2, hb2⟩ := h.tail.tail.one
  refine dk_dec ?_
  unfold Decoder.instr
  rw [dk_bind (u1_run h0 hb)]
  show ((Reader.u2 : Decoder Nat) >>= fun a => Pure.pure (Instr.invokestatic a)).runAt code (pc + 1) = _
  rw [dk_bind (u2_run h1 hb1 h2 hb2)]
  rfl
theorem dk_187 {code : ByteArray} {pc a b : Nat} {l : List Nat} (h : BytesAt code pc (187 :: a :: b :: l)) : decode code pc = .ok (.new (a * 256 + b), 3) := by
  obtain ⟨h0, hb⟩ := h.one
  obtain ⟨h1, hb1⟩ := h.tail.one
  obtain ⟨h2, hb2⟩ := h.tail.tail.one
  refine dk_dec ?_
  unfold Decoder.instr
  rw [dk_bind (u1_run h0 hb)]
  show ((Reader.u2 : Decoder Nat) >>= fun a => Pure.pure (Instr.new a)).runAt code (pc + 1) = _
  rw [dk_bind (u2_run h1 hb1 h2 hb2)]
  rfl
theorem dk_189 {code : ByteArray} {pc a b : Nat} {l : List Nat} (h : BytesAt code pc (189 :: a :: b :: l)) : decode code pc = .ok (.anewarray (a * 256 + b), 3) := by
  obtain ⟨h0, hb⟩ := h.one
  obtain ⟨h1, hb1⟩ := h.tail.one
  obtain ⟨h2, hb2⟩ := h.tail.tail.one
  refine dk_dec ?_
  unfold Decoder.instr
  rw [dk_bind (u1_run h0 hb)]
  show ((Reader.u2 : Decoder Nat) >>= fun a => Pure.pure (Instr.anewarray a)).runAt code (pc + 1) = _
  rw [dk_bind (u2_run h1 hb1 h2 hb2)]
  rfl
theorem dk_192 {code : ByteArray} {pc a b : Nat} {l : List Nat} (h : BytesAt code pc (192 :: a :: b :: l)) : decode code pc = .ok (.checkcast (a * 256 + b), 3) := by
  obtain ⟨h0, hb⟩ := h.one
  obtain ⟨h1, hb1⟩ := h.tail.one
  obtain ⟨h2, hb2⟩ := h.tail.tail.one
  refine dk_dec ?_
  unfold Decoder.instr
  rw [dk_bind (u1_run h0 hb)]
  show ((Reader.u2 : Decoder Nat) >>= fun a => Pure.pure (Instr.checkcast a)).runAt code (pc + 1) = _
  rw [dk_bind (u2_run h1 hb1 h2 hb2)]
  rfl
theorem dk_193 {code : ByteArray} {pc a b : Nat} {l : List Nat} (h : BytesAt code pc (193 :: a :: b :: l)) : decode code pc = .ok (.instanceof (a * 256 + b), 3) := by
  obtain ⟨h0, hb⟩ := h.one
  obtain ⟨h1, hb1⟩ := h.tail.one
  obtain ⟨h2, hb2⟩ := h.tail.tail.one
  refine dk_dec ?_
  unfold Decoder.instr
  rw [dk_bind (u1_run h0 hb)]
  show ((Reader.u2 : Decoder Nat) >>= fun a => Pure.pure (Instr.instanceof a)).runAt code (pc + 1) = _
  rw [dk_bind (u2_run h1 hb1 h2 hb2)]
  rfl
theorem dk_17 {code : ByteArray} {pc a b : Nat} {l : List Nat} (h : BytesAt code pc (17 :: a :: b :: l)) : decode code pc = .ok (.sipush (Reader.signed 16 (a * 256 + b)), 3) := by
  obtain ⟨h0, hb⟩ := h.one
  obtain ⟨h1, hb1⟩ := h.tail.one
  obtain ⟨h2, hb2⟩ := h.tail.tail.one
  refine dk_dec ?_
  unfold Decoder.instr
  rw [dk_bind (u1_run h0 hb)]
  show ((Reader.s2 : Decoder Int) >>= fun a => Pure.pure (Instr.sipush a)).runAt code (pc + 1) = _
  rw [dk_bind (s2_run h1 hb1 h2 hb2)]
  rfl
theorem dk_153 {code : ByteArray} {pc a b : Nat} {l : List Nat} (h : BytesAt code pc (153 :: a :: b :: l)) : decode code pc = .ok (.ifCond .eq (Reader.signed 16 (a * 256 + b)), 3) := by
  obtain ⟨h0, hb⟩ := h.one
  obtain ⟨h1, hb1⟩ := h.tail.one
  obtain ⟨h2, hb2⟩ := h.tail.tail.one
  refine dk_dec ?_
  unfold Decoder.instr
  rw [dk_bind (u1_run h0 hb)]
  show ((Reader.s2 : Decoder Int) >>= fun a => Pure.pure (Instr.ifCond .eq a)).runAt code (pc + 1) = _
  rw [dk_bind (s2_run h1 hb1 h2 hb2)]
  rfl
theorem dk_154 {code : ByteArray} {pc a b : Nat} {l : List Nat} (h : BytesAt code pc (154 :: a :: b :: l)) : decode code pc = .ok (.ifCond .ne (Reader.signed 16 (a * 256 + b)), 3) := by
  obtain ⟨h0, hb⟩ := h.one
  obtain ⟨h1, hb1⟩ := h.tail.one
  obtain ⟨h2, hb2⟩ := h.tail.tail.one
  refine dk_dec ?_
  unfold Decoder.instr
  rw [dk_bind (u1_run h0 hb)]
  show ((Reader.s2 : Decoder Int) >>= fun a => Pure.pure (Instr.ifCond .ne a)).runAt code (pc + 1) = _
  rw [dk_bind (s2_run h1 hb1 h2 hb2)]
  rfl
theorem dk_155 {code : ByteArray} {pc a b : Nat} {l : List Nat} (h : BytesAt code pc (155 :: a :: b :: l)) : decode code pc = .ok (.ifCond .lt (Reader.signed 16 (a * 256 + b)), 3) := by
  obtain ⟨h0, hb⟩ := h.one
  obtain ⟨h1, hb1⟩ := h.tail.one
  obtain ⟨h2, hb2⟩ := h.tail.tail.one
  refine dk_dec ?_
  unfold Decoder.instr
  rw [dk_bind (u1_run h0 hb)]
  show ((Reader.s2 : Decoder Int) >>= fun a => Pure.pure (Instr.ifCond .lt a)).runAt code (pc + 1) = _
  rw [dk_bind (s2_run h1 hb1 h2 hb2)]
  rfl
theorem dk_156 {code : ByteArray} {pc a b : Nat} {l : List Nat} (h : BytesAt code pc (156 :: a :: b :: l)) : decode code pc = .ok (.ifCond .ge (Reader.signed 16 (a * 256 + b)), 3) := by
  obtain ⟨h0, hb⟩ := h.one
  obtain ⟨h1, hb1⟩ := h.tail.one
  obtain ⟨h2, hb2⟩ := h.tail.tail.one
  refine dk_dec ?_
  unfold Decoder.instr
  rw [dk_bind (u1_run h0 hb)]
  show ((Reader.s2 : Decoder Int) >>= fun a => Pure.pure (Instr.ifCond .ge a)).runAt code (pc + 1) = _
  rw [dk_bind (s2_run h1 hb1 h2 hb2)]
  rfl
theorem dk_157 {code : ByteArray} {pc a b : Nat} {l : List Nat} (h : BytesAt code pc (157 :: a :: b :: l)) : decode code pc = .ok (.ifCond .gt (Reader.signed 16 (a * 256 + b)), 3) := by
  obtain ⟨h0, hb⟩ := h.one
  obtain ⟨h1, hb1⟩ := h.tail.one
  obtain ⟨h2, hb2⟩ := h.tail.tail.one
  refine dk_dec ?_
  unfold Decoder.instr
  rw [dk_bind (u1_run h0 hb)]
  show ((Reader.s2 : Decoder Int) >>= fun a => Pure.pure (Instr.ifCond .gt a)).runAt code (pc + 1) = _
  rw [dk_bind (s2_run h1 hb1 h2 hb2)]
  rfl
theorem dk_158 {code : ByteArray} {pc a b : Nat} {l : List Nat} (h : BytesAt code pc (158 :: a :: b :: l)) : decode code pc = .ok (.ifCond .le (Reader.signed 16 (a * 256 + b)), 3) := by
  obtain ⟨h0, hb⟩ := h.one
  obtain ⟨h1, hb1⟩ := h.tail.one
  obtain ⟨h2, hb2⟩ := h.tail.tail.one
  refine dk_dec ?_
  unfold Decoder.instr
  rw [dk_bind (u1_run h0 hb)]
  show ((Reader.s2 : Decoder Int) >>= fun a => Pure.pure (Instr.ifCond .le a)).runAt code (pc + 1) = _
  rw [dk_bind (s2_run h1 hb1 h2 hb2)]
  rfl
theorem dk_159 {code : ByteArray} {pc a b : Nat} {l : List Nat} (h : BytesAt code pc (159 :: a :: b :: l)) : decode code pc = .ok (.if_icmp .eq (Reader.signed 16 (a * 256 + b)), 3) := by
  obtain ⟨h0, hb⟩ := h.one
  obtain ⟨h1, hb1⟩ := h.tail.one
  obtain ⟨h2, hb2⟩ := h.tail.tail.one
  refine dk_dec ?_
  unfold Decoder.instr
  rw [dk_bind (u1_run h0 hb)]
  show ((Reader.s2 : Decoder Int) >>= fun a => Pure.pure (Instr.if_icmp .eq a)).runAt code (pc + 1) = _
  rw [dk_bind (s2_run h1 hb1 h2 hb2)]
  rfl
theorem dk_160 {code : ByteArray} {pc a b : Nat} {l : List Nat} (h : BytesAt code pc (160 :: a :: b :: l)) : decode code pc = .ok (.if_icmp .ne (Reader.signed 16 (a * 256 + b)), 3) := by
  obtain ⟨h0, hb⟩ := h.one
  obtain ⟨h1, hb1⟩ := h.tail.one
  obtain ⟨h2, hb2⟩ := h.tail.tail.one
  refine dk_dec ?_
  unfold Decoder.instr
  rw [dk_bind (u1_run h0 hb)]
  show ((Reader.s2 : Decoder Int) >>= fun a => Pure.pure (Instr.if_icmp .ne a)).runAt code (pc + 1) = _
  rw [dk_bind (s2_run h1 hb1 h2 hb2)]
  rfl
theorem dk_161 {code : ByteArray} {pc a b : Nat} {l : List Nat} (h : BytesAt code pc (161 :: a :: b :: l)) : decode code pc = .ok (.if_icmp .lt (Reader.signed 16 (a * 256 + b)), 3) := by
  obtain ⟨h0, hb⟩ := h.one
  obtain ⟨h1, hb1⟩ := h.tail.one
  obtain ⟨h2, hb2⟩ := h.tail.tail.one
  refine dk_dec ?_
  unfold Decoder.instr
  rw [dk_bind (u1_run h0 hb)]
  show ((Reader.s2 : Decoder Int) >>= fun a => Pure.pure (Instr.if_icmp .lt a)).runAt code (pc + 1) = _
  rw [dk_bind (s2_run h1 hb1 h2 hb2)]
  rfl
theorem dk_162 {code : ByteArray} {pc a b : Nat} {l : List Nat} (h : BytesAt code pc (162 :: a :: b :: l)) : decode code pc = .ok (.if_icmp .ge (Reader.signed 16 (a * 256 + b)), 3) := by
  obtain ⟨h0, hb⟩ := h.one
  obtain ⟨h1, hb1⟩ := h.tail.one
  obtain ⟨h2, hb2⟩ := h.tail.tail.one
  refine dk_dec ?_
  unfold Decoder.instr
  rw [dk_bind (u1_run h0 hb)]
  show ((Reader.s2 : Decoder Int) >>= fun a => Pure.pure (Instr.if_icmp .ge a)).runAt code (pc + 1) = _
  rw [dk_bind (s2_run h1 hb1 h2 hb2)]
  rfl
theorem dk_163 {code : ByteArray} {pc a b : Nat} {l : List Nat} (h : BytesAt code pc (163 :: a :: b :: l)) : decode code pc = .ok (.if_icmp .gt (Reader.signed 16 (a * 256 + b)), 3) := by
  obtain ⟨h0, hb⟩ := h.one
  obtain ⟨h1, hb1⟩ := h.tail.one
  obtain ⟨h2, hb2⟩ := h.tail.tail.one
  refine dk_dec ?_
  unfold Decoder.instr
  rw [dk_bind (u1_run h0 hb)]
  show ((Reader.s2 : Decoder Int) >>= fun a => Pure.pure (Instr.if_icmp .gt a)).runAt code (pc + 1) = _
  rw [dk_bind (s2_run h1 hb1 h2 hb2)]
  rfl
theorem dk_164 {code : ByteArray} {pc a b : Nat} {l : List Nat} (h : BytesAt code pc (164 :: a :: b :: l)) : decode code pc = .ok (.if_icmp .le (Reader.signed 16 (a * 256 + b)), 3) := by
  obtain ⟨h0, hb⟩ := h.one
  obtain ⟨h1, hb1⟩ := h.tail.one
  obtain ⟨h2, hb2⟩ := h.tail.tail.one
  refine dk_dec ?_
  unfold Decoder.instr
  rw [dk_bind (u1_run h0 hb)]
  show ((Reader.s2 : Decoder Int) >>= fun a => Pure.pure (Instr.if_icmp .le a)).runAt code (pc + 1) = _
  rw [dk_bind (s2_run h1 hb1 h2 hb2)]
  rfl
theorem dk_165 {code : ByteArray} {pc a b : Nat} {l : List Nat} (h : BytesAt code pc (165 :: a :: b :: l)) : decode code pc = .ok (.if_acmp .eq (Reader.signed 16 (a * 256 + b)), 3) := by
  obtain ⟨h0, hb⟩ := h.one
  obtain ⟨h1, hb1⟩ := h.tail.one
  obtain ⟨h2, hb2⟩ := h.tail.tail.one
  refine dk_dec ?_
  unfold Decoder.instr
  rw [dk_bind (u1_run h0 hb)]
  show ((Reader.s2 : Decoder Int) >>= fun a => Pure.pure (Instr.if_acmp .eq a)).runAt code (pc + 1) = _
  rw [dk_bind (s2_run h1 hb1 h2 hb2)]
  rfl
theorem dk_166 {code : ByteArray} {pc a b : Nat} {l : List Nat} (h : BytesAt code pc (166 :: a :: b :: l)) : decode code pc = .ok (.if_acmp .ne (Reader.signed 16 (a * 256 + b)), 3) := by
  obtain ⟨h0, hb⟩ := h.one
  obtain ⟨h1, hb1⟩ := h.tail.one
  obtain ⟨h2, hb2⟩ := h.tail.tail.one
  refine dk_dec ?_
  unfold Decoder.instr
  rw [dk_bind (u1_run h0 hb)]
  show ((Reader.s2 : Decoder Int) >>= fun a => Pure.pure (Instr.if_acmp .ne a)).runAt code (pc + 1) = _
  rw [dk_bind (s2_run h1 hb1 h2 hb2)]
  rfl
theorem dk_167 {code : ByteArray} {pc a b : Nat} {l : List Nat} (h : BytesAt code pc (167 :: a :: b :: l)) : decode code pc = .ok (.goto (Reader.signed 16 (a * 256 + b)), 3) := by
  obtain ⟨h0, hb⟩ := h.one
  obtain ⟨h1, hb1⟩ := h.tail.one
  obtain ⟨h2, hb2⟩ := h.tail.tail.one
  refine dk_dec ?_
  unfold Decoder.instr
  rw [dk_bind (u1_run h0 hb)]
  show ((Reader.s2 : Decoder Int) >>= fun a => Pure.pure (Instr.goto a)).runAt code (pc + 1) = _
  rw [dk_bind (s2_run h1 hb1 h2 hb2)]
  rfl
theorem dk_198 {code : ByteArray} {pc a b : Nat} {l : List Nat} (h : BytesAt code pc (198 :: a :: b :: l)) : decode code pc = .ok (.ifnull (Reader.signed 16 (a * 256 + b)), 3) := by
  obtain ⟨h0, hb⟩ := h.one
  obtain ⟨h1, hb1⟩ := h.tail.one
  obtain ⟨h2, hb2⟩ := h.tail.tail.one
  refine dk_dec ?_
  unfold Decoder.instr
  rw [dk_bind (u1_run h0 hb)]
  show ((Reader.s2 : Decoder Int) >>= fun a => Pure.pure (Instr.ifnull a)).runAt code (pc + 1) = _
  rw [dk_bind (s2_run h1 hb1 h2 hb2)]
  rfl
theorem dk_199 {code : ByteArray} {pc a b : Nat} {l : List Nat} (h : BytesAt code pc (199 :: a :: b :: l)) : decode code pc = .ok (.ifnonnull (Reader.signed 16 (a * 256 + b)), 3) := by
  obtain ⟨h0, hb⟩ := h.one
  obtain ⟨h1, hb1⟩ := h.tail.one
  obtain ⟨h2, hb2⟩ := h.tail.tail.one
  refine dk_dec ?_
  unfold Decoder.instr
  rw [dk_bind (u1_run h0 hb)]
  show ((Reader.s2 : Decoder Int) >>= fun a => Pure.pure (Instr.ifnonnull a)).runAt code (pc + 1) = _
  rw [dk_bind (s2_run h1 hb1 h2 hb2)]
  rfl
theorem dk_132 {code : ByteArray} {pc a b : Nat} {l : List Nat} (h : BytesAt code pc (132 :: a :: b :: l)) : decode code pc = .ok (.iinc a (Reader.signed 8 b), 3) := by
  obtain ⟨h0, hb⟩ := h.one
  obtain ⟨h1, hb1⟩ := h.tail.one
  obtain ⟨h2, hb2⟩ := h.tail.tail.one
  refine dk_dec ?_
  unfold Decoder.instr
  rw [dk_bind (u1_run h0 hb)]
  show ((Reader.u1 : Decoder Nat) >>= fun a => (Reader.s1 : Decoder Int) >>= fun b => Pure.pure (Instr.iinc a b)).runAt code (pc + 1) = _
  rw [dk_bind (u1_run h1 hb1), dk_bind (s1_run h2 hb2)]
  rfl
theorem dk_188_4 {code : ByteArray} {pc : Nat} {l : List Nat} (h : BytesAt code pc (188 :: 4 :: l)) : decode code pc = .ok (.newarray .boolean, 2) := by
  obtain ⟨h0, hb⟩ := h.one
  obtain ⟨h1, hb1⟩ := h.tail.one
  refine dk_dec ?_
  unfold Decoder.instr
  rw [dk_bind (u1_run h0 hb)]
  show (Decoder.newarray pc).runAt code (pc + 1) = _
  unfold Decoder.newarray
  rw [dk_bind (u1_run h1 hb1)]
  rfl
theorem dk_188_5 {code : ByteArray} {pc : Nat} {l : List Nat} (h : BytesAt code pc (188 :: 5 :: l)) : decode code pc = .ok (.newarray .char, 2) := by
  obtain ⟨h0, hb⟩ := h.one
  obtain ⟨h1, hb1⟩ := h.tail.one
  refine dk_dec ?_
  unfold Decoder.instr
  rw [dk_bind (u1_run h0 hb)]
  show (Decoder.newarray pc).runAt code (pc + 1) = _
  unfold Decoder.newarray
  rw [dk_bind (u1_run h1 hb1)]
  rfl
theorem dk_188_8 {code : ByteArray} {pc : Nat} {l : List Nat} (h : BytesAt code pc (188 :: 8 :: l)) : decode code pc = .ok (.newarray .byte, 2) := by
  obtain ⟨h0, hb⟩ := h.one
  obtain ⟨h1, hb1⟩ := h.tail.one
  refine dk_dec ?_
  unfold Decoder.instr
  rw [dk_bind (u1_run h0 hb)]
  show (Decoder.newarray pc).runAt code (pc + 1) = _
  unfold Decoder.newarray
  rw [dk_bind (u1_run h1 hb1)]
  rfl
theorem dk_188_10 {code : ByteArray} {pc : Nat} {l : List Nat} (h : BytesAt code pc (188 :: 10 :: l)) : decode code pc = .ok (.newarray .int, 2) := by
  obtain ⟨h0, hb⟩ := h.one
  obtain ⟨h1, hb1⟩ := h.tail.one
  refine dk_dec ?_
  unfold Decoder.instr
  rw [dk_bind (u1_run h0 hb)]
  show (Decoder.newarray pc).runAt code (pc + 1) = _
  unfold Decoder.newarray
  rw [dk_bind (u1_run h1 hb1)]
  rfl
theorem dk_188_11 {code : ByteArray} {pc : Nat} {l : List Nat} (h : BytesAt code pc (188 :: 11 :: l)) : decode code pc = .ok (.newarray .long, 2) := by
  obtain ⟨h0, hb⟩ := h.one
  obtain ⟨h1, hb1⟩ := h.tail.one
  refine dk_dec ?_
  unfold Decoder.instr
  rw [dk_bind (u1_run h0 hb)]
  show (Decoder.newarray pc).runAt code (pc + 1) = _
  unfold Decoder.newarray
  rw [dk_bind (u1_run h1 hb1)]
  rfl
