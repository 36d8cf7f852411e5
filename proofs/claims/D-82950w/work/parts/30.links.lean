/-! LINKS OF THE CLASSES (printed by gen/links.py) -/
set_option maxRecDepth 100000
/-- pairs of classes that are not castable, at the start -/
def ncL : List (String × String) := [("AlgolHouse$Assignation", "AlgolHouse$Routine"), ("AlgolHouse$Call", "AlgolHouse$Routine"), ("AlgolHouse$Cast", "AlgolHouse$Routine"), ("AlgolHouse$Identity", "AlgolHouse$Routine"), ("AlgolHouse$Op", "AlgolHouse$Routine"), ("AlgolHouse$Variable", "AlgolHouse$Routine"), ("AlgolHouse$Display", "AlgolHouse$Routine"), ("AlgolHouse$Edge", "AlgolHouse$Routine"), ("AlgolHouse$Case", "AlgolHouse$Routine"), ("AlgolHouse$If", "AlgolHouse$Routine"), ("AlgolHouse$Serial", "AlgolHouse$Routine"), ("AlgolHouse$When", "AlgolHouse$Routine"), ("AlgolHouse$Formula", "AlgolHouse$Routine"), ("AlgolHouse$Generator", "AlgolHouse$Routine"), ("AlgolHouse$Is", "AlgolHouse$Routine"), ("AlgolHouse$Loop", "AlgolHouse$Routine"), ("AlgolHouse$Nil", "AlgolHouse$Routine"), ("AlgolHouse$Plain", "AlgolHouse$Routine"), ("AlgolHouse$Print", "AlgolHouse$Routine"), ("AlgolHouse$Selection", "AlgolHouse$Routine"), ("AlgolHouse$Skip", "AlgolHouse$Routine"), ("AlgolHouse$Slice", "AlgolHouse$Routine"), ("AlgolHouse$Tag", "AlgolHouse$Routine"), ("AlgolHouse$Assignation", "AlgolHouse$Tag"), ("AlgolHouse$Call", "AlgolHouse$Tag"), ("AlgolHouse$Cast", "AlgolHouse$Tag"), ("AlgolHouse$Identity", "AlgolHouse$Tag"), ("AlgolHouse$Op", "AlgolHouse$Tag"), ("AlgolHouse$Variable", "AlgolHouse$Tag"), ("AlgolHouse$Display", "AlgolHouse$Tag"), ("AlgolHouse$Edge", "AlgolHouse$Tag"), ("AlgolHouse$Case", "AlgolHouse$Tag"), ("AlgolHouse$If", "AlgolHouse$Tag"), ("AlgolHouse$Serial", "AlgolHouse$Tag"), ("AlgolHouse$When", "AlgolHouse$Tag"), ("AlgolHouse$Formula", "AlgolHouse$Tag"), ("AlgolHouse$Generator", "AlgolHouse$Tag"), ("AlgolHouse$Is", "AlgolHouse$Tag"), ("AlgolHouse$Loop", "AlgolHouse$Tag"), ("AlgolHouse$Nil", "AlgolHouse$Tag"), ("AlgolHouse$Plain", "AlgolHouse$Tag"), ("AlgolHouse$Print", "AlgolHouse$Tag"), ("AlgolHouse$Routine", "AlgolHouse$Tag"), ("AlgolHouse$Selection", "AlgolHouse$Tag"), ("AlgolHouse$Skip", "AlgolHouse$Tag"), ("AlgolHouse$Slice", "AlgolHouse$Tag"), ("AlgolHouse$Assignation", "AlgolHouse$Formula"), ("AlgolHouse$Call", "AlgolHouse$Formula"), ("AlgolHouse$Cast", "AlgolHouse$Formula"), ("AlgolHouse$Identity", "AlgolHouse$Formula"), ("AlgolHouse$Op", "AlgolHouse$Formula"), ("AlgolHouse$Variable", "AlgolHouse$Formula"), ("AlgolHouse$Display", "AlgolHouse$Formula"), ("AlgolHouse$Edge", "AlgolHouse$Formula"), ("AlgolHouse$Case", "AlgolHouse$Formula"), ("AlgolHouse$If", "AlgolHouse$Formula"), ("AlgolHouse$Serial", "AlgolHouse$Formula"), ("AlgolHouse$When", "AlgolHouse$Formula"), ("AlgolHouse$Generator", "AlgolHouse$Formula"), ("AlgolHouse$Is", "AlgolHouse$Formula"), ("AlgolHouse$Loop", "AlgolHouse$Formula"), ("AlgolHouse$Nil", "AlgolHouse$Formula"), ("AlgolHouse$Plain", "AlgolHouse$Formula"), ("AlgolHouse$Print", "AlgolHouse$Formula"), ("AlgolHouse$Routine", "AlgolHouse$Formula"), ("AlgolHouse$Selection", "AlgolHouse$Formula"), ("AlgolHouse$Skip", "AlgolHouse$Formula"), ("AlgolHouse$Slice", "AlgolHouse$Formula"), ("AlgolHouse$Tag", "AlgolHouse$Formula"), ("AlgolHouse$Assignation", "AlgolHouse$Skip"), ("AlgolHouse$Call", "AlgolHouse$Skip"), ("AlgolHouse$Cast", "AlgolHouse$Skip"), ("AlgolHouse$Identity", "AlgolHouse$Skip"), ("AlgolHouse$Op", "AlgolHouse$Skip"), ("AlgolHouse$Variable", "AlgolHouse$Skip"), ("AlgolHouse$Display", "AlgolHouse$Skip"), ("AlgolHouse$Edge", "AlgolHouse$Skip"), ("AlgolHouse$Case", "AlgolHouse$Skip"), ("AlgolHouse$If", "AlgolHouse$Skip"), ("AlgolHouse$Serial", "AlgolHouse$Skip"), ("AlgolHouse$When", "AlgolHouse$Skip"), ("AlgolHouse$Formula", "AlgolHouse$Skip"), ("AlgolHouse$Generator", "AlgolHouse$Skip"), ("AlgolHouse$Is", "AlgolHouse$Skip"), ("AlgolHouse$Loop", "AlgolHouse$Skip"), ("AlgolHouse$Nil", "AlgolHouse$Skip"), ("AlgolHouse$Plain", "AlgolHouse$Skip"), ("AlgolHouse$Print", "AlgolHouse$Skip"), ("AlgolHouse$Routine", "AlgolHouse$Skip"), ("AlgolHouse$Selection", "AlgolHouse$Skip"), ("AlgolHouse$Slice", "AlgolHouse$Skip"), ("AlgolHouse$Tag", "AlgolHouse$Skip"), ("AlgolHouse$Assignation", "AlgolHouse$Nil"), ("AlgolHouse$Call", "AlgolHouse$Nil"), ("AlgolHouse$Cast", "AlgolHouse$Nil"), ("AlgolHouse$Identity", "AlgolHouse$Nil"), ("AlgolHouse$Op", "AlgolHouse$Nil"), ("AlgolHouse$Variable", "AlgolHouse$Nil"), ("AlgolHouse$Display", "AlgolHouse$Nil"), ("AlgolHouse$Edge", "AlgolHouse$Nil"), ("AlgolHouse$Case", "AlgolHouse$Nil"), ("AlgolHouse$If", "AlgolHouse$Nil"), ("AlgolHouse$Serial", "AlgolHouse$Nil"), ("AlgolHouse$When", "AlgolHouse$Nil"), ("AlgolHouse$Formula", "AlgolHouse$Nil"), ("AlgolHouse$Generator", "AlgolHouse$Nil"), ("AlgolHouse$Is", "AlgolHouse$Nil"), ("AlgolHouse$Loop", "AlgolHouse$Nil"), ("AlgolHouse$Plain", "AlgolHouse$Nil"), ("AlgolHouse$Print", "AlgolHouse$Nil"), ("AlgolHouse$Routine", "AlgolHouse$Nil"), ("AlgolHouse$Selection", "AlgolHouse$Nil"), ("AlgolHouse$Skip", "AlgolHouse$Nil"), ("AlgolHouse$Slice", "AlgolHouse$Nil"), ("AlgolHouse$Tag", "AlgolHouse$Nil"), ("AlgolHouse$Assignation", "AlgolHouse$Declaration"), ("AlgolHouse$Call", "AlgolHouse$Declaration"), ("AlgolHouse$Cast", "AlgolHouse$Declaration"), ("AlgolHouse$Display", "AlgolHouse$Declaration"), ("AlgolHouse$Edge", "AlgolHouse$Declaration"), ("AlgolHouse$Case", "AlgolHouse$Declaration"), ("AlgolHouse$If", "AlgolHouse$Declaration"), ("AlgolHouse$Serial", "AlgolHouse$Declaration"), ("AlgolHouse$When", "AlgolHouse$Declaration"), ("AlgolHouse$Formula", "AlgolHouse$Declaration"), ("AlgolHouse$Generator", "AlgolHouse$Declaration"), ("AlgolHouse$Is", "AlgolHouse$Declaration"), ("AlgolHouse$Loop", "AlgolHouse$Declaration"), ("AlgolHouse$Nil", "AlgolHouse$Declaration"), ("AlgolHouse$Plain", "AlgolHouse$Declaration"), ("AlgolHouse$Print", "AlgolHouse$Declaration"), ("AlgolHouse$Routine", "AlgolHouse$Declaration"), ("AlgolHouse$Selection", "AlgolHouse$Declaration"), ("AlgolHouse$Skip", "AlgolHouse$Declaration"), ("AlgolHouse$Slice", "AlgolHouse$Declaration"), ("AlgolHouse$Tag", "AlgolHouse$Declaration")]
def NCs (s0 : State) : Prop := ∀ q ∈ ncL, va_Nc q.1 q.2 s0
theorem tg_7_8 {t : Nat} (h1 : 7 ≤ t) (h2 : t ≤ 8) : t = 7 ∨ t = 8 := by omega
theorem tg_11_34 {t : Nat} (h1 : 11 ≤ t) (h2 : t ≤ 34) : t = 11 ∨ t = 12 ∨ t = 13 ∨ t = 14 ∨ t = 15 ∨ t = 16 ∨ t = 17 ∨ t = 18 ∨ t = 19 ∨ t = 20 ∨ t = 21 ∨ t = 22 ∨ t = 23 ∨ t = 24 ∨ t = 25 ∨ t = 26 ∨ t = 27 ∨ t = 28 ∨ t = 29 ∨ t = 30 ∨ t = 31 ∨ t = 32 ∨ t = 33 ∨ t = 34 := by omega
theorem tg_14_16 {t : Nat} (h1 : 14 ≤ t) (h2 : t ≤ 16) : t = 14 ∨ t = 15 ∨ t = 16 := by omega
theorem tg_19_22 {t : Nat} (h1 : 19 ≤ t) (h2 : t ≤ 22) : t = 19 ∨ t = 20 ∨ t = 21 ∨ t = 22 := by omega
theorem tg_44_47 {t : Nat} (h1 : 44 ≤ t) (h2 : t ≤ 47) : t = 44 ∨ t = 45 ∨ t = 46 ∨ t = 47 := by omega
theorem tg_49_50 {t : Nat} (h1 : 49 ≤ t) (h2 : t ≤ 50) : t = 49 ∨ t = 50 := by omega
theorem tg_49_52 {t : Nat} (h1 : 49 ≤ t) (h2 : t ≤ 52) : t = 49 ∨ t = 50 ∨ t = 51 ∨ t = 52 := by omega
theorem tg_51_52 {t : Nat} (h1 : 51 ≤ t) (h2 : t ≤ 52) : t = 51 ∨ t = 52 := by omega
theorem asc_s {α : Type} : ∀ {l : List (Nat × α)} {t : Nat} {m : α}, asc l t = some m → (t, m) ∈ l
  | [], _, _, h => by cases h
  | (k, v) :: l, t, m, h => by
    unfold asc at h
    cases hq : Nat.beq k t with
    | true => rw [hq] at h; cases h; rw [Nat.beq_eq.mp hq]; exact List.mem_cons_self
    | false => rw [hq] at h; exact List.mem_cons_of_mem _ (asc_s h)
theorem dsp_0 {t m : Nat} (h : dsp 0 t = some m) : (t = 11 ∧ m = 154425521) ∨ (t = 12 ∧ m = 131358913) ∨ (t = 13 ∧ m = 130050257) ∨ (t = 14 ∧ m = 129003745) ∨ (t = 15 ∧ m = 158103793) ∨ (t = 16 ∧ m = 159416577) ∨ (t = 17 ∧ m = 125602065) ∨ (t = 18 ∧ m = 139235617) ∨ (t = 19 ∧ m = 149723441) ∨ (t = 20 ∧ m = 145269057) ∨ (t = 21 ∧ m = 123513169) ∨ (t = 22 ∧ m = 147370337) ∨ (t = 23 ∧ m = 136362353) ∨ (t = 24 ∧ m = 141607297) ∨ (t = 25 ∧ m = 155765137) ∨ (t = 26 ∧ m = 152883617) ∨ (t = 27 ∧ m = 156817841) ∨ (t = 28 ∧ m = 142664129) ∨ (t = 29 ∧ m = 150792657) ∨ (t = 30 ∧ m = 127201761) ∨ (t = 31 ∧ m = 140311025) ∨ (t = 32 ∧ m = 124584449) ∨ (t = 33 ∧ m = 132975121) ∨ (t = 34 ∧ m = 143725089) := by
  have h1 := asc_s (show asc _ t = some m from h)
  simp only [List.mem_cons, List.not_mem_nil, or_false, Prod.mk.injEq] at h1
  exact h1
theorem dsp_1 {t m : Nat} (h : dsp 1 t = some m) : (t = 11 ∧ m = 118821042) ∨ (t = 12 ∧ m = 118821042) ∨ (t = 13 ∧ m = 118821042) ∨ (t = 14 ∧ m = 118821042) ∨ (t = 15 ∧ m = 118821042) ∨ (t = 16 ∧ m = 118821042) ∨ (t = 17 ∧ m = 118821042) ∨ (t = 18 ∧ m = 118821042) ∨ (t = 19 ∧ m = 118821042) ∨ (t = 20 ∧ m = 118821042) ∨ (t = 21 ∧ m = 122202450) ∨ (t = 22 ∧ m = 118821042) ∨ (t = 23 ∧ m = 118821042) ∨ (t = 24 ∧ m = 118821042) ∨ (t = 25 ∧ m = 118821042) ∨ (t = 26 ∧ m = 151572898) ∨ (t = 27 ∧ m = 118821042) ∨ (t = 28 ∧ m = 142401986) ∨ (t = 29 ∧ m = 118821042) ∨ (t = 30 ∧ m = 126415330) ∨ (t = 31 ∧ m = 118821042) ∨ (t = 32 ∧ m = 118821042) ∨ (t = 33 ∧ m = 118821042) ∨ (t = 34 ∧ m = 143462946) := by
  have h1 := asc_s (show asc _ t = some m from h)
  simp only [List.mem_cons, List.not_mem_nil, or_false, Prod.mk.injEq] at h1
  exact h1
theorem dsp_2 {t m : Nat} (h : dsp 2 t = some m) : (t = 11 ∧ m = 154163379) ∨ (t = 12 ∧ m = 130834627) ∨ (t = 13 ∧ m = 120131763) ∨ (t = 14 ∧ m = 128741603) ∨ (t = 15 ∧ m = 120131763) ∨ (t = 16 ∧ m = 159154435) ∨ (t = 17 ∧ m = 120131763) ∨ (t = 18 ∧ m = 120131763) ∨ (t = 19 ∧ m = 149461299) ∨ (t = 20 ∧ m = 145006915) ∨ (t = 21 ∧ m = 122988883) ∨ (t = 22 ∧ m = 146583907) ∨ (t = 23 ∧ m = 134003059) ∨ (t = 24 ∧ m = 141083011) ∨ (t = 25 ∧ m = 120131763) ∨ (t = 26 ∧ m = 151835043) ∨ (t = 27 ∧ m = 120131763) ∨ (t = 28 ∧ m = 120131763) ∨ (t = 29 ∧ m = 120131763) ∨ (t = 30 ∧ m = 126939619) ∨ (t = 31 ∧ m = 120131763) ∨ (t = 32 ∧ m = 120131763) ∨ (t = 33 ∧ m = 132188691) ∨ (t = 34 ∧ m = 120131763) := by
  have h1 := asc_s (show asc _ t = some m from h)
  simp only [List.mem_cons, List.not_mem_nil, or_false, Prod.mk.injEq] at h1
  exact h1
theorem dsp_3 {t m : Nat} (h : dsp 3 t = some m) : (t = 11 ∧ m = 120393906) ∨ (t = 12 ∧ m = 131096770) ∨ (t = 13 ∧ m = 129788114) ∨ (t = 14 ∧ m = 120393906) ∨ (t = 15 ∧ m = 120393906) ∨ (t = 16 ∧ m = 120393906) ∨ (t = 17 ∧ m = 120393906) ∨ (t = 18 ∧ m = 138973474) ∨ (t = 19 ∧ m = 121418034) ∨ (t = 20 ∧ m = 121418034) ∨ (t = 21 ∧ m = 121418034) ∨ (t = 22 ∧ m = 121418034) ∨ (t = 23 ∧ m = 134265202) ∨ (t = 24 ∧ m = 141345154) ∨ (t = 25 ∧ m = 155240850) ∨ (t = 26 ∧ m = 152359330) ∨ (t = 27 ∧ m = 120393906) ∨ (t = 28 ∧ m = 120393906) ∨ (t = 29 ∧ m = 150530514) ∨ (t = 30 ∧ m = 120393906) ∨ (t = 31 ∧ m = 140048882) ∨ (t = 32 ∧ m = 120393906) ∨ (t = 33 ∧ m = 132450834) ∨ (t = 34 ∧ m = 120393906) := by
  have h1 := asc_s (show asc _ t = some m from h)
  simp only [List.mem_cons, List.not_mem_nil, or_false, Prod.mk.injEq] at h1
  exact h1
theorem dsp_4 {t m : Nat} (h : dsp 4 t = some m) : (t = 11 ∧ m = 120656051) ∨ (t = 12 ∧ m = 120656051) ∨ (t = 13 ∧ m = 120656051) ∨ (t = 14 ∧ m = 120656051) ∨ (t = 15 ∧ m = 120656051) ∨ (t = 16 ∧ m = 120656051) ∨ (t = 17 ∧ m = 120656051) ∨ (t = 18 ∧ m = 120656051) ∨ (t = 19 ∧ m = 120656051) ∨ (t = 20 ∧ m = 120656051) ∨ (t = 21 ∧ m = 120656051) ∨ (t = 22 ∧ m = 147108195) ∨ (t = 23 ∧ m = 120656051) ∨ (t = 24 ∧ m = 120656051) ∨ (t = 25 ∧ m = 120656051) ∨ (t = 26 ∧ m = 152621475) ∨ (t = 27 ∧ m = 120656051) ∨ (t = 28 ∧ m = 120656051) ∨ (t = 29 ∧ m = 120656051) ∨ (t = 30 ∧ m = 120656051) ∨ (t = 31 ∧ m = 120656051) ∨ (t = 32 ∧ m = 120656051) ∨ (t = 33 ∧ m = 120656051) ∨ (t = 34 ∧ m = 120656051) := by
  have h1 := asc_s (show asc _ t = some m from h)
  simp only [List.mem_cons, List.not_mem_nil, or_false, Prod.mk.injEq] at h1
  exact h1
theorem dsp_5 {t m : Nat} (h : dsp 5 t = some m) : (t = 11 ∧ m = 119083185) ∨ (t = 12 ∧ m = 119083185) ∨ (t = 13 ∧ m = 119083185) ∨ (t = 14 ∧ m = 119083185) ∨ (t = 15 ∧ m = 119083185) ∨ (t = 16 ∧ m = 119083185) ∨ (t = 17 ∧ m = 119083185) ∨ (t = 18 ∧ m = 119083185) ∨ (t = 19 ∧ m = 148937009) ∨ (t = 20 ∧ m = 144482625) ∨ (t = 21 ∧ m = 122464593) ∨ (t = 22 ∧ m = 146059617) ∨ (t = 23 ∧ m = 119083185) ∨ (t = 24 ∧ m = 119083185) ∨ (t = 25 ∧ m = 119083185) ∨ (t = 26 ∧ m = 119083185) ∨ (t = 27 ∧ m = 119083185) ∨ (t = 28 ∧ m = 119083185) ∨ (t = 29 ∧ m = 119083185) ∨ (t = 30 ∧ m = 119083185) ∨ (t = 31 ∧ m = 119083185) ∨ (t = 32 ∧ m = 119083185) ∨ (t = 33 ∧ m = 119083185) ∨ (t = 34 ∧ m = 119083185) := by
  have h1 := asc_s (show asc _ t = some m from h)
  simp only [List.mem_cons, List.not_mem_nil, or_false, Prod.mk.injEq] at h1
  exact h1
theorem dsp_6 {t m : Nat} (h : dsp 6 t = some m) : (t = 11 ∧ m = 119345330) ∨ (t = 12 ∧ m = 119345330) ∨ (t = 13 ∧ m = 119345330) ∨ (t = 14 ∧ m = 119345330) ∨ (t = 15 ∧ m = 119345330) ∨ (t = 16 ∧ m = 119345330) ∨ (t = 17 ∧ m = 119345330) ∨ (t = 18 ∧ m = 119345330) ∨ (t = 19 ∧ m = 149199154) ∨ (t = 20 ∧ m = 144744770) ∨ (t = 21 ∧ m = 122726738) ∨ (t = 22 ∧ m = 146321762) ∨ (t = 23 ∧ m = 119345330) ∨ (t = 24 ∧ m = 119345330) ∨ (t = 25 ∧ m = 119345330) ∨ (t = 26 ∧ m = 119345330) ∨ (t = 27 ∧ m = 119345330) ∨ (t = 28 ∧ m = 119345330) ∨ (t = 29 ∧ m = 119345330) ∨ (t = 30 ∧ m = 119345330) ∨ (t = 31 ∧ m = 119345330) ∨ (t = 32 ∧ m = 119345330) ∨ (t = 33 ∧ m = 119345330) ∨ (t = 34 ∧ m = 119345330) := by
  have h1 := asc_s (show asc _ t = some m from h)
  simp only [List.mem_cons, List.not_mem_nil, or_false, Prod.mk.injEq] at h1
  exact h1
theorem dsp_7 {t m : Nat} (h : dsp 7 t = some m) : (t = 11 ∧ m = 119607475) ∨ (t = 12 ∧ m = 119607475) ∨ (t = 13 ∧ m = 119607475) ∨ (t = 14 ∧ m = 119607475) ∨ (t = 15 ∧ m = 119607475) ∨ (t = 16 ∧ m = 119607475) ∨ (t = 17 ∧ m = 125339923) ∨ (t = 18 ∧ m = 119607475) ∨ (t = 19 ∧ m = 119607475) ∨ (t = 20 ∧ m = 119607475) ∨ (t = 21 ∧ m = 119607475) ∨ (t = 22 ∧ m = 119607475) ∨ (t = 23 ∧ m = 119607475) ∨ (t = 24 ∧ m = 119607475) ∨ (t = 25 ∧ m = 119607475) ∨ (t = 26 ∧ m = 119607475) ∨ (t = 27 ∧ m = 156555699) ∨ (t = 28 ∧ m = 119607475) ∨ (t = 29 ∧ m = 119607475) ∨ (t = 30 ∧ m = 119607475) ∨ (t = 31 ∧ m = 119607475) ∨ (t = 32 ∧ m = 124322307) ∨ (t = 33 ∧ m = 119607475) ∨ (t = 34 ∧ m = 119607475) := by
  have h1 := asc_s (show asc _ t = some m from h)
  simp only [List.mem_cons, List.not_mem_nil, or_false, Prod.mk.injEq] at h1
  exact h1
theorem dsp_8 {t m : Nat} (h : dsp 8 t = some m) : (t = 11 ∧ m = 154687667) ∨ (t = 12 ∧ m = 131621059) ∨ (t = 13 ∧ m = 130312403) ∨ (t = 14 ∧ m = 129265891) ∨ (t = 15 ∧ m = 158365939) ∨ (t = 16 ∧ m = 159678723) ∨ (t = 17 ∧ m = 125864211) ∨ (t = 18 ∧ m = 139497763) ∨ (t = 19 ∧ m = 149985587) ∨ (t = 20 ∧ m = 145531203) ∨ (t = 21 ∧ m = 123775315) ∨ (t = 22 ∧ m = 147632483) ∨ (t = 23 ∧ m = 136624499) ∨ (t = 24 ∧ m = 141869443) ∨ (t = 25 ∧ m = 156027283) ∨ (t = 26 ∧ m = 153145763) ∨ (t = 27 ∧ m = 157079987) ∨ (t = 28 ∧ m = 142926275) ∨ (t = 29 ∧ m = 151054803) ∨ (t = 30 ∧ m = 127463907) ∨ (t = 31 ∧ m = 140573171) ∨ (t = 32 ∧ m = 124846595) ∨ (t = 33 ∧ m = 133237267) ∨ (t = 34 ∧ m = 143987235) := by
  have h1 := asc_s (show asc _ t = some m from h)
  simp only [List.mem_cons, List.not_mem_nil, or_false, Prod.mk.injEq] at h1
  exact h1
theorem dsp_9 {t m : Nat} (h : dsp 9 t = some m) : (t = 30 ∧ m = 118558898) := by
  have h1 := asc_s (show asc _ t = some m from h)
  simp only [List.mem_cons, List.not_mem_nil, or_false, Prod.mk.injEq] at h1
  exact h1
theorem dsp_10 {t m : Nat} (h : dsp 10 t = some m) : (t = 21 ∧ m = 118296754) := by
  have h1 := asc_s (show asc _ t = some m from h)
  simp only [List.mem_cons, List.not_mem_nil, or_false, Prod.mk.injEq] at h1
  exact h1
theorem dsp_11 {t m : Nat} (h : dsp 11 t = some m) : (t = 21 ∧ m = 118558898) := by
  have h1 := asc_s (show asc _ t = some m from h)
  simp only [List.mem_cons, List.not_mem_nil, or_false, Prod.mk.injEq] at h1
  exact h1
theorem dsp_12 {t m : Nat} (h : dsp 12 t = some m) : (t = 30 ∧ m = 118296754) := by
  have h1 := asc_s (show asc _ t = some m from h)
  simp only [List.mem_cons, List.not_mem_nil, or_false, Prod.mk.injEq] at h1
  exact h1
theorem dsp_13 {t m : Nat} (h : dsp 13 t = some m) : (t = 14 ∧ m = 118296754) := by
  have h1 := asc_s (show asc _ t = some m from h)
  simp only [List.mem_cons, List.not_mem_nil, or_false, Prod.mk.injEq] at h1
  exact h1
theorem dsp_14 {t m : Nat} (h : dsp 14 t = some m) : (t = 13 ∧ m = 118296754) := by
  have h1 := asc_s (show asc _ t = some m from h)
  simp only [List.mem_cons, List.not_mem_nil, or_false, Prod.mk.injEq] at h1
  exact h1
theorem dsp_15 {t m : Nat} (h : dsp 15 t = some m) : (t = 23 ∧ m = 118296754) := by
  have h1 := asc_s (show asc _ t = some m from h)
  simp only [List.mem_cons, List.not_mem_nil, or_false, Prod.mk.injEq] at h1
  exact h1
theorem dsp_16 {t m : Nat} (h : dsp 16 t = some m) : (t = 18 ∧ m = 118296754) := by
  have h1 := asc_s (show asc _ t = some m from h)
  simp only [List.mem_cons, List.not_mem_nil, or_false, Prod.mk.injEq] at h1
  exact h1
theorem dsp_17 {t m : Nat} (h : dsp 17 t = some m) : (t = 31 ∧ m = 118296754) := by
  have h1 := asc_s (show asc _ t = some m from h)
  simp only [List.mem_cons, List.not_mem_nil, or_false, Prod.mk.injEq] at h1
  exact h1
theorem dsp_18 {t m : Nat} (h : dsp 18 t = some m) : (t = 29 ∧ m = 118296754) := by
  have h1 := asc_s (show asc _ t = some m from h)
  simp only [List.mem_cons, List.not_mem_nil, or_false, Prod.mk.injEq] at h1
  exact h1
theorem dsp_19 {t m : Nat} (h : dsp 19 t = some m) : (t = 20 ∧ m = 118296754) := by
  have h1 := asc_s (show asc _ t = some m from h)
  simp only [List.mem_cons, List.not_mem_nil, or_false, Prod.mk.injEq] at h1
  exact h1
theorem dsp_20 {t m : Nat} (h : dsp 20 t = some m) : (t = 22 ∧ m = 118296754) := by
  have h1 := asc_s (show asc _ t = some m from h)
  simp only [List.mem_cons, List.not_mem_nil, or_false, Prod.mk.injEq] at h1
  exact h1
theorem dsp_21 {t m : Nat} (h : dsp 21 t = some m) : (t = 17 ∧ m = 118296754) := by
  have h1 := asc_s (show asc _ t = some m from h)
  simp only [List.mem_cons, List.not_mem_nil, or_false, Prod.mk.injEq] at h1
  exact h1
theorem dsp_22 {t m : Nat} (h : dsp 22 t = some m) : (t = 19 ∧ m = 118296754) := by
  have h1 := asc_s (show asc _ t = some m from h)
  simp only [List.mem_cons, List.not_mem_nil, or_false, Prod.mk.injEq] at h1
  exact h1
theorem dsp_23 {t m : Nat} (h : dsp 23 t = some m) : (t = 11 ∧ m = 118296754) := by
  have h1 := asc_s (show asc _ t = some m from h)
  simp only [List.mem_cons, List.not_mem_nil, or_false, Prod.mk.injEq] at h1
  exact h1
theorem dsp_24 {t m : Nat} (h : dsp 24 t = some m) : (t = 25 ∧ m = 118296754) := by
  have h1 := asc_s (show asc _ t = some m from h)
  simp only [List.mem_cons, List.not_mem_nil, or_false, Prod.mk.injEq] at h1
  exact h1
theorem dsp_25 {t m : Nat} (h : dsp 25 t = some m) : (t = 15 ∧ m = 118296754) := by
  have h1 := asc_s (show asc _ t = some m from h)
  simp only [List.mem_cons, List.not_mem_nil, or_false, Prod.mk.injEq] at h1
  exact h1
theorem dsp_26 {t m : Nat} (h : dsp 26 t = some m) : (t = 16 ∧ m = 118296754) := by
  have h1 := asc_s (show asc _ t = some m from h)
  simp only [List.mem_cons, List.not_mem_nil, or_false, Prod.mk.injEq] at h1
  exact h1
theorem dsp_27 {t m : Nat} (h : dsp 27 t = some m) : (t = 19 ∧ m = 121680178) ∨ (t = 20 ∧ m = 121680178) ∨ (t = 21 ∧ m = 123251026) ∨ (t = 22 ∧ m = 121680178) := by
  have h1 := asc_s (show asc _ t = some m from h)
  simp only [List.mem_cons, List.not_mem_nil, or_false, Prod.mk.injEq] at h1
  exact h1
theorem dsp_28 {t m : Nat} (h : dsp 28 t = some m) : (t = 14 ∧ m = 128479458) ∨ (t = 15 ∧ m = 157579506) ∨ (t = 16 ∧ m = 158892290) := by
  have h1 := asc_s (show asc _ t = some m from h)
  simp only [List.mem_cons, List.not_mem_nil, or_false, Prod.mk.injEq] at h1
  exact h1
theorem dsp_29 {t m : Nat} (h : dsp 29 t = some m) : (t = 17 ∧ m = 118558898) := by
  have h1 := asc_s (show asc _ t = some m from h)
  simp only [List.mem_cons, List.not_mem_nil, or_false, Prod.mk.injEq] at h1
  exact h1
theorem dsp_30 {t m : Nat} (h : dsp 30 t = some m) : (t = 14 ∧ m = 118558898) := by
  have h1 := asc_s (show asc _ t = some m from h)
  simp only [List.mem_cons, List.not_mem_nil, or_false, Prod.mk.injEq] at h1
  exact h1
theorem dsp_31 {t m : Nat} (h : dsp 31 t = some m) : (t = 13 ∧ m = 118558898) := by
  have h1 := asc_s (show asc _ t = some m from h)
  simp only [List.mem_cons, List.not_mem_nil, or_false, Prod.mk.injEq] at h1
  exact h1
theorem dsp_32 {t m : Nat} (h : dsp 32 t = some m) : (t = 12 ∧ m = 118558898) := by
  have h1 := asc_s (show asc _ t = some m from h)
  simp only [List.mem_cons, List.not_mem_nil, or_false, Prod.mk.injEq] at h1
  exact h1
theorem dsp_33 {t m : Nat} (h : dsp 33 t = some m) : (t = 33 ∧ m = 118558898) := by
  have h1 := asc_s (show asc _ t = some m from h)
  simp only [List.mem_cons, List.not_mem_nil, or_false, Prod.mk.injEq] at h1
  exact h1
theorem dsp_34 {t m : Nat} (h : dsp 34 t = some m) : (t = 23 ∧ m = 118558898) := by
  have h1 := asc_s (show asc _ t = some m from h)
  simp only [List.mem_cons, List.not_mem_nil, or_false, Prod.mk.injEq] at h1
  exact h1
theorem dsp_35 {t m : Nat} (h : dsp 35 t = some m) : (t = 18 ∧ m = 118558898) := by
  have h1 := asc_s (show asc _ t = some m from h)
  simp only [List.mem_cons, List.not_mem_nil, or_false, Prod.mk.injEq] at h1
  exact h1
theorem dsp_36 {t m : Nat} (h : dsp 36 t = some m) : (t = 31 ∧ m = 118558898) := by
  have h1 := asc_s (show asc _ t = some m from h)
  simp only [List.mem_cons, List.not_mem_nil, or_false, Prod.mk.injEq] at h1
  exact h1
theorem dsp_37 {t m : Nat} (h : dsp 37 t = some m) : (t = 24 ∧ m = 118558898) := by
  have h1 := asc_s (show asc _ t = some m from h)
  simp only [List.mem_cons, List.not_mem_nil, or_false, Prod.mk.injEq] at h1
  exact h1
theorem dsp_38 {t m : Nat} (h : dsp 38 t = some m) : (t = 20 ∧ m = 118558898) := by
  have h1 := asc_s (show asc _ t = some m from h)
  simp only [List.mem_cons, List.not_mem_nil, or_false, Prod.mk.injEq] at h1
  exact h1
theorem dsp_39 {t m : Nat} (h : dsp 39 t = some m) : (t = 22 ∧ m = 118558898) := by
  have h1 := asc_s (show asc _ t = some m from h)
  simp only [List.mem_cons, List.not_mem_nil, or_false, Prod.mk.injEq] at h1
  exact h1
theorem dsp_40 {t m : Nat} (h : dsp 40 t = some m) : (t = 19 ∧ m = 118558898) := by
  have h1 := asc_s (show asc _ t = some m from h)
  simp only [List.mem_cons, List.not_mem_nil, or_false, Prod.mk.injEq] at h1
  exact h1
theorem dsp_41 {t m : Nat} (h : dsp 41 t = some m) : (t = 29 ∧ m = 118558898) := by
  have h1 := asc_s (show asc _ t = some m from h)
  simp only [List.mem_cons, List.not_mem_nil, or_false, Prod.mk.injEq] at h1
  exact h1
theorem dsp_42 {t m : Nat} (h : dsp 42 t = some m) : (t = 26 ∧ m = 118558898) := by
  have h1 := asc_s (show asc _ t = some m from h)
  simp only [List.mem_cons, List.not_mem_nil, or_false, Prod.mk.injEq] at h1
  exact h1
theorem dsp_43 {t m : Nat} (h : dsp 43 t = some m) : (t = 11 ∧ m = 118558898) := by
  have h1 := asc_s (show asc _ t = some m from h)
  simp only [List.mem_cons, List.not_mem_nil, or_false, Prod.mk.injEq] at h1
  exact h1
theorem dsp_44 {t m : Nat} (h : dsp 44 t = some m) : (t = 25 ∧ m = 118558898) := by
  have h1 := asc_s (show asc _ t = some m from h)
  simp only [List.mem_cons, List.not_mem_nil, or_false, Prod.mk.injEq] at h1
  exact h1
theorem dsp_45 {t m : Nat} (h : dsp 45 t = some m) : (t = 15 ∧ m = 118558898) := by
  have h1 := asc_s (show asc _ t = some m from h)
  simp only [List.mem_cons, List.not_mem_nil, or_false, Prod.mk.injEq] at h1
  exact h1
theorem dsp_46 {t m : Nat} (h : dsp 46 t = some m) : (t = 16 ∧ m = 118558898) := by
  have h1 := asc_s (show asc _ t = some m from h)
  simp only [List.mem_cons, List.not_mem_nil, or_false, Prod.mk.injEq] at h1
  exact h1
theorem dsp_47 {t m : Nat} (h : dsp 47 t = some m) : (t = 9 ∧ m = 175749138) ∨ (t = 41 ∧ m = 175749138) ∨ (t = 51 ∧ m = 171549490) ∨ (t = 52 ∧ m = 171549490) := by
  have h1 := asc_s (show asc _ t = some m from h)
  simp only [List.mem_cons, List.not_mem_nil, or_false, Prod.mk.injEq] at h1
  exact h1
theorem ow29_k : ∀ q ∈ ([] : List (Nat × Int)), Cond.constant "AlgolHouse$Parser" q.1 (Int32.ofInt q.2) ∈ lw_all := fun q h => by cases h
theorem ow29_l : ∀ q ∈ ([(121, 61), (139, 33), (141, 38), (143, 15663), (145, 43), (147, 45), (149, 42), (151, 47), (153, 37), (166, 126), (168, 91), (234, 40), (242, 44), (244, 41), (266, 93), (272, 58), (301, 59), (361, 9), (413, 15674)] : List (Nat × Int)), Cond.constantLong "AlgolHouse$Parser" q.1 (Int64.ofInt q.2) ∈ lw_all := List.forall_mem_cons.mpr ⟨lw_g (lw_at lw_m6 156 rfl) rfl, List.forall_mem_cons.mpr ⟨lw_g (lw_at lw_m8 128 rfl) rfl, List.forall_mem_cons.mpr ⟨lw_g (lw_at lw_m8 129 rfl) rfl, List.forall_mem_cons.mpr ⟨lw_g (lw_at lw_m8 130 rfl) rfl, List.forall_mem_cons.mpr ⟨lw_g (lw_at lw_m8 131 rfl) rfl, List.forall_mem_cons.mpr ⟨lw_g (lw_at lw_m8 132 rfl) rfl, List.forall_mem_cons.mpr ⟨lw_g (lw_at lw_m8 133 rfl) rfl, List.forall_mem_cons.mpr ⟨lw_g (lw_at lw_m8 134 rfl) rfl, List.forall_mem_cons.mpr ⟨lw_g (lw_at lw_m8 135 rfl) rfl, List.forall_mem_cons.mpr ⟨lw_g (lw_at lw_m8 122 rfl) rfl, List.forall_mem_cons.mpr ⟨lw_g (lw_at lw_m6 175 rfl) rfl, List.forall_mem_cons.mpr ⟨lw_g (lw_at lw_m6 210 rfl) rfl, List.forall_mem_cons.mpr ⟨lw_g (lw_at lw_m7 16 rfl) rfl, List.forall_mem_cons.mpr ⟨lw_g (lw_at lw_m6 215 rfl) rfl, List.forall_mem_cons.mpr ⟨lw_g (lw_at lw_m6 189 rfl) rfl, List.forall_mem_cons.mpr ⟨lw_g (lw_at lw_m7 222 rfl) rfl, List.forall_mem_cons.mpr ⟨lw_g (lw_at lw_m10 120 rfl) rfl, List.forall_mem_cons.mpr ⟨lw_g (lw_at lw_m10 141 rfl) rfl, List.forall_mem_cons.mpr ⟨lw_g (lw_at lw_m10 47 rfl) rfl, fun q h => by cases h⟩⟩⟩⟩⟩⟩⟩⟩⟩⟩⟩⟩⟩⟩⟩⟩⟩⟩⟩
theorem ow29_0 : ∀ q ∈ ([(12, 1302612114), (18, 1311000722), (21, 1319389330), (24, 1327777938), (27, 1336166546), (30, 1344555154), (33, 1277446290), (37, 1352943762), (50, 327485974), (56, 1285834896), (60, 319097366), (64, 344263188), (83, 335874582), (126, 1294223504), (195, 663294501), (236, 646517286), (250, 671683110), (257, 654905894), (274, 1361332370), (278, 1369720978), (281, 638128676), (415, 1117666426), (421, 1126055034), (426, 1134443642), (433, 100795400), (534, 748831790), (603, 957754458), (622, 966143066), (647, 748831790), (662, 109184010), (675, 92406792)] : List (Nat × Nat)), q.2 ∈ iFs ∧ FLk "AlgolHouse$Parser" q.1 q.2 := List.forall_mem_cons.mpr ⟨⟨List.mem_of_getElem? (i := 155) rfl, ⟨"AlgolHouse$Parser", Or.inl (lw_g (lw_at lw_m5 32 rfl) rfl), Or.inl rfl⟩⟩, List.forall_mem_cons.mpr ⟨⟨List.mem_of_getElem? (i := 156) rfl, ⟨"AlgolHouse$Parser", Or.inl (lw_g (lw_at lw_m5 33 rfl) rfl), Or.inl rfl⟩⟩, List.forall_mem_cons.mpr ⟨⟨List.mem_of_getElem? (i := 157) rfl, ⟨"AlgolHouse$Parser", Or.inl (lw_g (lw_at lw_m5 34 rfl) rfl), Or.inl rfl⟩⟩, List.forall_mem_cons.mpr ⟨⟨List.mem_of_getElem? (i := 158) rfl, ⟨"AlgolHouse$Parser", Or.inl (lw_g (lw_at lw_m5 35 rfl) rfl), Or.inl rfl⟩⟩, List.forall_mem_cons.mpr ⟨⟨List.mem_of_getElem? (i := 159) rfl, ⟨"AlgolHouse$Parser", Or.inl (lw_g (lw_at lw_m5 36 rfl) rfl), Or.inl rfl⟩⟩, List.forall_mem_cons.mpr ⟨⟨List.mem_of_getElem? (i := 160) rfl, ⟨"AlgolHouse$Parser", Or.inl (lw_g (lw_at lw_m5 37 rfl) rfl), Or.inl rfl⟩⟩, List.forall_mem_cons.mpr ⟨⟨List.mem_of_getElem? (i := 152) rfl, ⟨"AlgolHouse$Parser", Or.inl (lw_g (lw_at lw_m5 29 rfl) rfl), Or.inl rfl⟩⟩, List.forall_mem_cons.mpr ⟨⟨List.mem_of_getElem? (i := 161) rfl, ⟨"AlgolHouse$Parser", Or.inl (lw_g (lw_at lw_m5 38 rfl) rfl), Or.inl rfl⟩⟩, List.forall_mem_cons.mpr ⟨⟨List.mem_of_getElem? (i := 39) rfl, ⟨"AlgolHouse$Lexer", Or.inr ⟨_, lw_at lw_m1 147 rfl⟩, Or.inl rfl⟩⟩, List.forall_mem_cons.mpr ⟨⟨List.mem_of_getElem? (i := 153) rfl, ⟨"AlgolHouse$Parser", Or.inl (lw_g (lw_at lw_m5 30 rfl) rfl), Or.inl rfl⟩⟩, List.forall_mem_cons.mpr ⟨⟨List.mem_of_getElem? (i := 38) rfl, ⟨"AlgolHouse$Lexer", Or.inr ⟨_, lw_at lw_m1 145 rfl⟩, Or.inl rfl⟩⟩, List.forall_mem_cons.mpr ⟨⟨List.mem_of_getElem? (i := 41) rfl, ⟨"AlgolHouse$Lexer", Or.inr ⟨_, lw_at lw_m1 151 rfl⟩, Or.inl rfl⟩⟩, List.forall_mem_cons.mpr ⟨⟨List.mem_of_getElem? (i := 40) rfl, ⟨"AlgolHouse$Lexer", Or.inr ⟨_, lw_at lw_m1 149 rfl⟩, Or.inl rfl⟩⟩, List.forall_mem_cons.mpr ⟨⟨List.mem_of_getElem? (i := 154) rfl, ⟨"AlgolHouse$Parser", Or.inl (lw_g (lw_at lw_m5 31 rfl) rfl), Or.inl rfl⟩⟩, List.forall_mem_cons.mpr ⟨⟨List.mem_of_getElem? (i := 79) rfl, ⟨"AlgolHouse$Mode", Or.inr ⟨_, lw_at lw_m3 93 rfl⟩, Or.inl rfl⟩⟩, List.forall_mem_cons.mpr ⟨⟨List.mem_of_getElem? (i := 77) rfl, ⟨"AlgolHouse$Mode", Or.inr ⟨_, lw_at lw_m3 89 rfl⟩, Or.inl rfl⟩⟩, List.forall_mem_cons.mpr ⟨⟨List.mem_of_getElem? (i := 80) rfl, ⟨"AlgolHouse$Mode", Or.inr ⟨_, lw_at lw_m3 106 rfl⟩, Or.inl rfl⟩⟩, List.forall_mem_cons.mpr ⟨⟨List.mem_of_getElem? (i := 78) rfl, ⟨"AlgolHouse$Mode", Or.inr ⟨_, lw_at lw_m3 92 rfl⟩, Or.inl rfl⟩⟩, List.forall_mem_cons.mpr ⟨⟨List.mem_of_getElem? (i := 162) rfl, ⟨"AlgolHouse$Parser", Or.inl (lw_g (lw_at lw_m5 39 rfl) rfl), Or.inl rfl⟩⟩, List.forall_mem_cons.mpr ⟨⟨List.mem_of_getElem? (i := 163) rfl, ⟨"AlgolHouse$Parser", Or.inl (lw_g (lw_at lw_m5 40 rfl) rfl), Or.inl rfl⟩⟩, List.forall_mem_cons.mpr ⟨⟨List.mem_of_getElem? (i := 76) rfl, ⟨"AlgolHouse$Mode", Or.inr ⟨_, lw_at lw_m3 80 rfl⟩, Or.inl rfl⟩⟩, List.forall_mem_cons.mpr ⟨⟨List.mem_of_getElem? (i := 133) rfl, ⟨"AlgolHouse$Routine", Or.inr ⟨_, lw_at lw_m7 31 rfl⟩, Or.inl rfl⟩⟩, List.forall_mem_cons.mpr ⟨⟨List.mem_of_getElem? (i := 134) rfl, ⟨"AlgolHouse$Routine", Or.inr ⟨_, lw_at lw_m7 33 rfl⟩, Or.inl rfl⟩⟩, List.forall_mem_cons.mpr ⟨⟨List.mem_of_getElem? (i := 135) rfl, ⟨"AlgolHouse$Routine", Or.inr ⟨_, lw_at lw_m7 35 rfl⟩, Or.inl rfl⟩⟩, List.forall_mem_cons.mpr ⟨⟨List.mem_of_getElem? (i := 12) rfl, ⟨"AlgolHouse$Candidate", Or.inr ⟨_, lw_at lw_m7 98 rfl⟩, Or.inl rfl⟩⟩, List.forall_mem_cons.mpr ⟨⟨List.mem_of_getElem? (i := 89) rfl, ⟨"AlgolHouse$Node", Or.inl (lw_g (lw_at lw_m5 159 rfl) rfl), Or.inl rfl⟩⟩, List.forall_mem_cons.mpr ⟨⟨List.mem_of_getElem? (i := 114) rfl, ⟨"AlgolHouse$When", Or.inr ⟨_, lw_at lw_m9 141 rfl⟩, Or.inl rfl⟩⟩, List.forall_mem_cons.mpr ⟨⟨List.mem_of_getElem? (i := 115) rfl, ⟨"AlgolHouse$When", Or.inr ⟨_, lw_at lw_m9 143 rfl⟩, Or.inl rfl⟩⟩, List.forall_mem_cons.mpr ⟨⟨List.mem_of_getElem? (i := 89) rfl, ⟨"AlgolHouse$Loop", Or.inl (lw_g (lw_at lw_m5 160 rfl) rfl), Or.inr (lw_g (lw_at lw_m5 158 rfl) rfl)⟩⟩, List.forall_mem_cons.mpr ⟨⟨List.mem_of_getElem? (i := 13) rfl, ⟨"AlgolHouse$Candidate", Or.inr ⟨_, lw_at lw_m7 100 rfl⟩, Or.inl rfl⟩⟩, List.forall_mem_cons.mpr ⟨⟨List.mem_of_getElem? (i := 11) rfl, ⟨"AlgolHouse$Candidate", Or.inr ⟨_, lw_at lw_m7 96 rfl⟩, Or.inl rfl⟩⟩, fun q h => by cases h⟩⟩⟩⟩⟩⟩⟩⟩⟩⟩⟩⟩⟩⟩⟩⟩⟩⟩⟩⟩⟩⟩⟩⟩⟩⟩⟩⟩⟩⟩⟩
theorem ow29_1 : ∀ q ∈ ([(56, 1285834896), (126, 1294223504), (195, 663294501), (250, 671683110), (257, 654905894), (274, 1361332370), (278, 1369720978), (435, 1142832250)] : List (Nat × Nat)), q.2 ∈ iFs ∧ PLk "AlgolHouse$Parser" q.1 q.2 := List.forall_mem_cons.mpr ⟨⟨List.mem_of_getElem? (i := 153) rfl, ⟨"AlgolHouse$Parser", Or.inl (lw_g (lw_at lw_m5 30 rfl) rfl), Or.inl rfl⟩, rfl⟩, List.forall_mem_cons.mpr ⟨⟨List.mem_of_getElem? (i := 154) rfl, ⟨"AlgolHouse$Parser", Or.inl (lw_g (lw_at lw_m5 31 rfl) rfl), Or.inl rfl⟩, rfl⟩, List.forall_mem_cons.mpr ⟨⟨List.mem_of_getElem? (i := 79) rfl, ⟨"AlgolHouse$Mode", Or.inr ⟨_, lw_at lw_m3 93 rfl⟩, Or.inl rfl⟩, rfl⟩, List.forall_mem_cons.mpr ⟨⟨List.mem_of_getElem? (i := 80) rfl, ⟨"AlgolHouse$Mode", Or.inr ⟨_, lw_at lw_m3 106 rfl⟩, Or.inl rfl⟩, rfl⟩, List.forall_mem_cons.mpr ⟨⟨List.mem_of_getElem? (i := 78) rfl, ⟨"AlgolHouse$Mode", Or.inr ⟨_, lw_at lw_m3 92 rfl⟩, Or.inl rfl⟩, rfl⟩, List.forall_mem_cons.mpr ⟨⟨List.mem_of_getElem? (i := 162) rfl, ⟨"AlgolHouse$Parser", Or.inl (lw_g (lw_at lw_m5 39 rfl) rfl), Or.inl rfl⟩, rfl⟩, List.forall_mem_cons.mpr ⟨⟨List.mem_of_getElem? (i := 163) rfl, ⟨"AlgolHouse$Parser", Or.inl (lw_g (lw_at lw_m5 40 rfl) rfl), Or.inl rfl⟩, rfl⟩, List.forall_mem_cons.mpr ⟨⟨List.mem_of_getElem? (i := 136) rfl, ⟨"AlgolHouse$Routine", Or.inr ⟨_, lw_at lw_m7 38 rfl⟩, Or.inl rfl⟩, rfl⟩, fun q h => by cases h⟩⟩⟩⟩⟩⟩⟩⟩
theorem ow29_2 : ∀ q ∈ ([(12, 1302612114), (18, 1311000722), (21, 1319389330), (24, 1327777938), (27, 1336166546), (30, 1344555154), (33, 1277446290), (37, 1352943762)] : List (Nat × Nat)), q.2 ∈ iFs ∧ PFk "AlgolHouse$Parser" q.1 q.2 := List.forall_mem_cons.mpr ⟨⟨List.mem_of_getElem? (i := 155) rfl, rfl, rfl, "AlgolHouse$Parser", lw_g (lw_at lw_m5 32 rfl) rfl, Or.inl rfl⟩, List.forall_mem_cons.mpr ⟨⟨List.mem_of_getElem? (i := 156) rfl, rfl, rfl, "AlgolHouse$Parser", lw_g (lw_at lw_m5 33 rfl) rfl, Or.inl rfl⟩, List.forall_mem_cons.mpr ⟨⟨List.mem_of_getElem? (i := 157) rfl, rfl, rfl, "AlgolHouse$Parser", lw_g (lw_at lw_m5 34 rfl) rfl, Or.inl rfl⟩, List.forall_mem_cons.mpr ⟨⟨List.mem_of_getElem? (i := 158) rfl, rfl, rfl, "AlgolHouse$Parser", lw_g (lw_at lw_m5 35 rfl) rfl, Or.inl rfl⟩, List.forall_mem_cons.mpr ⟨⟨List.mem_of_getElem? (i := 159) rfl, rfl, rfl, "AlgolHouse$Parser", lw_g (lw_at lw_m5 36 rfl) rfl, Or.inl rfl⟩, List.forall_mem_cons.mpr ⟨⟨List.mem_of_getElem? (i := 160) rfl, rfl, rfl, "AlgolHouse$Parser", lw_g (lw_at lw_m5 37 rfl) rfl, Or.inl rfl⟩, List.forall_mem_cons.mpr ⟨⟨List.mem_of_getElem? (i := 152) rfl, rfl, rfl, "AlgolHouse$Parser", lw_g (lw_at lw_m5 29 rfl) rfl, Or.inl rfl⟩, List.forall_mem_cons.mpr ⟨⟨List.mem_of_getElem? (i := 161) rfl, rfl, rfl, "AlgolHouse$Parser", lw_g (lw_at lw_m5 38 rfl) rfl, Or.inl rfl⟩, fun q h => by cases h⟩⟩⟩⟩⟩⟩⟩⟩
theorem ow29_3 : ∀ q ∈ ([(77, 3615490050), (95, 3649044482), (118, 3657433090), (123, 3632267266), (129, 3623878658), (136, 3640655874), (287, 3598712834)] : List (Nat × Nat)), q.2 ∈ sFs ∧ FLk "AlgolHouse$Parser" q.1 q.2 := List.forall_mem_cons.mpr ⟨⟨List.mem_of_getElem? (i := 2) rfl, ⟨"AlgolHouse$Token", Or.inl (lw_g (lw_at lw_m6 12 rfl) rfl), Or.inl rfl⟩⟩, List.forall_mem_cons.mpr ⟨⟨List.mem_of_getElem? (i := 6) rfl, ⟨"AlgolHouse$Token", Or.inl (lw_g (lw_at lw_m6 184 rfl) rfl), Or.inl rfl⟩⟩, List.forall_mem_cons.mpr ⟨⟨List.mem_of_getElem? (i := 7) rfl, ⟨"AlgolHouse$Token", Or.inl (lw_g (lw_at lw_m6 155 rfl) rfl), Or.inl rfl⟩⟩, List.forall_mem_cons.mpr ⟨⟨List.mem_of_getElem? (i := 4) rfl, ⟨"AlgolHouse$Token", Or.inl (lw_g (lw_at lw_m7 15 rfl) rfl), Or.inl rfl⟩⟩, List.forall_mem_cons.mpr ⟨⟨List.mem_of_getElem? (i := 3) rfl, ⟨"AlgolHouse$Token", Or.inl (lw_g (lw_at lw_m6 21 rfl) rfl), Or.inl rfl⟩⟩, List.forall_mem_cons.mpr ⟨⟨List.mem_of_getElem? (i := 5) rfl, ⟨"AlgolHouse$Token", Or.inl (lw_g (lw_at lw_m7 7 rfl) rfl), Or.inl rfl⟩⟩, List.forall_mem_cons.mpr ⟨⟨List.mem_of_getElem? (i := 0) rfl, ⟨"AlgolHouse$Token", Or.inl (lw_g (lw_at lw_m10 210 rfl) rfl), Or.inl rfl⟩⟩, fun q h => by cases h⟩⟩⟩⟩⟩⟩⟩
theorem ow29_4 : ∀ q ∈ ([(132, 3674210306), (134, 3682598914), (170, 3724541954), (172, 3716153346), (174, 3732930562), (176, 3741319170), (178, 3749707778), (180, 3758096386), (182, 3766484994), (184, 3774873602), (310, 3690987522), (319, 3699376130), (321, 3707764738), (442, 3783262210), (464, 3992977410), (470, 4001366018), (478, 4009754626), (504, 3791650818), (506, 3800039426), (515, 3808428034), (540, 3816816642), (542, 3825205250), (547, 3833593858), (549, 3841982466), (553, 3850371074), (559, 3858759682), (564, 3867148290), (591, 3875536898), (593, 3883925506), (595, 3892314114), (597, 3900702722), (608, 3909091330), (618, 3917479938), (620, 3925868546), (623, 3934257154), (625, 3942645762), (627, 3951034370), (629, 3959422978), (631, 3967811586), (633, 3976200194), (640, 3984588802)] : List (Nat × Nat)), TLk "AlgolHouse$Parser" q.1 q.2 ∧ q.2 % 4 = 2 := List.forall_mem_cons.mpr ⟨⟨List.mem_of_getElem? (i := 1) rfl, rfl⟩, List.forall_mem_cons.mpr ⟨⟨List.mem_of_getElem? (i := 2) rfl, rfl⟩, List.forall_mem_cons.mpr ⟨⟨List.mem_of_getElem? (i := 7) rfl, rfl⟩, List.forall_mem_cons.mpr ⟨⟨List.mem_of_getElem? (i := 6) rfl, rfl⟩, List.forall_mem_cons.mpr ⟨⟨List.mem_of_getElem? (i := 8) rfl, rfl⟩, List.forall_mem_cons.mpr ⟨⟨List.mem_of_getElem? (i := 9) rfl, rfl⟩, List.forall_mem_cons.mpr ⟨⟨List.mem_of_getElem? (i := 10) rfl, rfl⟩, List.forall_mem_cons.mpr ⟨⟨List.mem_of_getElem? (i := 11) rfl, rfl⟩, List.forall_mem_cons.mpr ⟨⟨List.mem_of_getElem? (i := 12) rfl, rfl⟩, List.forall_mem_cons.mpr ⟨⟨List.mem_of_getElem? (i := 13) rfl, rfl⟩, List.forall_mem_cons.mpr ⟨⟨List.mem_of_getElem? (i := 3) rfl, rfl⟩, List.forall_mem_cons.mpr ⟨⟨List.mem_of_getElem? (i := 4) rfl, rfl⟩, List.forall_mem_cons.mpr ⟨⟨List.mem_of_getElem? (i := 5) rfl, rfl⟩, List.forall_mem_cons.mpr ⟨⟨List.mem_of_getElem? (i := 14) rfl, rfl⟩, List.forall_mem_cons.mpr ⟨⟨List.mem_of_getElem? (i := 39) rfl, rfl⟩, List.forall_mem_cons.mpr ⟨⟨List.mem_of_getElem? (i := 40) rfl, rfl⟩, List.forall_mem_cons.mpr ⟨⟨List.mem_of_getElem? (i := 41) rfl, rfl⟩, List.forall_mem_cons.mpr ⟨⟨List.mem_of_getElem? (i := 15) rfl, rfl⟩, List.forall_mem_cons.mpr ⟨⟨List.mem_of_getElem? (i := 16) rfl, rfl⟩, List.forall_mem_cons.mpr ⟨⟨List.mem_of_getElem? (i := 17) rfl, rfl⟩, List.forall_mem_cons.mpr ⟨⟨List.mem_of_getElem? (i := 18) rfl, rfl⟩, List.forall_mem_cons.mpr ⟨⟨List.mem_of_getElem? (i := 19) rfl, rfl⟩, List.forall_mem_cons.mpr ⟨⟨List.mem_of_getElem? (i := 20) rfl, rfl⟩, List.forall_mem_cons.mpr ⟨⟨List.mem_of_getElem? (i := 21) rfl, rfl⟩, List.forall_mem_cons.mpr ⟨⟨List.mem_of_getElem? (i := 22) rfl, rfl⟩, List.forall_mem_cons.mpr ⟨⟨List.mem_of_getElem? (i := 23) rfl, rfl⟩, List.forall_mem_cons.mpr ⟨⟨List.mem_of_getElem? (i := 24) rfl, rfl⟩, List.forall_mem_cons.mpr ⟨⟨List.mem_of_getElem? (i := 25) rfl, rfl⟩, List.forall_mem_cons.mpr ⟨⟨List.mem_of_getElem? (i := 26) rfl, rfl⟩, List.forall_mem_cons.mpr ⟨⟨List.mem_of_getElem? (i := 27) rfl, rfl⟩, List.forall_mem_cons.mpr ⟨⟨List.mem_of_getElem? (i := 28) rfl, rfl⟩, List.forall_mem_cons.mpr ⟨⟨List.mem_of_getElem? (i := 29) rfl, rfl⟩, List.forall_mem_cons.mpr ⟨⟨List.mem_of_getElem? (i := 30) rfl, rfl⟩, List.forall_mem_cons.mpr ⟨⟨List.mem_of_getElem? (i := 31) rfl, rfl⟩, List.forall_mem_cons.mpr ⟨⟨List.mem_of_getElem? (i := 32) rfl, rfl⟩, List.forall_mem_cons.mpr ⟨⟨List.mem_of_getElem? (i := 33) rfl, rfl⟩, List.forall_mem_cons.mpr ⟨⟨List.mem_of_getElem? (i := 34) rfl, rfl⟩, List.forall_mem_cons.mpr ⟨⟨List.mem_of_getElem? (i := 35) rfl, rfl⟩, List.forall_mem_cons.mpr ⟨⟨List.mem_of_getElem? (i := 36) rfl, rfl⟩, List.forall_mem_cons.mpr ⟨⟨List.mem_of_getElem? (i := 37) rfl, rfl⟩, List.forall_mem_cons.mpr ⟨⟨List.mem_of_getElem? (i := 38) rfl, rfl⟩, fun q h => by cases h⟩⟩⟩⟩⟩⟩⟩⟩⟩⟩⟩⟩⟩⟩⟩⟩⟩⟩⟩⟩⟩⟩⟩⟩⟩⟩⟩⟩⟩⟩⟩⟩⟩⟩⟩⟩⟩⟩⟩⟩⟩
theorem ow29_5 : ∀ q ∈ ([(9, 48), (41, 44), (190, 9), (207, 2), (290, 21), (339, 14), (363, 30), (380, 15), (393, 24), (407, 16), (444, 32), (460, 13), (466, 11), (472, 25), (480, 27), (500, 23), (508, 18), (517, 31), (524, 12), (527, 33), (535, 28), (544, 34), (566, 29), (573, 17), (587, 20), (599, 22), (610, 19), (642, 26)] : List (Nat × Nat)), mdT q.2 = true ∧ NLk "AlgolHouse$Parser" q.1 q.2 := List.forall_mem_cons.mpr ⟨⟨rfl, lw_g (lw_at lw_m5 27 rfl) rfl, lw_g (lw_at lw_m1 187 rfl) rfl, lw_g (lw_at lw_m1 11 rfl) rfl⟩, List.forall_mem_cons.mpr ⟨⟨rfl, lw_g (lw_at lw_m5 232 rfl) rfl, lw_g (lw_at lw_m3 187 rfl) rfl, lw_g (lw_at lw_m1 27 rfl) rfl⟩, List.forall_mem_cons.mpr ⟨⟨rfl, lw_g (lw_at lw_m6 173 rfl) rfl, lw_g (lw_at lw_m2 6 rfl) rfl, lw_g (lw_at lw_m1 13 rfl) rfl⟩, List.forall_mem_cons.mpr ⟨⟨rfl, lw_g (lw_at lw_m7 89 rfl) rfl, lw_g (lw_at lw_m7 90 rfl) rfl, lw_g (lw_at lw_m1 45 rfl) rfl⟩, List.forall_mem_cons.mpr ⟨⟨rfl, lw_g (lw_at lw_m5 74 rfl) rfl, lw_g (lw_at lw_m5 75 rfl) rfl, lw_g (lw_at lw_m1 36 rfl) rfl⟩, List.forall_mem_cons.mpr ⟨⟨rfl, lw_g (lw_at lw_m7 234 rfl) rfl, lw_g (lw_at lw_m7 235 rfl) rfl, lw_g (lw_at lw_m1 47 rfl) rfl⟩, List.forall_mem_cons.mpr ⟨⟨rfl, lw_g (lw_at lw_m7 21 rfl) rfl, lw_g (lw_at lw_m7 22 rfl) rfl, lw_g (lw_at lw_m1 43 rfl) rfl⟩, List.forall_mem_cons.mpr ⟨⟨rfl, lw_g (lw_at lw_m10 147 rfl) rfl, lw_g (lw_at lw_m10 148 rfl) rfl, lw_g (lw_at lw_m1 65 rfl) rfl⟩, List.forall_mem_cons.mpr ⟨⟨rfl, lw_g (lw_at lw_m9 16 rfl) rfl, lw_g (lw_at lw_m9 17 rfl) rfl, lw_g (lw_at lw_m1 54 rfl) rfl⟩, List.forall_mem_cons.mpr ⟨⟨rfl, lw_g (lw_at lw_m10 176 rfl) rfl, lw_g (lw_at lw_m10 177 rfl) rfl, lw_g (lw_at lw_m1 66 rfl) rfl⟩, List.forall_mem_cons.mpr ⟨⟨rfl, lw_g (lw_at lw_m6 195 rfl) rfl, lw_g (lw_at lw_m6 196 rfl) rfl, lw_g (lw_at lw_m1 41 rfl) rfl⟩, List.forall_mem_cons.mpr ⟨⟨rfl, lw_g (lw_at lw_m8 41 rfl) rfl, lw_g (lw_at lw_m8 42 rfl) rfl, lw_g (lw_at lw_m1 48 rfl) rfl⟩, List.forall_mem_cons.mpr ⟨⟨rfl, lw_g (lw_at lw_m10 48 rfl) rfl, lw_g (lw_at lw_m10 49 rfl) rfl, lw_g (lw_at lw_m1 62 rfl) rfl⟩, List.forall_mem_cons.mpr ⟨⟨rfl, lw_g (lw_at lw_m10 67 rfl) rfl, lw_g (lw_at lw_m10 68 rfl) rfl, lw_g (lw_at lw_m1 63 rfl) rfl⟩, List.forall_mem_cons.mpr ⟨⟨rfl, lw_g (lw_at lw_m10 93 rfl) rfl, lw_g (lw_at lw_m10 94 rfl) rfl, lw_g (lw_at lw_m1 64 rfl) rfl⟩, List.forall_mem_cons.mpr ⟨⟨rfl, lw_g (lw_at lw_m8 152 rfl) rfl, lw_g (lw_at lw_m8 153 rfl) rfl, lw_g (lw_at lw_m1 51 rfl) rfl⟩, List.forall_mem_cons.mpr ⟨⟨rfl, lw_g (lw_at lw_m8 194 rfl) rfl, lw_g (lw_at lw_m8 195 rfl) rfl, lw_g (lw_at lw_m1 52 rfl) rfl⟩, List.forall_mem_cons.mpr ⟨⟨rfl, lw_g (lw_at lw_m8 227 rfl) rfl, lw_g (lw_at lw_m8 228 rfl) rfl, lw_g (lw_at lw_m1 53 rfl) rfl⟩, List.forall_mem_cons.mpr ⟨⟨rfl, lw_g (lw_at lw_m8 66 rfl) rfl, lw_g (lw_at lw_m8 67 rfl) rfl, lw_g (lw_at lw_m1 49 rfl) rfl⟩, List.forall_mem_cons.mpr ⟨⟨rfl, lw_g (lw_at lw_m8 84 rfl) rfl, lw_g (lw_at lw_m8 85 rfl) rfl, lw_g (lw_at lw_m1 50 rfl) rfl⟩, List.forall_mem_cons.mpr ⟨⟨rfl, lw_g (lw_at lw_m9 45 rfl) rfl, lw_g (lw_at lw_m9 46 rfl) rfl, lw_g (lw_at lw_m1 55 rfl) rfl⟩, List.forall_mem_cons.mpr ⟨⟨rfl, lw_g (lw_at lw_m9 72 rfl) rfl, lw_g (lw_at lw_m9 73 rfl) rfl, lw_g (lw_at lw_m1 56 rfl) rfl⟩, List.forall_mem_cons.mpr ⟨⟨rfl, lw_g (lw_at lw_m9 215 rfl) rfl, lw_g (lw_at lw_m9 216 rfl) rfl, lw_g (lw_at lw_m1 60 rfl) rfl⟩, List.forall_mem_cons.mpr ⟨⟨rfl, lw_g (lw_at lw_m6 224 rfl) rfl, lw_g (lw_at lw_m6 225 rfl) rfl, lw_g (lw_at lw_m1 42 rfl) rfl⟩, List.forall_mem_cons.mpr ⟨⟨rfl, lw_g (lw_at lw_m9 105 rfl) rfl, lw_g (lw_at lw_m9 106 rfl) rfl, lw_g (lw_at lw_m1 57 rfl) rfl⟩, List.forall_mem_cons.mpr ⟨⟨rfl, lw_g (lw_at lw_m9 132 rfl) rfl, lw_g (lw_at lw_m9 133 rfl) rfl, lw_g (lw_at lw_m1 58 rfl) rfl⟩, List.forall_mem_cons.mpr ⟨⟨rfl, lw_g (lw_at lw_m9 177 rfl) rfl, lw_g (lw_at lw_m9 178 rfl) rfl, lw_g (lw_at lw_m1 59 rfl) rfl⟩, List.forall_mem_cons.mpr ⟨⟨rfl, lw_g (lw_at lw_m10 12 rfl) rfl, lw_g (lw_at lw_m10 13 rfl) rfl, lw_g (lw_at lw_m1 61 rfl) rfl⟩, fun q h => by cases h⟩⟩⟩⟩⟩⟩⟩⟩⟩⟩⟩⟩⟩⟩⟩⟩⟩⟩⟩⟩⟩⟩⟩⟩⟩⟩⟩⟩
theorem ow29_6 : ∀ q ∈ ([] : List (Nat × Nat)), mdA q.2 = true ∧ ak q.2 = 2 ∧ ALk "AlgolHouse$Parser" q.1 q.2 := fun q h => by cases h
theorem ow29_7_0 : XLk "AlgolHouse$Parser" 190 1161 := (Or.inl ⟨"AlgolHouse$Mode", lw_g (lw_at lw_m6 173 rfl) rfl, fun t h1 h2 => by
  obtain rfl : t = 9 := by omega
  exact ⟨⟨by omega, by omega⟩, Or.inl rfl⟩⟩)
theorem ow29_7_1 : XLk "AlgolHouse$Parser" 207 258 := (Or.inl ⟨"AlgolHouse$Candidate", lw_g (lw_at lw_m7 89 rfl) rfl, fun t h1 h2 => by
  obtain rfl : t = 2 := by omega
  exact ⟨⟨by omega, by omega⟩, Or.inl rfl⟩⟩)
theorem ow29_7_2 : XLk "AlgolHouse$Parser" 346 6707 := (Or.inl ⟨"java/lang/Long", lw_g (lw_at lw_m10 215 rfl) rfl, fun t h1 h2 => by
  rcases (by omega : t = 51 ∨ t = 52) with rfl | rfl
  · exact ⟨⟨by omega, by omega⟩, Or.inl rfl⟩
  · exact ⟨⟨by omega, by omega⟩, Or.inl rfl⟩⟩)
theorem ow29_7_3 : XLk "AlgolHouse$Parser" 352 6449 := (Or.inl ⟨"java/lang/Integer", lw_g (lw_at lw_m8 136 rfl) rfl, fun t h1 h2 => by
  rcases (by omega : t = 49 ∨ t = 50) with rfl | rfl
  · exact ⟨⟨by omega, by omega⟩, Or.inl rfl⟩
  · exact ⟨⟨by omega, by omega⟩, Or.inl rfl⟩⟩)
theorem ow29_7_4 : XLk "AlgolHouse$Parser" 357 6966 := (Or.inl ⟨"java/lang/Boolean", lw_g (lw_at lw_m10 217 rfl) rfl, fun t h1 h2 => by
  obtain rfl : t = 54 := by omega
  exact ⟨⟨by omega, by omega⟩, Or.inl rfl⟩⟩)
theorem ow29_7_5 : XLk "AlgolHouse$Parser" 399 4363 := (Or.inl ⟨"AlgolHouse$Node", lw_g (lw_at lw_m8 151 rfl) rfl, fun t h1 h2 => by
  rcases (by omega : t = 11 ∨ t = 12 ∨ t = 13 ∨ t = 14 ∨ t = 15 ∨ t = 16 ∨ t = 17 ∨ t = 18 ∨ t = 19 ∨ t = 20 ∨ t = 21 ∨ t = 22 ∨ t = 23 ∨ t = 24 ∨ t = 25 ∨ t = 26 ∨ t = 27 ∨ t = 28 ∨ t = 29 ∨ t = 30 ∨ t = 31 ∨ t = 32 ∨ t = 33 ∨ t = 34) with rfl | rfl | rfl | rfl | rfl | rfl | rfl | rfl | rfl | rfl | rfl | rfl | rfl | rfl | rfl | rfl | rfl | rfl | rfl | rfl | rfl | rfl | rfl | rfl
  · exact ⟨⟨by omega, by omega⟩, Or.inr (lw_at lw_m25 144 rfl)⟩
  · exact ⟨⟨by omega, by omega⟩, Or.inr (lw_at lw_m25 145 rfl)⟩
  · exact ⟨⟨by omega, by omega⟩, Or.inr (lw_at lw_m25 147 rfl)⟩
  · exact ⟨⟨by omega, by omega⟩, Or.inr (lw_at lw_m25 152 rfl)⟩
  · exact ⟨⟨by omega, by omega⟩, Or.inr (lw_at lw_m25 157 rfl)⟩
  · exact ⟨⟨by omega, by omega⟩, Or.inr (lw_at lw_m25 166 rfl)⟩
  · exact ⟨⟨by omega, by omega⟩, Or.inr (lw_at lw_m25 148 rfl)⟩
  · exact ⟨⟨by omega, by omega⟩, Or.inr (lw_at lw_m25 149 rfl)⟩
  · exact ⟨⟨by omega, by omega⟩, Or.inr (lw_at lw_m25 146 rfl)⟩
  · exact ⟨⟨by omega, by omega⟩, Or.inr (lw_at lw_m25 153 rfl)⟩
  · exact ⟨⟨by omega, by omega⟩, Or.inr (lw_at lw_m25 162 rfl)⟩
  · exact ⟨⟨by omega, by omega⟩, Or.inr (lw_at lw_m25 167 rfl)⟩
  · exact ⟨⟨by omega, by omega⟩, Or.inr (lw_at lw_m25 150 rfl)⟩
  · exact ⟨⟨by omega, by omega⟩, Or.inr (lw_at lw_m25 151 rfl)⟩
  · exact ⟨⟨by omega, by omega⟩, Or.inr (lw_at lw_m25 154 rfl)⟩
  · exact ⟨⟨by omega, by omega⟩, Or.inr (lw_at lw_m25 155 rfl)⟩
  · exact ⟨⟨by omega, by omega⟩, Or.inr (lw_at lw_m25 156 rfl)⟩
  · exact ⟨⟨by omega, by omega⟩, Or.inr (lw_at lw_m25 158 rfl)⟩
  · exact ⟨⟨by omega, by omega⟩, Or.inr (lw_at lw_m25 159 rfl)⟩
  · exact ⟨⟨by omega, by omega⟩, Or.inr (lw_at lw_m25 160 rfl)⟩
  · exact ⟨⟨by omega, by omega⟩, Or.inr (lw_at lw_m25 161 rfl)⟩
  · exact ⟨⟨by omega, by omega⟩, Or.inr (lw_at lw_m25 163 rfl)⟩
  · exact ⟨⟨by omega, by omega⟩, Or.inr (lw_at lw_m25 164 rfl)⟩
  · exact ⟨⟨by omega, by omega⟩, Or.inr (lw_at lw_m25 165 rfl)⟩⟩)
theorem ow29_7 : ∀ q ∈ ([(190, 1161), (207, 258), (346, 6707), (352, 6449), (357, 6966), (399, 4363)] : List (Nat × Nat)), XLk "AlgolHouse$Parser" q.1 q.2 := List.forall_mem_cons.mpr ⟨ow29_7_0, List.forall_mem_cons.mpr ⟨ow29_7_1, List.forall_mem_cons.mpr ⟨ow29_7_2, List.forall_mem_cons.mpr ⟨ow29_7_3, List.forall_mem_cons.mpr ⟨ow29_7_4, List.forall_mem_cons.mpr ⟨ow29_7_5, fun q h => by cases h⟩⟩⟩⟩⟩⟩
theorem ow29_8_0 {s0 : State} (hN : NCs s0) : YLk s0 "AlgolHouse$Parser" 363 71487262 := ⟨"AlgolHouse$Routine", lw_g (lw_at lw_m7 21 rfl) rfl, fun t h1 h2 => by
  rcases (by omega : t = 11 ∨ t = 12 ∨ t = 13 ∨ t = 14 ∨ t = 15 ∨ t = 16 ∨ t = 17 ∨ t = 18 ∨ t = 19 ∨ t = 20 ∨ t = 21 ∨ t = 22 ∨ t = 23 ∨ t = 24 ∨ t = 25 ∨ t = 26 ∨ t = 27 ∨ t = 28 ∨ t = 29 ∨ t = 30 ∨ t = 31 ∨ t = 32 ∨ t = 33 ∨ t = 34) with rfl | rfl | rfl | rfl | rfl | rfl | rfl | rfl | rfl | rfl | rfl | rfl | rfl | rfl | rfl | rfl | rfl | rfl | rfl | rfl | rfl | rfl | rfl | rfl
  · exact ⟨⟨by omega, by omega⟩, fun z => absurd z (by omega), fun _ => hN _ (List.mem_of_getElem? (i := 0) rfl)⟩
  · exact ⟨⟨by omega, by omega⟩, fun z => absurd z (by omega), fun _ => hN _ (List.mem_of_getElem? (i := 1) rfl)⟩
  · exact ⟨⟨by omega, by omega⟩, fun z => absurd z (by omega), fun _ => hN _ (List.mem_of_getElem? (i := 2) rfl)⟩
  · exact ⟨⟨by omega, by omega⟩, fun z => absurd z (by omega), fun _ => hN _ (List.mem_of_getElem? (i := 3) rfl)⟩
  · exact ⟨⟨by omega, by omega⟩, fun z => absurd z (by omega), fun _ => hN _ (List.mem_of_getElem? (i := 4) rfl)⟩
  · exact ⟨⟨by omega, by omega⟩, fun z => absurd z (by omega), fun _ => hN _ (List.mem_of_getElem? (i := 5) rfl)⟩
  · exact ⟨⟨by omega, by omega⟩, fun z => absurd z (by omega), fun _ => hN _ (List.mem_of_getElem? (i := 6) rfl)⟩
  · exact ⟨⟨by omega, by omega⟩, fun z => absurd z (by omega), fun _ => hN _ (List.mem_of_getElem? (i := 7) rfl)⟩
  · exact ⟨⟨by omega, by omega⟩, fun z => absurd z (by omega), fun _ => hN _ (List.mem_of_getElem? (i := 8) rfl)⟩
  · exact ⟨⟨by omega, by omega⟩, fun z => absurd z (by omega), fun _ => hN _ (List.mem_of_getElem? (i := 9) rfl)⟩
  · exact ⟨⟨by omega, by omega⟩, fun z => absurd z (by omega), fun _ => hN _ (List.mem_of_getElem? (i := 10) rfl)⟩
  · exact ⟨⟨by omega, by omega⟩, fun z => absurd z (by omega), fun _ => hN _ (List.mem_of_getElem? (i := 11) rfl)⟩
  · exact ⟨⟨by omega, by omega⟩, fun z => absurd z (by omega), fun _ => hN _ (List.mem_of_getElem? (i := 12) rfl)⟩
  · exact ⟨⟨by omega, by omega⟩, fun z => absurd z (by omega), fun _ => hN _ (List.mem_of_getElem? (i := 13) rfl)⟩
  · exact ⟨⟨by omega, by omega⟩, fun z => absurd z (by omega), fun _ => hN _ (List.mem_of_getElem? (i := 14) rfl)⟩
  · exact ⟨⟨by omega, by omega⟩, fun z => absurd z (by omega), fun _ => hN _ (List.mem_of_getElem? (i := 15) rfl)⟩
  · exact ⟨⟨by omega, by omega⟩, fun z => absurd z (by omega), fun _ => hN _ (List.mem_of_getElem? (i := 16) rfl)⟩
  · exact ⟨⟨by omega, by omega⟩, fun z => absurd z (by omega), fun _ => hN _ (List.mem_of_getElem? (i := 17) rfl)⟩
  · exact ⟨⟨by omega, by omega⟩, fun z => absurd z (by omega), fun _ => hN _ (List.mem_of_getElem? (i := 18) rfl)⟩
  · exact ⟨⟨by omega, by omega⟩, fun _ => Or.inl rfl, fun z => absurd (by omega) z⟩
  · exact ⟨⟨by omega, by omega⟩, fun z => absurd z (by omega), fun _ => hN _ (List.mem_of_getElem? (i := 19) rfl)⟩
  · exact ⟨⟨by omega, by omega⟩, fun z => absurd z (by omega), fun _ => hN _ (List.mem_of_getElem? (i := 20) rfl)⟩
  · exact ⟨⟨by omega, by omega⟩, fun z => absurd z (by omega), fun _ => hN _ (List.mem_of_getElem? (i := 21) rfl)⟩
  · exact ⟨⟨by omega, by omega⟩, fun z => absurd z (by omega), fun _ => hN _ (List.mem_of_getElem? (i := 22) rfl)⟩⟩
theorem ow29_8 {s0 : State} (hN : NCs s0) : ∀ q ∈ ([(363, 71487262)] : List (Nat × Nat)), YLk s0 "AlgolHouse$Parser" q.1 q.2 := List.forall_mem_cons.mpr ⟨ow29_8_0 hN, fun q h => by cases h⟩
theorem ow29_9 : ∀ q ∈ ([(67, 174850050), (159, 5767169), (260, 235929605), (345, 170917889), (351, 169869313), (356, 171966465)] : List (Nat × Nat)), q.2 = ACN ∧ ACk "AlgolHouse$Parser" q.1 ∨ q.2 ≠ ACN ∧ SMk "AlgolHouse$Parser" q.1 q.2 := List.forall_mem_cons.mpr ⟨Or.inr ⟨by decide, mok_J14_min, np_J14_min, ⟨sm_J14_min, lw_g (lw_at lw_m1 21 rfl) rfl⟩, Or.inl (lw_g (lw_at lw_m6 11 rfl) rfl)⟩, List.forall_mem_cons.mpr ⟨Or.inr ⟨by decide, mok_X1_indicant, np_X1_indicant, ⟨sm_X1_indicant, lw_g (lw_at lw_m1 1 rfl) rfl⟩, Or.inr ⟨_, lw_at lw_m8 158 rfl⟩⟩, List.forall_mem_cons.mpr ⟨Or.inl ⟨rfl, lw_g (lw_at lw_m10 136 rfl) rfl, lw_g (lw_at lw_m2 138 rfl) rfl, lw_g (lw_at lw_m2 137 rfl) rfl, lw_g (lw_at lw_m1 23 rfl) rfl⟩, List.forall_mem_cons.mpr ⟨Or.inr ⟨by decide, mok_J20_valueOf, np_J20_valueOf, ⟨sm_J20_valueOf, lw_g (lw_at lw_m1 37 rfl) rfl⟩, Or.inl (lw_g (lw_at lw_m6 22 rfl) rfl)⟩, List.forall_mem_cons.mpr ⟨Or.inr ⟨by decide, mok_J17_valueOf, np_J17_valueOf, ⟨sm_J17_valueOf, lw_g (lw_at lw_m1 25 rfl) rfl⟩, Or.inl (lw_g (lw_at lw_m6 127 rfl) rfl)⟩, List.forall_mem_cons.mpr ⟨Or.inr ⟨by decide, mok_J21_valueOf, np_J21_valueOf, ⟨sm_J21_valueOf, lw_g (lw_at lw_m1 40 rfl) rfl⟩, Or.inl (lw_g (lw_at lw_m6 144 rfl) rfl)⟩, fun q h => by cases h⟩⟩⟩⟩⟩⟩
theorem ow29_10 : ∀ q ∈ ([(11, 164725505), (47, 36004547), (192, 24397970), (209, 127668260), (217, 24660115), (292, 121940306), (341, 128217317), (365, 126153186), (386, 157317363), (395, 140820868), (409, 158630151), (446, 124060162), (462, 129525971), (468, 153901234), (474, 154978707), (482, 156293554), (502, 133740915), (510, 138711331), (519, 139786739), (526, 130572482), (529, 131926546), (537, 142139844), (546, 143200803), (568, 150268370), (575, 125077778), (589, 144220482), (601, 145797474), (612, 148674867), (635, 164987650), (644, 151310758)] : List (Nat × Nat)), IMk "AlgolHouse$Parser" q.1 q.2 ∧ ∀ t, inT (q.2 / 16 % 128) (q.2 / 2048 % 128) t → inT 1 55 t := List.forall_mem_cons.mpr ⟨⟨⟨mok_J6_init, np_J6_init, by decide, rfl, im_J6_init, ⟨_, _, rfl⟩, Or.inl (lw_g (lw_at lw_m5 28 rfl) rfl)⟩, fun t ht => ⟨Nat.le_trans (by decide) ht.1, Nat.le_trans ht.2 (by decide)⟩⟩, List.forall_mem_cons.mpr ⟨⟨⟨mok_X8_init, np_X8_init, by decide, rfl, im_X8_init, ⟨_, _, rfl⟩, Or.inl (lw_g (lw_at lw_m5 233 rfl) rfl)⟩, fun t ht => ⟨Nat.le_trans (by decide) ht.1, Nat.le_trans ht.2 (by decide)⟩⟩, List.forall_mem_cons.mpr ⟨⟨⟨mok_X6_init, np_X6_init, by decide, rfl, im_X6_init, ⟨_, _, rfl⟩, Or.inl (lw_g (lw_at lw_m6 174 rfl) rfl)⟩, fun t ht => ⟨Nat.le_trans (by decide) ht.1, Nat.le_trans ht.2 (by decide)⟩⟩, List.forall_mem_cons.mpr ⟨⟨⟨mok_X18_init, np_X18_init, by decide, rfl, im_X18_init, ⟨_, _, rfl⟩, Or.inl (lw_g (lw_at lw_m7 91 rfl) rfl)⟩, fun t ht => ⟨Nat.le_trans (by decide) ht.1, Nat.le_trans ht.2 (by decide)⟩⟩, List.forall_mem_cons.mpr ⟨⟨⟨mok_X6_init_2, np_X6_init_2, by decide, rfl, im_X6_init_2, ⟨_, _, rfl⟩, Or.inl (lw_g (lw_at lw_m10 121 rfl) rfl)⟩, fun t ht => ⟨Nat.le_trans (by decide) ht.1, Nat.le_trans ht.2 (by decide)⟩⟩, List.forall_mem_cons.mpr ⟨⟨⟨mok_X14_init, np_X14_init, by decide, rfl, im_X14_init, ⟨_, _, rfl⟩, Or.inl (lw_g (lw_at lw_m5 80 rfl) rfl)⟩, fun t ht => ⟨Nat.le_trans (by decide) ht.1, Nat.le_trans ht.2 (by decide)⟩⟩, List.forall_mem_cons.mpr ⟨⟨⟨mok_X20_init, np_X20_init, by decide, rfl, im_X20_init, ⟨_, _, rfl⟩, Or.inl (lw_g (lw_at lw_m7 236 rfl) rfl)⟩, fun t ht => ⟨Nat.le_trans (by decide) ht.1, Nat.le_trans ht.2 (by decide)⟩⟩, List.forall_mem_cons.mpr ⟨⟨⟨mok_X17_init, np_X17_init, by decide, rfl, im_X17_init, ⟨_, _, rfl⟩, Or.inl (lw_g (lw_at lw_m7 23 rfl) rfl)⟩, fun t ht => ⟨Nat.le_trans (by decide) ht.1, Nat.le_trans ht.2 (by decide)⟩⟩, List.forall_mem_cons.mpr ⟨⟨⟨mok_X38_init, np_X38_init, by decide, rfl, im_X38_init, ⟨_, _, rfl⟩, Or.inl (lw_g (lw_at lw_m10 149 rfl) rfl)⟩, fun t ht => ⟨Nat.le_trans (by decide) ht.1, Nat.le_trans ht.2 (by decide)⟩⟩, List.forall_mem_cons.mpr ⟨⟨⟨mok_X27_init, np_X27_init, by decide, rfl, im_X27_init, ⟨_, _, rfl⟩, Or.inl (lw_g (lw_at lw_m9 22 rfl) rfl)⟩, fun t ht => ⟨Nat.le_trans (by decide) ht.1, Nat.le_trans ht.2 (by decide)⟩⟩, List.forall_mem_cons.mpr ⟨⟨⟨mok_X39_init, np_X39_init, by decide, rfl, im_X39_init, ⟨_, _, rfl⟩, Or.inl (lw_g (lw_at lw_m10 178 rfl) rfl)⟩, fun t ht => ⟨Nat.le_trans (by decide) ht.1, Nat.le_trans ht.2 (by decide)⟩⟩, List.forall_mem_cons.mpr ⟨⟨⟨mok_X15_init, np_X15_init, by decide, rfl, im_X15_init, ⟨_, _, rfl⟩, Or.inl (lw_g (lw_at lw_m6 197 rfl) rfl)⟩, fun t ht => ⟨Nat.le_trans (by decide) ht.1, Nat.le_trans ht.2 (by decide)⟩⟩, List.forall_mem_cons.mpr ⟨⟨⟨mok_X21_init, np_X21_init, by decide, rfl, im_X21_init, ⟨_, _, rfl⟩, Or.inl (lw_g (lw_at lw_m8 43 rfl) rfl)⟩, fun t ht => ⟨Nat.le_trans (by decide) ht.1, Nat.le_trans ht.2 (by decide)⟩⟩, List.forall_mem_cons.mpr ⟨⟨⟨mok_X35_init, np_X35_init, by decide, rfl, im_X35_init, ⟨_, _, rfl⟩, Or.inl (lw_g (lw_at lw_m10 50 rfl) rfl)⟩, fun t ht => ⟨Nat.le_trans (by decide) ht.1, Nat.le_trans ht.2 (by decide)⟩⟩, List.forall_mem_cons.mpr ⟨⟨⟨mok_X36_init, np_X36_init, by decide, rfl, im_X36_init, ⟨_, _, rfl⟩, Or.inl (lw_g (lw_at lw_m10 69 rfl) rfl)⟩, fun t ht => ⟨Nat.le_trans (by decide) ht.1, Nat.le_trans ht.2 (by decide)⟩⟩, List.forall_mem_cons.mpr ⟨⟨⟨mok_X37_init, np_X37_init, by decide, rfl, im_X37_init, ⟨_, _, rfl⟩, Or.inl (lw_g (lw_at lw_m10 95 rfl) rfl)⟩, fun t ht => ⟨Nat.le_trans (by decide) ht.1, Nat.le_trans ht.2 (by decide)⟩⟩, List.forall_mem_cons.mpr ⟨⟨⟨mok_X24_init, np_X24_init, by decide, rfl, im_X24_init, ⟨_, _, rfl⟩, Or.inl (lw_g (lw_at lw_m8 162 rfl) rfl)⟩, fun t ht => ⟨Nat.le_trans (by decide) ht.1, Nat.le_trans ht.2 (by decide)⟩⟩, List.forall_mem_cons.mpr ⟨⟨⟨mok_X25_init, np_X25_init, by decide, rfl, im_X25_init, ⟨_, _, rfl⟩, Or.inl (lw_g (lw_at lw_m8 196 rfl) rfl)⟩, fun t ht => ⟨Nat.le_trans (by decide) ht.1, Nat.le_trans ht.2 (by decide)⟩⟩, List.forall_mem_cons.mpr ⟨⟨⟨mok_X26_init, np_X26_init, by decide, rfl, im_X26_init, ⟨_, _, rfl⟩, Or.inl (lw_g (lw_at lw_m8 229 rfl) rfl)⟩, fun t ht => ⟨Nat.le_trans (by decide) ht.1, Nat.le_trans ht.2 (by decide)⟩⟩, List.forall_mem_cons.mpr ⟨⟨⟨mok_X22_init, np_X22_init, by decide, rfl, im_X22_init, ⟨_, _, rfl⟩, Or.inl (lw_g (lw_at lw_m8 68 rfl) rfl)⟩, fun t ht => ⟨Nat.le_trans (by decide) ht.1, Nat.le_trans ht.2 (by decide)⟩⟩, List.forall_mem_cons.mpr ⟨⟨⟨mok_X23_init, np_X23_init, by decide, rfl, im_X23_init, ⟨_, _, rfl⟩, Or.inl (lw_g (lw_at lw_m8 86 rfl) rfl)⟩, fun t ht => ⟨Nat.le_trans (by decide) ht.1, Nat.le_trans ht.2 (by decide)⟩⟩, List.forall_mem_cons.mpr ⟨⟨⟨mok_X28_init, np_X28_init, by decide, rfl, im_X28_init, ⟨_, _, rfl⟩, Or.inl (lw_g (lw_at lw_m9 47 rfl) rfl)⟩, fun t ht => ⟨Nat.le_trans (by decide) ht.1, Nat.le_trans ht.2 (by decide)⟩⟩, List.forall_mem_cons.mpr ⟨⟨⟨mok_X29_init, np_X29_init, by decide, rfl, im_X29_init, ⟨_, _, rfl⟩, Or.inl (lw_g (lw_at lw_m9 74 rfl) rfl)⟩, fun t ht => ⟨Nat.le_trans (by decide) ht.1, Nat.le_trans ht.2 (by decide)⟩⟩, List.forall_mem_cons.mpr ⟨⟨⟨mok_X33_init, np_X33_init, by decide, rfl, im_X33_init, ⟨_, _, rfl⟩, Or.inl (lw_g (lw_at lw_m9 217 rfl) rfl)⟩, fun t ht => ⟨Nat.le_trans (by decide) ht.1, Nat.le_trans ht.2 (by decide)⟩⟩, List.forall_mem_cons.mpr ⟨⟨⟨mok_X16_init, np_X16_init, by decide, rfl, im_X16_init, ⟨_, _, rfl⟩, Or.inl (lw_g (lw_at lw_m6 226 rfl) rfl)⟩, fun t ht => ⟨Nat.le_trans (by decide) ht.1, Nat.le_trans ht.2 (by decide)⟩⟩, List.forall_mem_cons.mpr ⟨⟨⟨mok_X30_init, np_X30_init, by decide, rfl, im_X30_init, ⟨_, _, rfl⟩, Or.inl (lw_g (lw_at lw_m9 107 rfl) rfl)⟩, fun t ht => ⟨Nat.le_trans (by decide) ht.1, Nat.le_trans ht.2 (by decide)⟩⟩, List.forall_mem_cons.mpr ⟨⟨⟨mok_X31_init, np_X31_init, by decide, rfl, im_X31_init, ⟨_, _, rfl⟩, Or.inl (lw_g (lw_at lw_m9 134 rfl) rfl)⟩, fun t ht => ⟨Nat.le_trans (by decide) ht.1, Nat.le_trans ht.2 (by decide)⟩⟩, List.forall_mem_cons.mpr ⟨⟨⟨mok_X32_init, np_X32_init, by decide, rfl, im_X32_init, ⟨_, _, rfl⟩, Or.inl (lw_g (lw_at lw_m9 179 rfl) rfl)⟩, fun t ht => ⟨Nat.le_trans (by decide) ht.1, Nat.le_trans ht.2 (by decide)⟩⟩, List.forall_mem_cons.mpr ⟨⟨⟨mok_J6_init_2, np_J6_init_2, by decide, rfl, im_J6_init_2, ⟨_, _, rfl⟩, Or.inl (lw_g (lw_at lw_m10 6 rfl) rfl)⟩, fun t ht => ⟨Nat.le_trans (by decide) ht.1, Nat.le_trans ht.2 (by decide)⟩⟩, List.forall_mem_cons.mpr ⟨⟨⟨mok_X34_init, np_X34_init, by decide, rfl, im_X34_init, ⟨_, _, rfl⟩, Or.inl (lw_g (lw_at lw_m10 14 rfl) rfl)⟩, fun t ht => ⟨Nat.le_trans (by decide) ht.1, Nat.le_trans ht.2 (by decide)⟩⟩, fun q h => by cases h⟩⟩⟩⟩⟩⟩⟩⟩⟩⟩⟩⟩⟩⟩⟩⟩⟩⟩⟩⟩⟩⟩⟩⟩⟩⟩⟩⟩⟩⟩
theorem ow29_11_0 : VMk "AlgolHouse$Parser" 43 101524033 := ⟨mok_X11_place, by decide, fun t ht => by
  obtain rfl : t = 36 := Nat.le_antisymm (Nat.le_trans ht.2 (by decide)) (Nat.le_trans (by decide) ht.1)
  exact ⟨⟨by decide, by decide⟩, im_X11_place, Or.inl ⟨np_X11_place, lw_g (lw_ms _ (List.mem_map.mpr ⟨_, List.mem_of_getElem? (i := 8) rfl, rfl⟩)) rfl, Or.inl (lw_g (lw_at lw_m5 76 rfl) rfl)⟩⟩⟩
theorem ow29_11_1 : VMk "AlgolHouse$Parser" 73 103096898 := ⟨mok_X11_kind, by decide, fun t ht => by
  obtain rfl : t = 36 := Nat.le_antisymm (Nat.le_trans ht.2 (by decide)) (Nat.le_trans (by decide) ht.1)
  exact ⟨⟨by decide, by decide⟩, im_X11_kind, Or.inl ⟨np_X11_kind, lw_g (lw_ms _ (List.mem_map.mpr ⟨_, List.mem_of_getElem? (i := 14) rfl, rfl⟩)) rfl, Or.inl (lw_g (lw_at lw_m6 7 rfl) rfl)⟩⟩⟩
theorem ow29_11_2 : VMk "AlgolHouse$Parser" 87 14166098 := ⟨mok_X2_word, by decide, fun t ht => by
  obtain rfl : t = 5 := Nat.le_antisymm (Nat.le_trans ht.2 (by decide)) (Nat.le_trans (by decide) ht.1)
  exact ⟨⟨by decide, by decide⟩, im_X2_word, Or.inl ⟨np_X2_word, lw_g (lw_at lw_m6 15 rfl) rfl, Or.inl (lw_g (lw_at lw_m6 13 rfl) rfl)⟩⟩⟩
theorem ow29_11_3 : VMk "AlgolHouse$Parser" 91 102834755 := ⟨mok_X11_isWord_2, by decide, fun t ht => by
  obtain rfl : t = 36 := Nat.le_antisymm (Nat.le_trans ht.2 (by decide)) (Nat.le_trans (by decide) ht.1)
  exact ⟨⟨by decide, by decide⟩, im_X11_isWord_2, Or.inl ⟨np_X11_isWord_2, lw_g (lw_ms _ (List.mem_map.mpr ⟨_, List.mem_of_getElem? (i := 13) rfl, rfl⟩)) rfl, Or.inl (lw_g (lw_at lw_m6 3 rfl) rfl)⟩⟩⟩
theorem ow29_11_4 : VMk "AlgolHouse$Parser" 98 105194051 := ⟨mok_X11_isMark_2, by decide, fun t ht => by
  obtain rfl : t = 36 := Nat.le_antisymm (Nat.le_trans ht.2 (by decide)) (Nat.le_trans (by decide) ht.1)
  exact ⟨⟨by decide, by decide⟩, im_X11_isMark_2, Or.inl ⟨np_X11_isMark_2, lw_g (lw_ms _ (List.mem_map.mpr ⟨_, List.mem_of_getElem? (i := 25) rfl, rfl⟩)) rfl, Or.inl (lw_g (lw_at lw_m6 180 rfl) rfl)⟩⟩⟩
theorem ow29_11_5 : VMk "AlgolHouse$Parser" 102 104931906 := ⟨mok_X11_isMark, by decide, fun t ht => by
  obtain rfl : t = 36 := Nat.le_antisymm (Nat.le_trans ht.2 (by decide)) (Nat.le_trans (by decide) ht.1)
  exact ⟨⟨by decide, by decide⟩, im_X11_isMark, Or.inl ⟨np_X11_isMark, lw_g (lw_ms _ (List.mem_map.mpr ⟨_, List.mem_of_getElem? (i := 24) rfl, rfl⟩)) rfl, Or.inl (lw_g (lw_at lw_m6 176 rfl) rfl)⟩⟩⟩
theorem ow29_11_6 : VMk "AlgolHouse$Parser" 105 102572610 := ⟨mok_X11_isWord, by decide, fun t ht => by
  obtain rfl : t = 36 := Nat.le_antisymm (Nat.le_trans ht.2 (by decide)) (Nat.le_trans (by decide) ht.1)
  exact ⟨⟨by decide, by decide⟩, im_X11_isWord, Or.inl ⟨np_X11_isWord, lw_g (lw_ms _ (List.mem_map.mpr ⟨_, List.mem_of_getElem? (i := 12) rfl, rfl⟩)) rfl, Or.inl (lw_g (lw_at lw_m5 239 rfl) rfl)⟩⟩⟩
theorem ow29_11_7 : VMk "AlgolHouse$Parser" 108 106242626 := ⟨mok_X11_takes, by decide, fun t ht => by
  obtain rfl : t = 36 := Nat.le_antisymm (Nat.le_trans ht.2 (by decide)) (Nat.le_trans (by decide) ht.1)
  exact ⟨⟨by decide, by decide⟩, im_X11_takes, Or.inl ⟨np_X11_takes, lw_g (lw_ms _ (List.mem_map.mpr ⟨_, List.mem_of_getElem? (i := 29) rfl, rfl⟩)) rfl, Or.inl (lw_g (lw_at lw_m6 216 rfl) rfl)⟩⟩⟩
theorem ow29_11_8 : VMk "AlgolHouse$Parser" 111 102048321 := ⟨mok_X11_wrong, by decide, fun t ht => by
  obtain rfl : t = 36 := Nat.le_antisymm (Nat.le_trans ht.2 (by decide)) (Nat.le_trans (by decide) ht.1)
  exact ⟨⟨by decide, by decide⟩, im_X11_wrong, Or.inl ⟨np_X11_wrong, lw_g (lw_ms _ (List.mem_map.mpr ⟨_, List.mem_of_getElem? (i := 10) rfl, rfl⟩)) rfl, Or.inl (lw_g (lw_at lw_m5 228 rfl) rfl)⟩⟩⟩
theorem ow29_11_9 : VMk "AlgolHouse$Parser" 115 113058370 := ⟨mok_X11_takesWord, by decide, fun t ht => by
  obtain rfl : t = 36 := Nat.le_antisymm (Nat.le_trans ht.2 (by decide)) (Nat.le_trans (by decide) ht.1)
  exact ⟨⟨by decide, by decide⟩, im_X11_takesWord, Or.inl ⟨np_X11_takesWord, lw_g (lw_ms _ (List.mem_map.mpr ⟨_, List.mem_of_getElem? (i := 56) rfl, rfl⟩)) rfl, Or.inl (lw_g (lw_at lw_m9 67 rfl) rfl)⟩⟩⟩
theorem ow29_11_10 : VMk "AlgolHouse$Parser" 155 104669762 := ⟨mok_X11_isModeTag, by decide, fun t ht => by
  obtain rfl : t = 36 := Nat.le_antisymm (Nat.le_trans ht.2 (by decide)) (Nat.le_trans (by decide) ht.1)
  exact ⟨⟨by decide, by decide⟩, im_X11_isModeTag, Or.inl ⟨np_X11_isModeTag, lw_g (lw_ms _ (List.mem_map.mpr ⟨_, List.mem_of_getElem? (i := 23) rfl, rfl⟩)) rfl, Or.inl (lw_g (lw_at lw_m6 169 rfl) rfl)⟩⟩⟩
theorem ow29_11_11 : VMk "AlgolHouse$Parser" 163 110699074 := ⟨mok_X11_isOperation, by decide, fun t ht => by
  obtain rfl : t = 36 := Nat.le_antisymm (Nat.le_trans ht.2 (by decide)) (Nat.le_trans (by decide) ht.1)
  exact ⟨⟨by decide, by decide⟩, im_X11_isOperation, Or.inl ⟨np_X11_isOperation, lw_g (lw_ms _ (List.mem_map.mpr ⟨_, List.mem_of_getElem? (i := 46) rfl, rfl⟩)) rfl, Or.inl (lw_g (lw_at lw_m8 118 rfl) rfl)⟩⟩⟩
theorem ow29_11_12 : VMk "AlgolHouse$Parser" 186 104407619 := ⟨mok_X11_declarer_2, by decide, fun t ht => by
  obtain rfl : t = 36 := Nat.le_antisymm (Nat.le_trans ht.2 (by decide)) (Nat.le_trans (by decide) ht.1)
  exact ⟨⟨by decide, by decide⟩, im_X11_declarer_2, Or.inl ⟨np_X11_declarer_2, lw_g (lw_ms _ (List.mem_map.mpr ⟨_, List.mem_of_getElem? (i := 22) rfl, rfl⟩)) rfl, Or.inl (lw_g (lw_at lw_m6 165 rfl) rfl)⟩⟩⟩
theorem ow29_11_13 : VMk "AlgolHouse$Parser" 199 165774082 := ⟨mok_J6_add, by decide, fun t ht => by
  obtain rfl : t = 48 := Nat.le_antisymm (Nat.le_trans ht.2 (by decide)) (Nat.le_trans (by decide) ht.1)
  exact ⟨⟨by decide, by decide⟩, im_J6_add, Or.inl ⟨np_J6_add, lw_g (lw_at lw_m6 44 rfl) rfl, Or.inl (lw_g (lw_at lw_m6 42 rfl) rfl)⟩⟩⟩
theorem ow29_11_14 : VMk "AlgolHouse$Parser" 203 105456194 := ⟨mok_X11_row, by decide, fun t ht => by
  obtain rfl : t = 36 := Nat.le_antisymm (Nat.le_trans ht.2 (by decide)) (Nat.le_trans (by decide) ht.1)
  exact ⟨⟨by decide, by decide⟩, im_X11_row, Or.inl ⟨np_X11_row, lw_g (lw_ms _ (List.mem_map.mpr ⟨_, List.mem_of_getElem? (i := 26) rfl, rfl⟩)) rfl, Or.inl (lw_g (lw_at lw_m6 185 rfl) rfl)⟩⟩⟩
theorem ow29_11_15 : VMk "AlgolHouse$Parser" 212 103883329 := ⟨mok_X11_open, by decide, fun t ht => by
  obtain rfl : t = 36 := Nat.le_antisymm (Nat.le_trans ht.2 (by decide)) (Nat.le_trans (by decide) ht.1)
  exact ⟨⟨by decide, by decide⟩, im_X11_open, Or.inl ⟨np_X11_open, lw_g (lw_ms _ (List.mem_map.mpr ⟨_, List.mem_of_getElem? (i := 20) rfl, rfl⟩)) rfl, Or.inl (lw_g (lw_at lw_m6 157 rfl) rfl)⟩⟩⟩
theorem ow29_11_16 : VMk "AlgolHouse$Parser" 215 104145474 := ⟨mok_X11_declarer, by decide, fun t ht => by
  obtain rfl : t = 36 := Nat.le_antisymm (Nat.le_trans ht.2 (by decide)) (Nat.le_trans (by decide) ht.1)
  exact ⟨⟨by decide, by decide⟩, im_X11_declarer, Or.inl ⟨np_X11_declarer, lw_g (lw_ms _ (List.mem_map.mpr ⟨_, List.mem_of_getElem? (i := 21) rfl, rfl⟩)) rfl, Or.inl (lw_g (lw_at lw_m6 161 rfl) rfl)⟩⟩⟩
theorem ow29_11_17 : VMk "AlgolHouse$Parser" 220 106504769 := ⟨mok_X11_close, by decide, fun t ht => by
  obtain rfl : t = 36 := Nat.le_antisymm (Nat.le_trans ht.2 (by decide)) (Nat.le_trans (by decide) ht.1)
  exact ⟨⟨by decide, by decide⟩, im_X11_close, Or.inl ⟨np_X11_close, lw_g (lw_ms _ (List.mem_map.mpr ⟨_, List.mem_of_getElem? (i := 30) rfl, rfl⟩)) rfl, Or.inl (lw_g (lw_at lw_m6 220 rfl) rfl)⟩⟩⟩
theorem ow29_11_18 : VMk "AlgolHouse$Parser" 223 115679809 := ⟨mok_X11_procedure, by decide, fun t ht => by
  obtain rfl : t = 36 := Nat.le_antisymm (Nat.le_trans ht.2 (by decide)) (Nat.le_trans (by decide) ht.1)
  exact ⟨⟨by decide, by decide⟩, im_X11_procedure, Or.inl ⟨np_X11_procedure, lw_g (lw_ms _ (List.mem_map.mpr ⟨_, List.mem_of_getElem? (i := 66) rfl, rfl⟩)) rfl, Or.inl (lw_g (lw_at lw_m10 124 rfl) rfl)⟩⟩⟩
theorem ow29_11_19 : VMk "AlgolHouse$Parser" 227 116204097 := ⟨mok_X11_structure, by decide, fun t ht => by
  obtain rfl : t = 36 := Nat.le_antisymm (Nat.le_trans ht.2 (by decide)) (Nat.le_trans (by decide) ht.1)
  exact ⟨⟨by decide, by decide⟩, im_X11_structure, Or.inl ⟨np_X11_structure, lw_g (lw_ms _ (List.mem_map.mpr ⟨_, List.mem_of_getElem? (i := 68) rfl, rfl⟩)) rfl, Or.inl (lw_g (lw_at lw_m10 132 rfl) rfl)⟩⟩⟩
theorem ow29_11_20 : VMk "AlgolHouse$Parser" 230 115941954 := ⟨mok_X11_declarers, by decide, fun t ht => by
  obtain rfl : t = 36 := Nat.le_antisymm (Nat.le_trans ht.2 (by decide)) (Nat.le_trans (by decide) ht.1)
  exact ⟨⟨by decide, by decide⟩, im_X11_declarers, Or.inl ⟨np_X11_declarers, lw_g (lw_ms _ (List.mem_map.mpr ⟨_, List.mem_of_getElem? (i := 67) rfl, rfl⟩)) rfl, Or.inl (lw_g (lw_at lw_m10 128 rfl) rfl)⟩⟩⟩
theorem ow29_11_21 : VMk "AlgolHouse$Parser" 239 165249793 := ⟨mok_J6_size, by decide, fun t ht => by
  obtain rfl : t = 48 := Nat.le_antisymm (Nat.le_trans ht.2 (by decide)) (Nat.le_trans (by decide) ht.1)
  exact ⟨⟨by decide, by decide⟩, im_J6_size, Or.inl ⟨np_J6_size, lw_g (lw_at lw_m4 167 rfl) rfl, Or.inl (lw_g (lw_at lw_m7 72 rfl) rfl)⟩⟩⟩
theorem ow29_11_22 : VMk "AlgolHouse$Parser" 246 108077634 := ⟨mok_X11_mark, by decide, fun t ht => by
  obtain rfl : t = 36 := Nat.le_antisymm (Nat.le_trans ht.2 (by decide)) (Nat.le_trans (by decide) ht.1)
  exact ⟨⟨by decide, by decide⟩, im_X11_mark, Or.inl ⟨np_X11_mark, lw_g (lw_ms _ (List.mem_map.mpr ⟨_, List.mem_of_getElem? (i := 36) rfl, rfl⟩)) rfl, Or.inl (lw_g (lw_at lw_m7 210 rfl) rfl)⟩⟩⟩
theorem ow29_11_23 : VMk "AlgolHouse$Parser" 254 107815489 := ⟨mok_X11_tag, by decide, fun t ht => by
  obtain rfl : t = 36 := Nat.le_antisymm (Nat.le_trans ht.2 (by decide)) (Nat.le_trans (by decide) ht.1)
  exact ⟨⟨by decide, by decide⟩, im_X11_tag, Or.inl ⟨np_X11_tag, lw_g (lw_ms _ (List.mem_map.mpr ⟨_, List.mem_of_getElem? (i := 35) rfl, rfl⟩)) rfl, Or.inl (lw_g (lw_at lw_m7 108 rfl) rfl)⟩⟩⟩
theorem ow29_11_24 : VMk "AlgolHouse$Parser" 268 105718337 := ⟨mok_X11_unit, by decide, fun t ht => by
  obtain rfl : t = 36 := Nat.le_antisymm (Nat.le_trans ht.2 (by decide)) (Nat.le_trans (by decide) ht.1)
  exact ⟨⟨by decide, by decide⟩, im_X11_unit, Or.inl ⟨np_X11_unit, lw_g (lw_ms _ (List.mem_map.mpr ⟨_, List.mem_of_getElem? (i := 27) rfl, rfl⟩)) rfl, Or.inl (lw_g (lw_at lw_m6 190 rfl) rfl)⟩⟩⟩
theorem ow29_11_25 : VMk "AlgolHouse$Parser" 283 101261889 := ⟨mok_X11_serial, by decide, fun t ht => by
  obtain rfl : t = 36 := Nat.le_antisymm (Nat.le_trans ht.2 (by decide)) (Nat.le_trans (by decide) ht.1)
  exact ⟨⟨by decide, by decide⟩, im_X11_serial, Or.inl ⟨np_X11_serial, lw_g (lw_ms _ (List.mem_map.mpr ⟨_, List.mem_of_getElem? (i := 7) rfl, rfl⟩)) rfl, Or.inl (lw_g (lw_at lw_m5 70 rfl) rfl)⟩⟩⟩
theorem ow29_11_26 : VMk "AlgolHouse$Parser" 293 101786179 := ⟨mok_X11_rest, by decide, fun t ht => by
  obtain rfl : t = 36 := Nat.le_antisymm (Nat.le_trans ht.2 (by decide)) (Nat.le_trans (by decide) ht.1)
  exact ⟨⟨by decide, by decide⟩, im_X11_rest, Or.inl ⟨np_X11_rest, lw_g (lw_ms _ (List.mem_map.mpr ⟨_, List.mem_of_getElem? (i := 9) rfl, rfl⟩)) rfl, Or.inl (lw_g (lw_at lw_m5 224 rfl) rfl)⟩⟩⟩
theorem ow29_11_27 : VMk "AlgolHouse$Parser" 297 102310466 := ⟨mok_X11_item, by decide, fun t ht => by
  obtain rfl : t = 36 := Nat.le_antisymm (Nat.le_trans ht.2 (by decide)) (Nat.le_trans (by decide) ht.1)
  exact ⟨⟨by decide, by decide⟩, im_X11_item, Or.inl ⟨np_X11_item, lw_g (lw_ms _ (List.mem_map.mpr ⟨_, List.mem_of_getElem? (i := 11) rfl, rfl⟩)) rfl, Or.inl (lw_g (lw_at lw_m5 234 rfl) rfl)⟩⟩⟩
theorem ow29_11_28 : VMk "AlgolHouse$Parser" 303 103359041 := ⟨mok_X11_modeDeclared, by decide, fun t ht => by
  obtain rfl : t = 36 := Nat.le_antisymm (Nat.le_trans ht.2 (by decide)) (Nat.le_trans (by decide) ht.1)
  exact ⟨⟨by decide, by decide⟩, im_X11_modeDeclared, Or.inl ⟨np_X11_modeDeclared, lw_g (lw_ms _ (List.mem_map.mpr ⟨_, List.mem_of_getElem? (i := 15) rfl, rfl⟩)) rfl, Or.inl (lw_g (lw_at lw_m6 17 rfl) rfl)⟩⟩⟩
theorem ow29_11_29 : VMk "AlgolHouse$Parser" 307 116466241 := ⟨mok_X11_prioDeclared, by decide, fun t ht => by
  obtain rfl : t = 36 := Nat.le_antisymm (Nat.le_trans ht.2 (by decide)) (Nat.le_trans (by decide) ht.1)
  exact ⟨⟨by decide, by decide⟩, im_X11_prioDeclared, Or.inl ⟨np_X11_prioDeclared, lw_g (lw_ms _ (List.mem_map.mpr ⟨_, List.mem_of_getElem? (i := 69) rfl, rfl⟩)) rfl, Or.inl (lw_g (lw_at lw_m10 137 rfl) rfl)⟩⟩⟩
theorem ow29_11_30 : VMk "AlgolHouse$Parser" 312 116728385 := ⟨mok_X11_operation, by decide, fun t ht => by
  obtain rfl : t = 36 := Nat.le_antisymm (Nat.le_trans ht.2 (by decide)) (Nat.le_trans (by decide) ht.1)
  exact ⟨⟨by decide, by decide⟩, im_X11_operation, Or.inl ⟨np_X11_operation, lw_g (lw_ms _ (List.mem_map.mpr ⟨_, List.mem_of_getElem? (i := 70) rfl, rfl⟩)) rfl, Or.inl (lw_g (lw_at lw_m10 143 rfl) rfl)⟩⟩⟩
theorem ow29_11_31 : VMk "AlgolHouse$Parser" 323 116990530 := ⟨mok_X11_named, by decide, fun t ht => by
  obtain rfl : t = 36 := Nat.le_antisymm (Nat.le_trans ht.2 (by decide)) (Nat.le_trans (by decide) ht.1)
  exact ⟨⟨by decide, by decide⟩, im_X11_named, Or.inl ⟨np_X11_named, lw_g (lw_ms _ (List.mem_map.mpr ⟨_, List.mem_of_getElem? (i := 71) rfl, rfl⟩)) rfl, Or.inl (lw_g (lw_at lw_m10 172 rfl) rfl)⟩⟩⟩
theorem ow29_11_32 : VMk "AlgolHouse$Parser" 326 106766914 := ⟨mok_X11_isDeclarer, by decide, fun t ht => by
  obtain rfl : t = 36 := Nat.le_antisymm (Nat.le_trans ht.2 (by decide)) (Nat.le_trans (by decide) ht.1)
  exact ⟨⟨by decide, by decide⟩, im_X11_isDeclarer, Or.inl ⟨np_X11_isDeclarer, lw_g (lw_ms _ (List.mem_map.mpr ⟨_, List.mem_of_getElem? (i := 31) rfl, rfl⟩)) rfl, Or.inl (lw_g (lw_at lw_m7 2 rfl) rfl)⟩⟩⟩
theorem ow29_11_33 : VMk "AlgolHouse$Parser" 329 109126211 := ⟨mok_X11_unitFrom, by decide, fun t ht => by
  obtain rfl : t = 36 := Nat.le_antisymm (Nat.le_trans ht.2 (by decide)) (Nat.le_trans (by decide) ht.1)
  exact ⟨⟨by decide, by decide⟩, im_X11_unitFrom, Or.inl ⟨np_X11_unitFrom, lw_g (lw_ms _ (List.mem_map.mpr ⟨_, List.mem_of_getElem? (i := 40) rfl, rfl⟩)) rfl, Or.inl (lw_g (lw_at lw_m8 33 rfl) rfl)⟩⟩⟩
theorem ow29_11_34 : VMk "AlgolHouse$Parser" 333 108864067 := ⟨mok_X11_identity, by decide, fun t ht => by
  obtain rfl : t = 36 := Nat.le_antisymm (Nat.le_trans ht.2 (by decide)) (Nat.le_trans (by decide) ht.1)
  exact ⟨⟨by decide, by decide⟩, im_X11_identity, Or.inl ⟨np_X11_identity, lw_g (lw_ms _ (List.mem_map.mpr ⟨_, List.mem_of_getElem? (i := 39) rfl, rfl⟩)) rfl, Or.inl (lw_g (lw_at lw_m7 230 rfl) rfl)⟩⟩⟩
theorem ow29_11_35 : VMk "AlgolHouse$Parser" 336 103621185 := ⟨mok_X11_equalsOpens, by decide, fun t ht => by
  obtain rfl : t = 36 := Nat.le_antisymm (Nat.le_trans ht.2 (by decide)) (Nat.le_trans (by decide) ht.1)
  exact ⟨⟨by decide, by decide⟩, im_X11_equalsOpens, Or.inl ⟨np_X11_equalsOpens, lw_g (lw_ms _ (List.mem_map.mpr ⟨_, List.mem_of_getElem? (i := 19) rfl, rfl⟩)) rfl, Or.inl (lw_g (lw_at lw_m6 151 rfl) rfl)⟩⟩⟩
theorem ow29_11_36 : VMk "AlgolHouse$Parser" 366 112009794 := ⟨mok_X11_isMonadic, by decide, fun t ht => by
  obtain rfl : t = 36 := Nat.le_antisymm (Nat.le_trans ht.2 (by decide)) (Nat.le_trans (by decide) ht.1)
  exact ⟨⟨by decide, by decide⟩, im_X11_isMonadic, Or.inl ⟨np_X11_isMonadic, lw_g (lw_ms _ (List.mem_map.mpr ⟨_, List.mem_of_getElem? (i := 52) rfl, rfl⟩)) rfl, Or.inl (lw_g (lw_at lw_m8 218 rfl) rfl)⟩⟩⟩
theorem ow29_11_37 : VMk "AlgolHouse$Parser" 369 110436930 := ⟨mok_X11_isDyadic, by decide, fun t ht => by
  obtain rfl : t = 36 := Nat.le_antisymm (Nat.le_trans ht.2 (by decide)) (Nat.le_trans (by decide) ht.1)
  exact ⟨⟨by decide, by decide⟩, im_X11_isDyadic, Or.inl ⟨np_X11_isDyadic, lw_g (lw_ms _ (List.mem_map.mpr ⟨_, List.mem_of_getElem? (i := 45) rfl, rfl⟩)) rfl, Or.inl (lw_g (lw_at lw_m8 114 rfl) rfl)⟩⟩⟩
theorem ow29_11_38 : VMk "AlgolHouse$Parser" 372 107291204 := ⟨mok_X11_parameter, by decide, fun t ht => by
  obtain rfl : t = 36 := Nat.le_antisymm (Nat.le_trans ht.2 (by decide)) (Nat.le_trans (by decide) ht.1)
  exact ⟨⟨by decide, by decide⟩, im_X11_parameter, Or.inl ⟨np_X11_parameter, lw_g (lw_ms _ (List.mem_map.mpr ⟨_, List.mem_of_getElem? (i := 33) rfl, rfl⟩)) rfl, Or.inl (lw_g (lw_at lw_m7 68 rfl) rfl)⟩⟩⟩
theorem ow29_11_39 : VMk "AlgolHouse$Parser" 376 108339778 := ⟨mok_X11_body, by decide, fun t ht => by
  obtain rfl : t = 36 := Nat.le_antisymm (Nat.le_trans ht.2 (by decide)) (Nat.le_trans (by decide) ht.1)
  exact ⟨⟨by decide, by decide⟩, im_X11_body, Or.inl ⟨np_X11_body, lw_g (lw_ms _ (List.mem_map.mpr ⟨_, List.mem_of_getElem? (i := 37) rfl, rfl⟩)) rfl, Or.inl (lw_g (lw_at lw_m7 214 rfl) rfl)⟩⟩⟩
theorem ow29_11_40 : VMk "AlgolHouse$Parser" 382 111485506 := ⟨mok_X11_sign, by decide, fun t ht => by
  obtain rfl : t = 36 := Nat.le_antisymm (Nat.le_trans ht.2 (by decide)) (Nat.le_trans (by decide) ht.1)
  exact ⟨⟨by decide, by decide⟩, im_X11_sign, Or.inl ⟨np_X11_sign, lw_g (lw_ms _ (List.mem_map.mpr ⟨_, List.mem_of_getElem? (i := 50) rfl, rfl⟩)) rfl, Or.inl (lw_g (lw_at lw_m8 154 rfl) rfl)⟩⟩⟩
theorem ow29_11_41 : VMk "AlgolHouse$Parser" 390 112534081 := ⟨mok_X11_generated, by decide, fun t ht => by
  obtain rfl : t = 36 := Nat.le_antisymm (Nat.le_trans ht.2 (by decide)) (Nat.le_trans (by decide) ht.1)
  exact ⟨⟨by decide, by decide⟩, im_X11_generated, Or.inl ⟨np_X11_generated, lw_g (lw_ms _ (List.mem_map.mpr ⟨_, List.mem_of_getElem? (i := 54) rfl, rfl⟩)) rfl, Or.inl (lw_g (lw_at lw_m9 18 rfl) rfl)⟩⟩⟩
theorem ow29_11_42 : VMk "AlgolHouse$Parser" 398 118296754 := ⟨mok_X12_with, by decide, fun t ht => by
  rcases tg_11_34 (Nat.le_trans (by decide) ht.1) (Nat.le_trans ht.2 (by decide)) with rfl | rfl | rfl | rfl | rfl | rfl | rfl | rfl | rfl | rfl | rfl | rfl | rfl | rfl | rfl | rfl | rfl | rfl | rfl | rfl | rfl | rfl | rfl | rfl
  · exact ⟨⟨by decide, by decide⟩, im_X12_with, Or.inl ⟨np_X12_with, lw_g (lw_at lw_m25 94 rfl) rfl, Or.inl (lw_g (lw_at lw_m8 105 rfl) rfl)⟩⟩
  · exact ⟨⟨by decide, by decide⟩, im_X12_with, Or.inl ⟨np_X12_with, lw_g (lw_at lw_m25 95 rfl) rfl, Or.inl (lw_g (lw_at lw_m8 105 rfl) rfl)⟩⟩
  · exact ⟨⟨by decide, by decide⟩, im_X12_with, Or.inl ⟨np_X12_with, lw_g (lw_at lw_m25 97 rfl) rfl, Or.inl (lw_g (lw_at lw_m8 105 rfl) rfl)⟩⟩
  · exact ⟨⟨by decide, by decide⟩, im_X12_with, Or.inl ⟨np_X12_with, lw_g (lw_at lw_m25 102 rfl) rfl, Or.inl (lw_g (lw_at lw_m8 105 rfl) rfl)⟩⟩
  · exact ⟨⟨by decide, by decide⟩, im_X12_with, Or.inl ⟨np_X12_with, lw_g (lw_at lw_m25 107 rfl) rfl, Or.inl (lw_g (lw_at lw_m8 105 rfl) rfl)⟩⟩
  · exact ⟨⟨by decide, by decide⟩, im_X12_with, Or.inl ⟨np_X12_with, lw_g (lw_at lw_m25 116 rfl) rfl, Or.inl (lw_g (lw_at lw_m8 105 rfl) rfl)⟩⟩
  · exact ⟨⟨by decide, by decide⟩, im_X12_with, Or.inl ⟨np_X12_with, lw_g (lw_at lw_m25 98 rfl) rfl, Or.inl (lw_g (lw_at lw_m8 105 rfl) rfl)⟩⟩
  · exact ⟨⟨by decide, by decide⟩, im_X12_with, Or.inl ⟨np_X12_with, lw_g (lw_at lw_m25 99 rfl) rfl, Or.inl (lw_g (lw_at lw_m8 105 rfl) rfl)⟩⟩
  · exact ⟨⟨by decide, by decide⟩, im_X12_with, Or.inl ⟨np_X12_with, lw_g (lw_at lw_m25 96 rfl) rfl, Or.inl (lw_g (lw_at lw_m8 105 rfl) rfl)⟩⟩
  · exact ⟨⟨by decide, by decide⟩, im_X12_with, Or.inl ⟨np_X12_with, lw_g (lw_at lw_m25 103 rfl) rfl, Or.inl (lw_g (lw_at lw_m8 105 rfl) rfl)⟩⟩
  · exact ⟨⟨by decide, by decide⟩, im_X12_with, Or.inl ⟨np_X12_with, lw_g (lw_at lw_m25 112 rfl) rfl, Or.inl (lw_g (lw_at lw_m8 105 rfl) rfl)⟩⟩
  · exact ⟨⟨by decide, by decide⟩, im_X12_with, Or.inl ⟨np_X12_with, lw_g (lw_at lw_m25 117 rfl) rfl, Or.inl (lw_g (lw_at lw_m8 105 rfl) rfl)⟩⟩
  · exact ⟨⟨by decide, by decide⟩, im_X12_with, Or.inl ⟨np_X12_with, lw_g (lw_at lw_m25 100 rfl) rfl, Or.inl (lw_g (lw_at lw_m8 105 rfl) rfl)⟩⟩
  · exact ⟨⟨by decide, by decide⟩, im_X12_with, Or.inl ⟨np_X12_with, lw_g (lw_at lw_m25 101 rfl) rfl, Or.inl (lw_g (lw_at lw_m8 105 rfl) rfl)⟩⟩
  · exact ⟨⟨by decide, by decide⟩, im_X12_with, Or.inl ⟨np_X12_with, lw_g (lw_at lw_m25 104 rfl) rfl, Or.inl (lw_g (lw_at lw_m8 105 rfl) rfl)⟩⟩
  · exact ⟨⟨by decide, by decide⟩, im_X12_with, Or.inl ⟨np_X12_with, lw_g (lw_at lw_m25 105 rfl) rfl, Or.inl (lw_g (lw_at lw_m8 105 rfl) rfl)⟩⟩
  · exact ⟨⟨by decide, by decide⟩, im_X12_with, Or.inl ⟨np_X12_with, lw_g (lw_at lw_m25 106 rfl) rfl, Or.inl (lw_g (lw_at lw_m8 105 rfl) rfl)⟩⟩
  · exact ⟨⟨by decide, by decide⟩, im_X12_with, Or.inl ⟨np_X12_with, lw_g (lw_at lw_m25 108 rfl) rfl, Or.inl (lw_g (lw_at lw_m8 105 rfl) rfl)⟩⟩
  · exact ⟨⟨by decide, by decide⟩, im_X12_with, Or.inl ⟨np_X12_with, lw_g (lw_at lw_m25 109 rfl) rfl, Or.inl (lw_g (lw_at lw_m8 105 rfl) rfl)⟩⟩
  · exact ⟨⟨by decide, by decide⟩, im_X12_with, Or.inl ⟨np_X12_with, lw_g (lw_at lw_m25 110 rfl) rfl, Or.inl (lw_g (lw_at lw_m8 105 rfl) rfl)⟩⟩
  · exact ⟨⟨by decide, by decide⟩, im_X12_with, Or.inl ⟨np_X12_with, lw_g (lw_at lw_m25 111 rfl) rfl, Or.inl (lw_g (lw_at lw_m8 105 rfl) rfl)⟩⟩
  · exact ⟨⟨by decide, by decide⟩, im_X12_with, Or.inl ⟨np_X12_with, lw_g (lw_at lw_m25 113 rfl) rfl, Or.inl (lw_g (lw_at lw_m8 105 rfl) rfl)⟩⟩
  · exact ⟨⟨by decide, by decide⟩, im_X12_with, Or.inl ⟨np_X12_with, lw_g (lw_at lw_m25 114 rfl) rfl, Or.inl (lw_g (lw_at lw_m8 105 rfl) rfl)⟩⟩
  · exact ⟨⟨by decide, by decide⟩, im_X12_with, Or.inl ⟨np_X12_with, lw_g (lw_at lw_m25 115 rfl) rfl, Or.inl (lw_g (lw_at lw_m8 105 rfl) rfl)⟩⟩⟩
theorem ow29_11_43 : VMk "AlgolHouse$Parser" 401 110174786 := ⟨mok_X11_tertiaryBehind, by decide, fun t ht => by
  obtain rfl : t = 36 := Nat.le_antisymm (Nat.le_trans ht.2 (by decide)) (Nat.le_trans (by decide) ht.1)
  exact ⟨⟨by decide, by decide⟩, im_X11_tertiaryBehind, Or.inl ⟨np_X11_tertiaryBehind, lw_g (lw_ms _ (List.mem_map.mpr ⟨_, List.mem_of_getElem? (i := 44) rfl, rfl⟩)) rfl, Or.inl (lw_g (lw_at lw_m8 110 rfl) rfl)⟩⟩⟩
theorem ow29_11_44 : VMk "AlgolHouse$Parser" 404 114893378 := ⟨mok_X11_unitBehind, by decide, fun t ht => by
  obtain rfl : t = 36 := Nat.le_antisymm (Nat.le_trans ht.2 (by decide)) (Nat.le_trans (by decide) ht.1)
  exact ⟨⟨by decide, by decide⟩, im_X11_unitBehind, Or.inl ⟨np_X11_unitBehind, lw_g (lw_ms _ (List.mem_map.mpr ⟨_, List.mem_of_getElem? (i := 63) rfl, rfl⟩)) rfl, Or.inl (lw_g (lw_at lw_m10 42 rfl) rfl)⟩⟩⟩
theorem ow29_11_45 : VMk "AlgolHouse$Parser" 418 107553346 := ⟨mok_X11_voidAt, by decide, fun t ht => by
  obtain rfl : t = 36 := Nat.le_antisymm (Nat.le_trans ht.2 (by decide)) (Nat.le_trans (by decide) ht.1)
  exact ⟨⟨by decide, by decide⟩, im_X11_voidAt, Or.inl ⟨np_X11_voidAt, lw_g (lw_ms _ (List.mem_map.mpr ⟨_, List.mem_of_getElem? (i := 34) rfl, rfl⟩)) rfl, Or.inl (lw_g (lw_at lw_m7 73 rfl) rfl)⟩⟩⟩
theorem ow29_11_46 : VMk "AlgolHouse$Parser" 423 167346946 := ⟨mok_J6_contains, by decide, fun t ht => by
  obtain rfl : t = 48 := Nat.le_antisymm (Nat.le_trans ht.2 (by decide)) (Nat.le_trans (by decide) ht.1)
  exact ⟨⟨by decide, by decide⟩, im_J6_contains, Or.inl ⟨np_J6_contains, lw_g (lw_at lw_m7 114 rfl) rfl, Or.inl (lw_g (lw_at lw_m7 112 rfl) rfl)⟩⟩⟩
theorem ow29_11_47 : VMk "AlgolHouse$Parser" 429 166822658 := ⟨mok_J6_get, by decide, fun t ht => by
  obtain rfl : t = 48 := Nat.le_antisymm (Nat.le_trans ht.2 (by decide)) (Nat.le_trans (by decide) ht.1)
  exact ⟨⟨by decide, by decide⟩, im_J6_get, Or.inl ⟨np_J6_get, lw_g (lw_at lw_m7 79 rfl) rfl, Or.inl (lw_g (lw_at lw_m7 77 rfl) rfl)⟩⟩⟩
theorem ow29_11_48 : VMk "AlgolHouse$Parser" 438 108601922 := ⟨mok_X11_unitOf, by decide, fun t ht => by
  obtain rfl : t = 36 := Nat.le_antisymm (Nat.le_trans ht.2 (by decide)) (Nat.le_trans (by decide) ht.1)
  exact ⟨⟨by decide, by decide⟩, im_X11_unitOf, Or.inl ⟨np_X11_unitOf, lw_g (lw_ms _ (List.mem_map.mpr ⟨_, List.mem_of_getElem? (i := 38) rfl, rfl⟩)) rfl, Or.inl (lw_g (lw_at lw_m7 218 rfl) rfl)⟩⟩⟩
theorem ow29_11_49 : VMk "AlgolHouse$Parser" 447 105980482 := ⟨mok_X11_bracket, by decide, fun t ht => by
  obtain rfl : t = 36 := Nat.le_antisymm (Nat.le_trans ht.2 (by decide)) (Nat.le_trans (by decide) ht.1)
  exact ⟨⟨by decide, by decide⟩, im_X11_bracket, Or.inl ⟨np_X11_bracket, lw_g (lw_ms _ (List.mem_map.mpr ⟨_, List.mem_of_getElem? (i := 28) rfl, rfl⟩)) rfl, Or.inl (lw_g (lw_at lw_m6 211 rfl) rfl)⟩⟩⟩
theorem ow29_11_50 : VMk "AlgolHouse$Parser" 451 109650498 := ⟨mok_X11_primaryBehind, by decide, fun t ht => by
  obtain rfl : t = 36 := Nat.le_antisymm (Nat.le_trans ht.2 (by decide)) (Nat.le_trans (by decide) ht.1)
  exact ⟨⟨by decide, by decide⟩, im_X11_primaryBehind, Or.inl ⟨np_X11_primaryBehind, lw_g (lw_ms _ (List.mem_map.mpr ⟨_, List.mem_of_getElem? (i := 42) rfl, rfl⟩)) rfl, Or.inl (lw_g (lw_at lw_m8 62 rfl) rfl)⟩⟩⟩
theorem ow29_11_51 : VMk "AlgolHouse$Parser" 454 115155521 := ⟨mok_X11_tertiary, by decide, fun t ht => by
  obtain rfl : t = 36 := Nat.le_antisymm (Nat.le_trans ht.2 (by decide)) (Nat.le_trans (by decide) ht.1)
  exact ⟨⟨by decide, by decide⟩, im_X11_tertiary, Or.inl ⟨np_X11_tertiary, lw_g (lw_ms _ (List.mem_map.mpr ⟨_, List.mem_of_getElem? (i := 64) rfl, rfl⟩)) rfl, Or.inl (lw_g (lw_at lw_m10 88 rfl) rfl)⟩⟩⟩
theorem ow29_11_52 : VMk "AlgolHouse$Parser" 457 109388355 := ⟨mok_X11_cast, by decide, fun t ht => by
  obtain rfl : t = 36 := Nat.le_antisymm (Nat.le_trans ht.2 (by decide)) (Nat.le_trans (by decide) ht.1)
  exact ⟨⟨by decide, by decide⟩, im_X11_cast, Or.inl ⟨np_X11_cast, lw_g (lw_ms _ (List.mem_map.mpr ⟨_, List.mem_of_getElem? (i := 41) rfl, rfl⟩)) rfl, Or.inl (lw_g (lw_at lw_m8 37 rfl) rfl)⟩⟩⟩
theorem ow29_11_53 : VMk "AlgolHouse$Parser" 483 111747649 := ⟨mok_X11_operand, by decide, fun t ht => by
  obtain rfl : t = 36 := Nat.le_antisymm (Nat.le_trans ht.2 (by decide)) (Nat.le_trans (by decide) ht.1)
  exact ⟨⟨by decide, by decide⟩, im_X11_operand, Or.inl ⟨np_X11_operand, lw_g (lw_ms _ (List.mem_map.mpr ⟨_, List.mem_of_getElem? (i := 51) rfl, rfl⟩)) rfl, Or.inl (lw_g (lw_at lw_m8 188 rfl) rfl)⟩⟩⟩
theorem ow29_11_54 : VMk "AlgolHouse$Parser" 486 110961218 := ⟨mok_X11_priority, by decide, fun t ht => by
  obtain rfl : t = 36 := Nat.le_antisymm (Nat.le_trans ht.2 (by decide)) (Nat.le_trans (by decide) ht.1)
  exact ⟨⟨by decide, by decide⟩, im_X11_priority, Or.inl ⟨np_X11_priority, lw_g (lw_ms _ (List.mem_map.mpr ⟨_, List.mem_of_getElem? (i := 47) rfl, rfl⟩)) rfl, Or.inl (lw_g (lw_at lw_m8 123 rfl) rfl)⟩⟩⟩
theorem ow29_11_55 : VMk "AlgolHouse$Parser" 490 170496785 := ⟨mok_J17_intValue, by decide, fun t ht => by
  rcases tg_49_50 (Nat.le_trans (by decide) ht.1) (Nat.le_trans ht.2 (by decide)) with rfl | rfl
  · exact ⟨⟨by decide, by decide⟩, im_J17_intValue, Or.inl ⟨np_J17_intValue, lw_g (lw_at lw_m7 192 rfl) rfl, Or.inl (lw_g (lw_at lw_m8 137 rfl) rfl)⟩⟩
  · exact ⟨⟨by decide, by decide⟩, im_J17_intValue, Or.inl ⟨np_J17_intValue, lw_g (lw_at lw_m7 192 rfl) rfl, Or.inl (lw_g (lw_at lw_m8 137 rfl) rfl)⟩⟩⟩
theorem ow29_11_56 : VMk "AlgolHouse$Parser" 493 111223363 := ⟨mok_X11_join, by decide, fun t ht => by
  obtain rfl : t = 36 := Nat.le_antisymm (Nat.le_trans ht.2 (by decide)) (Nat.le_trans (by decide) ht.1)
  exact ⟨⟨by decide, by decide⟩, im_X11_join, Or.inl ⟨np_X11_join, lw_g (lw_ms _ (List.mem_map.mpr ⟨_, List.mem_of_getElem? (i := 48) rfl, rfl⟩)) rfl, Or.inl (lw_g (lw_at lw_m8 138 rfl) rfl)⟩⟩⟩
theorem ow29_11_57 : VMk "AlgolHouse$Parser" 497 168133378 := ⟨mok_J6_remove, by decide, fun t ht => by
  obtain rfl : t = 48 := Nat.le_antisymm (Nat.le_trans ht.2 (by decide)) (Nat.le_trans (by decide) ht.1)
  exact ⟨⟨by decide, by decide⟩, im_J6_remove, Or.inl ⟨np_J6_remove, lw_g (lw_at lw_m8 144 rfl) rfl, Or.inl (lw_g (lw_at lw_m8 142 rfl) rfl)⟩⟩⟩
theorem ow29_11_58 : VMk "AlgolHouse$Parser" 512 112271937 := ⟨mok_X11_secondary, by decide, fun t ht => by
  obtain rfl : t = 36 := Nat.le_antisymm (Nat.le_trans ht.2 (by decide)) (Nat.le_trans (by decide) ht.1)
  exact ⟨⟨by decide, by decide⟩, im_X11_secondary, Or.inl ⟨np_X11_secondary, lw_g (lw_ms _ (List.mem_map.mpr ⟨_, List.mem_of_getElem? (i := 53) rfl, rfl⟩)) rfl, Or.inl (lw_g (lw_at lw_m8 222 rfl) rfl)⟩⟩⟩
theorem ow29_11_59 : VMk "AlgolHouse$Parser" 521 112796225 := ⟨mok_X11_base, by decide, fun t ht => by
  obtain rfl : t = 36 := Nat.le_antisymm (Nat.le_trans ht.2 (by decide)) (Nat.le_trans (by decide) ht.1)
  exact ⟨⟨by decide, by decide⟩, im_X11_base, Or.inl ⟨np_X11_base, lw_g (lw_ms _ (List.mem_map.mpr ⟨_, List.mem_of_getElem? (i := 55) rfl, rfl⟩)) rfl, Or.inl (lw_g (lw_at lw_m9 41 rfl) rfl)⟩⟩⟩
theorem ow29_11_60 : VMk "AlgolHouse$Parser" 530 109912643 := ⟨mok_X11_units, by decide, fun t ht => by
  obtain rfl : t = 36 := Nat.le_antisymm (Nat.le_trans ht.2 (by decide)) (Nat.le_trans (by decide) ht.1)
  exact ⟨⟨by decide, by decide⟩, im_X11_units, Or.inl ⟨np_X11_units, lw_g (lw_ms _ (List.mem_map.mpr ⟨_, List.mem_of_getElem? (i := 43) rfl, rfl⟩)) rfl, Or.inl (lw_g (lw_at lw_m8 106 rfl) rfl)⟩⟩⟩
theorem ow29_11_61 : VMk "AlgolHouse$Parser" 550 113320514 := ⟨mok_X11_word, by decide, fun t ht => by
  obtain rfl : t = 36 := Nat.le_antisymm (Nat.le_trans ht.2 (by decide)) (Nat.le_trans (by decide) ht.1)
  exact ⟨⟨by decide, by decide⟩, im_X11_word, Or.inl ⟨np_X11_word, lw_g (lw_ms _ (List.mem_map.mpr ⟨_, List.mem_of_getElem? (i := 57) rfl, rfl⟩)) rfl, Or.inl (lw_g (lw_at lw_m9 96 rfl) rfl)⟩⟩⟩
theorem ow29_11_62 : VMk "AlgolHouse$Parser" 555 113582658 := ⟨mok_X11_choice, by decide, fun t ht => by
  obtain rfl : t = 36 := Nat.le_antisymm (Nat.le_trans ht.2 (by decide)) (Nat.le_trans (by decide) ht.1)
  exact ⟨⟨by decide, by decide⟩, im_X11_choice, Or.inl ⟨np_X11_choice, lw_g (lw_ms _ (List.mem_map.mpr ⟨_, List.mem_of_getElem? (i := 58) rfl, rfl⟩)) rfl, Or.inl (lw_g (lw_at lw_m9 101 rfl) rfl)⟩⟩⟩
theorem ow29_11_63 : VMk "AlgolHouse$Parser" 561 113844802 := ⟨mok_X11_choices, by decide, fun t ht => by
  obtain rfl : t = 36 := Nat.le_antisymm (Nat.le_trans ht.2 (by decide)) (Nat.le_trans (by decide) ht.1)
  exact ⟨⟨by decide, by decide⟩, im_X11_choices, Or.inl ⟨np_X11_choices, lw_g (lw_ms _ (List.mem_map.mpr ⟨_, List.mem_of_getElem? (i := 59) rfl, rfl⟩)) rfl, Or.inl (lw_g (lw_at lw_m9 127 rfl) rfl)⟩⟩⟩
theorem ow29_11_64 : VMk "AlgolHouse$Parser" 570 114369090 := ⟨mok_X11_loop, by decide, fun t ht => by
  obtain rfl : t = 36 := Nat.le_antisymm (Nat.le_trans ht.2 (by decide)) (Nat.le_trans (by decide) ht.1)
  exact ⟨⟨by decide, by decide⟩, im_X11_loop, Or.inl ⟨np_X11_loop, lw_g (lw_ms _ (List.mem_map.mpr ⟨_, List.mem_of_getElem? (i := 61) rfl, rfl⟩)) rfl, Or.inl (lw_g (lw_at lw_m9 236 rfl) rfl)⟩⟩⟩
theorem ow29_11_65 : VMk "AlgolHouse$Parser" 576 107029061 := ⟨mok_X11_parameters, by decide, fun t ht => by
  obtain rfl : t = 36 := Nat.le_antisymm (Nat.le_trans ht.2 (by decide)) (Nat.le_trans (by decide) ht.1)
  exact ⟨⟨by decide, by decide⟩, im_X11_parameters, Or.inl ⟨np_X11_parameters, lw_g (lw_ms _ (List.mem_map.mpr ⟨_, List.mem_of_getElem? (i := 32) rfl, rfl⟩)) rfl, Or.inl (lw_g (lw_at lw_m7 17 rfl) rfl)⟩⟩⟩
theorem ow29_11_66 : VMk "AlgolHouse$Parser" 582 115417667 := ⟨mok_X11_display, by decide, fun t ht => by
  obtain rfl : t = 36 := Nat.le_antisymm (Nat.le_trans ht.2 (by decide)) (Nat.le_trans (by decide) ht.1)
  exact ⟨⟨by decide, by decide⟩, im_X11_display, Or.inl ⟨np_X11_display, lw_g (lw_ms _ (List.mem_map.mpr ⟨_, List.mem_of_getElem? (i := 65) rfl, rfl⟩)) rfl, Or.inl (lw_g (lw_at lw_m10 116 rfl) rfl)⟩⟩⟩
theorem ow29_11_67 : VMk "AlgolHouse$Parser" 604 114106946 := ⟨mok_X11_when, by decide, fun t ht => by
  obtain rfl : t = 36 := Nat.le_antisymm (Nat.le_trans ht.2 (by decide)) (Nat.le_trans (by decide) ht.1)
  exact ⟨⟨by decide, by decide⟩, im_X11_when, Or.inl ⟨np_X11_when, lw_g (lw_ms _ (List.mem_map.mpr ⟨_, List.mem_of_getElem? (i := 60) rfl, rfl⟩)) rfl, Or.inl (lw_g (lw_at lw_m9 169 rfl) rfl)⟩⟩⟩
theorem ow29_11_68 : VMk "AlgolHouse$Parser" 614 168657666 := ⟨mok_J6_addAll, by decide, fun t ht => by
  obtain rfl : t = 48 := Nat.le_antisymm (Nat.le_trans ht.2 (by decide)) (Nat.le_trans (by decide) ht.1)
  exact ⟨⟨by decide, by decide⟩, im_J6_addAll, Or.inl ⟨np_J6_addAll, lw_g (lw_at lw_m9 200 rfl) rfl, Or.inl (lw_g (lw_at lw_m9 198 rfl) rfl)⟩⟩⟩
theorem ow29_11_69 : VMk "AlgolHouse$Parser" 636 114631235 := ⟨mok_X11_loopPart, by decide, fun t ht => by
  obtain rfl : t = 36 := Nat.le_antisymm (Nat.le_trans ht.2 (by decide)) (Nat.le_trans (by decide) ht.1)
  exact ⟨⟨by decide, by decide⟩, im_X11_loopPart, Or.inl ⟨np_X11_loopPart, lw_g (lw_ms _ (List.mem_map.mpr ⟨_, List.mem_of_getElem? (i := 62) rfl, rfl⟩)) rfl, Or.inl (lw_g (lw_at lw_m10 7 rfl) rfl)⟩⟩⟩
theorem ow29_11_70 : VMk "AlgolHouse$Parser" 648 171811633 := ⟨mok_J20_longValue, by decide, fun t ht => by
  rcases tg_51_52 (Nat.le_trans (by decide) ht.1) (Nat.le_trans ht.2 (by decide)) with rfl | rfl
  · exact ⟨⟨by decide, by decide⟩, im_J20_longValue, Or.inl ⟨np_J20_longValue, lw_g (lw_at lw_m7 199 rfl) rfl, Or.inl (lw_g (lw_at lw_m10 216 rfl) rfl)⟩⟩
  · exact ⟨⟨by decide, by decide⟩, im_J20_longValue, Or.inl ⟨np_J20_longValue, lw_g (lw_at lw_m7 199 rfl) rfl, Or.inl (lw_g (lw_at lw_m10 216 rfl) rfl)⟩⟩⟩
theorem ow29_11_71 : VMk "AlgolHouse$Parser" 651 172340065 := ⟨mok_J21_booleanValue, by decide, fun t ht => by
  obtain rfl : t = 54 := Nat.le_antisymm (Nat.le_trans ht.2 (by decide)) (Nat.le_trans (by decide) ht.1)
  exact ⟨⟨by decide, by decide⟩, im_J21_booleanValue, Or.inl ⟨np_J21_booleanValue, lw_g (lw_at lw_m7 182 rfl) rfl, Or.inl (lw_g (lw_at lw_m10 218 rfl) rfl)⟩⟩⟩
theorem ow29_11_72 : VMk "AlgolHouse$Parser" 654 117514818 := ⟨mok_X11_declared, by decide, fun t ht => by
  obtain rfl : t = 36 := Nat.le_antisymm (Nat.le_trans ht.2 (by decide)) (Nat.le_trans (by decide) ht.1)
  exact ⟨⟨by decide, by decide⟩, im_X11_declared, Or.inl ⟨np_X11_declared, lw_g (lw_ms _ (List.mem_map.mpr ⟨_, List.mem_of_getElem? (i := 72) rfl, rfl⟩)) rfl, Or.inl (lw_g (lw_at lw_m10 219 rfl) rfl)⟩⟩⟩
theorem ow29_11_73 : VMk "AlgolHouse$Parser" 658 117776965 := ⟨mok_X11_comesBack, by decide, fun t ht => by
  obtain rfl : t = 36 := Nat.le_antisymm (Nat.le_trans ht.2 (by decide)) (Nat.le_trans (by decide) ht.1)
  exact ⟨⟨by decide, by decide⟩, im_X11_comesBack, Or.inl ⟨np_X11_comesBack, lw_g (lw_ms _ (List.mem_map.mpr ⟨_, List.mem_of_getElem? (i := 73) rfl, rfl⟩)) rfl, Or.inl (lw_g (lw_at lw_m10 223 rfl) rfl)⟩⟩⟩
theorem ow29_11_74 : VMk "AlgolHouse$Parser" 665 18895010 := ⟨mok_X4_unlike, by decide, fun t ht => by
  obtain rfl : t = 10 := Nat.le_antisymm (Nat.le_trans ht.2 (by decide)) (Nat.le_trans (by decide) ht.1)
  exact ⟨⟨by decide, by decide⟩, im_X4_unlike, Or.inl ⟨np_X4_unlike, lw_g (lw_at lw_m10 229 rfl) rfl, Or.inl (lw_g (lw_at lw_m10 227 rfl) rfl)⟩⟩⟩
theorem ow29_11_75 : VMk "AlgolHouse$Parser" 671 21778594 := ⟨mok_X4_areRelated, by decide, fun t ht => by
  obtain rfl : t = 10 := Nat.le_antisymm (Nat.le_trans ht.2 (by decide)) (Nat.le_trans (by decide) ht.1)
  exact ⟨⟨by decide, by decide⟩, im_X4_areRelated, Or.inl ⟨np_X4_areRelated, lw_g (lw_at lw_m11 42 rfl) rfl, Or.inl (lw_g (lw_at lw_m11 40 rfl) rfl)⟩⟩⟩
theorem ow29_11 : ∀ q ∈ ([(43, 101524033), (73, 103096898), (87, 14166098), (91, 102834755), (98, 105194051), (102, 104931906), (105, 102572610), (108, 106242626), (111, 102048321), (115, 113058370), (155, 104669762), (163, 110699074), (186, 104407619), (199, 165774082), (203, 105456194), (212, 103883329), (215, 104145474), (220, 106504769), (223, 115679809), (227, 116204097), (230, 115941954), (239, 165249793), (246, 108077634), (254, 107815489), (268, 105718337), (283, 101261889), (293, 101786179), (297, 102310466), (303, 103359041), (307, 116466241), (312, 116728385), (323, 116990530), (326, 106766914), (329, 109126211), (333, 108864067), (336, 103621185), (366, 112009794), (369, 110436930), (372, 107291204), (376, 108339778), (382, 111485506), (390, 112534081), (398, 118296754), (401, 110174786), (404, 114893378), (418, 107553346), (423, 167346946), (429, 166822658), (438, 108601922), (447, 105980482), (451, 109650498), (454, 115155521), (457, 109388355), (483, 111747649), (486, 110961218), (490, 170496785), (493, 111223363), (497, 168133378), (512, 112271937), (521, 112796225), (530, 109912643), (550, 113320514), (555, 113582658), (561, 113844802), (570, 114369090), (576, 107029061), (582, 115417667), (604, 114106946), (614, 168657666), (636, 114631235), (648, 171811633), (651, 172340065), (654, 117514818), (658, 117776965), (665, 18895010), (671, 21778594)] : List (Nat × Nat)), VMk "AlgolHouse$Parser" q.1 q.2 := List.forall_mem_cons.mpr ⟨ow29_11_0, List.forall_mem_cons.mpr ⟨ow29_11_1, List.forall_mem_cons.mpr ⟨ow29_11_2, List.forall_mem_cons.mpr ⟨ow29_11_3, List.forall_mem_cons.mpr ⟨ow29_11_4, List.forall_mem_cons.mpr ⟨ow29_11_5, List.forall_mem_cons.mpr ⟨ow29_11_6, List.forall_mem_cons.mpr ⟨ow29_11_7, List.forall_mem_cons.mpr ⟨ow29_11_8, List.forall_mem_cons.mpr ⟨ow29_11_9, List.forall_mem_cons.mpr ⟨ow29_11_10, List.forall_mem_cons.mpr ⟨ow29_11_11, List.forall_mem_cons.mpr ⟨ow29_11_12, List.forall_mem_cons.mpr ⟨ow29_11_13, List.forall_mem_cons.mpr ⟨ow29_11_14, List.forall_mem_cons.mpr ⟨ow29_11_15, List.forall_mem_cons.mpr ⟨ow29_11_16, List.forall_mem_cons.mpr ⟨ow29_11_17, List.forall_mem_cons.mpr ⟨ow29_11_18, List.forall_mem_cons.mpr ⟨ow29_11_19, List.forall_mem_cons.mpr ⟨ow29_11_20, List.forall_mem_cons.mpr ⟨ow29_11_21, List.forall_mem_cons.mpr ⟨ow29_11_22, List.forall_mem_cons.mpr ⟨ow29_11_23, List.forall_mem_cons.mpr ⟨ow29_11_24, List.forall_mem_cons.mpr ⟨ow29_11_25, List.forall_mem_cons.mpr ⟨ow29_11_26, List.forall_mem_cons.mpr ⟨ow29_11_27, List.forall_mem_cons.mpr ⟨ow29_11_28, List.forall_mem_cons.mpr ⟨ow29_11_29, List.forall_mem_cons.mpr ⟨ow29_11_30, List.forall_mem_cons.mpr ⟨ow29_11_31, List.forall_mem_cons.mpr ⟨ow29_11_32, List.forall_mem_cons.mpr ⟨ow29_11_33, List.forall_mem_cons.mpr ⟨ow29_11_34, List.forall_mem_cons.mpr ⟨ow29_11_35, List.forall_mem_cons.mpr ⟨ow29_11_36, List.forall_mem_cons.mpr ⟨ow29_11_37, List.forall_mem_cons.mpr ⟨ow29_11_38, List.forall_mem_cons.mpr ⟨ow29_11_39, List.forall_mem_cons.mpr ⟨ow29_11_40, List.forall_mem_cons.mpr ⟨ow29_11_41, List.forall_mem_cons.mpr ⟨ow29_11_42, List.forall_mem_cons.mpr ⟨ow29_11_43, List.forall_mem_cons.mpr ⟨ow29_11_44, List.forall_mem_cons.mpr ⟨ow29_11_45, List.forall_mem_cons.mpr ⟨ow29_11_46, List.forall_mem_cons.mpr ⟨ow29_11_47, List.forall_mem_cons.mpr ⟨ow29_11_48, List.forall_mem_cons.mpr ⟨ow29_11_49, List.forall_mem_cons.mpr ⟨ow29_11_50, List.forall_mem_cons.mpr ⟨ow29_11_51, List.forall_mem_cons.mpr ⟨ow29_11_52, List.forall_mem_cons.mpr ⟨ow29_11_53, List.forall_mem_cons.mpr ⟨ow29_11_54, List.forall_mem_cons.mpr ⟨ow29_11_55, List.forall_mem_cons.mpr ⟨ow29_11_56, List.forall_mem_cons.mpr ⟨ow29_11_57, List.forall_mem_cons.mpr ⟨ow29_11_58, List.forall_mem_cons.mpr ⟨ow29_11_59, List.forall_mem_cons.mpr ⟨ow29_11_60, List.forall_mem_cons.mpr ⟨ow29_11_61, List.forall_mem_cons.mpr ⟨ow29_11_62, List.forall_mem_cons.mpr ⟨ow29_11_63, List.forall_mem_cons.mpr ⟨ow29_11_64, List.forall_mem_cons.mpr ⟨ow29_11_65, List.forall_mem_cons.mpr ⟨ow29_11_66, List.forall_mem_cons.mpr ⟨ow29_11_67, List.forall_mem_cons.mpr ⟨ow29_11_68, List.forall_mem_cons.mpr ⟨ow29_11_69, List.forall_mem_cons.mpr ⟨ow29_11_70, List.forall_mem_cons.mpr ⟨ow29_11_71, List.forall_mem_cons.mpr ⟨ow29_11_72, List.forall_mem_cons.mpr ⟨ow29_11_73, List.forall_mem_cons.mpr ⟨ow29_11_74, List.forall_mem_cons.mpr ⟨ow29_11_75, fun q h => by cases h⟩⟩⟩⟩⟩⟩⟩⟩⟩⟩⟩⟩⟩⟩⟩⟩⟩⟩⟩⟩⟩⟩⟩⟩⟩⟩⟩⟩⟩⟩⟩⟩⟩⟩⟩⟩⟩⟩⟩⟩⟩⟩⟩⟩⟩⟩⟩⟩⟩⟩⟩⟩⟩⟩⟩⟩⟩⟩⟩⟩⟩⟩⟩⟩⟩⟩⟩⟩⟩⟩⟩⟩⟩⟩⟩⟩
theorem ow29_12_0 : PMk "AlgolHouse$Parser" 315 10 2 := ⟨by decide, fun t m h => by
  rcases dsp_10 h with ⟨rfl, rfl⟩
  · exact ⟨mok_X12_with, ⟨by decide, by decide⟩, im_X12_with, Or.inr ⟨⟨"AlgolHouse$Serial", "with", "(LAlgolHouse$Node;)LAlgolHouse$Node;"⟩, "AlgolHouse$Node", by decide +kernel, lw_g (lw_at lw_m8 30 rfl) rfl, lw_g (lw_at lw_m8 31 rfl) rfl, Or.inl (lw_at lw_m7 225 rfl), ⟨by decide +kernel, by decide +kernel⟩, lw_g (lw_at lw_m8 32 rfl) rfl⟩⟩⟩
theorem ow29_12_1 : PMk "AlgolHouse$Parser" 344 13 2 := ⟨by decide, fun t m h => by
  rcases dsp_13 h with ⟨rfl, rfl⟩
  · exact ⟨mok_X12_with, ⟨by decide, by decide⟩, im_X12_with, Or.inr ⟨⟨"AlgolHouse$Identity", "with", "(LAlgolHouse$Node;)LAlgolHouse$Node;"⟩, "AlgolHouse$Node", by decide +kernel, lw_g (lw_at lw_m8 27 rfl) rfl, lw_g (lw_at lw_m8 28 rfl) rfl, Or.inl (lw_at lw_m7 225 rfl), ⟨by decide +kernel, by decide +kernel⟩, lw_g (lw_at lw_m8 29 rfl) rfl⟩⟩⟩
theorem ow29_12_2 : PMk "AlgolHouse$Parser" 389 25 2 := ⟨by decide, fun t m h => by
  rcases dsp_25 h with ⟨rfl, rfl⟩
  · exact ⟨mok_X12_with, ⟨by decide, by decide⟩, im_X12_with, Or.inr ⟨⟨"AlgolHouse$Op", "with", "(LAlgolHouse$Node;)LAlgolHouse$Node;"⟩, "AlgolHouse$Node", by decide +kernel, lw_g (lw_at lw_m10 169 rfl) rfl, lw_g (lw_at lw_m10 170 rfl) rfl, Or.inl (lw_at lw_m7 225 rfl), ⟨by decide +kernel, by decide +kernel⟩, lw_g (lw_at lw_m10 171 rfl) rfl⟩⟩⟩
theorem ow29_12_3 : PMk "AlgolHouse$Parser" 412 26 2 := ⟨by decide, fun t m h => by
  rcases dsp_26 h with ⟨rfl, rfl⟩
  · exact ⟨mok_X12_with, ⟨by decide, by decide⟩, im_X12_with, Or.inr ⟨⟨"AlgolHouse$Variable", "with", "(LAlgolHouse$Node;)LAlgolHouse$Node;"⟩, "AlgolHouse$Node", by decide +kernel, lw_g (lw_at lw_m10 207 rfl) rfl, lw_g (lw_at lw_m10 208 rfl) rfl, Or.inl (lw_at lw_m7 225 rfl), ⟨by decide +kernel, by decide +kernel⟩, lw_g (lw_at lw_m10 209 rfl) rfl⟩⟩⟩
theorem ow29_12_4 : PMk "AlgolHouse$Parser" 441 12 2 := ⟨by decide, fun t m h => by
  rcases dsp_12 h with ⟨rfl, rfl⟩
  · exact ⟨mok_X12_with, ⟨by decide, by decide⟩, im_X12_with, Or.inr ⟨⟨"AlgolHouse$Routine", "with", "(LAlgolHouse$Node;)LAlgolHouse$Node;"⟩, "AlgolHouse$Node", by decide +kernel, lw_g (lw_at lw_m7 223 rfl) rfl, lw_g (lw_at lw_m7 224 rfl) rfl, Or.inl (lw_at lw_m7 225 rfl), ⟨by decide +kernel, by decide +kernel⟩, lw_g (lw_at lw_m7 226 rfl) rfl⟩⟩⟩
theorem ow29_12_5 : PMk "AlgolHouse$Parser" 463 14 2 := ⟨by decide, fun t m h => by
  rcases dsp_14 h with ⟨rfl, rfl⟩
  · exact ⟨mok_X12_with, ⟨by decide, by decide⟩, im_X12_with, Or.inr ⟨⟨"AlgolHouse$Cast", "with", "(LAlgolHouse$Node;)LAlgolHouse$Node;"⟩, "AlgolHouse$Node", by decide +kernel, lw_g (lw_at lw_m8 59 rfl) rfl, lw_g (lw_at lw_m8 60 rfl) rfl, Or.inl (lw_at lw_m7 225 rfl), ⟨by decide +kernel, by decide +kernel⟩, lw_g (lw_at lw_m8 61 rfl) rfl⟩⟩⟩
theorem ow29_12_6 : PMk "AlgolHouse$Parser" 469 23 2 := ⟨by decide, fun t m h => by
  rcases dsp_23 h with ⟨rfl, rfl⟩
  · exact ⟨mok_X12_with, ⟨by decide, by decide⟩, im_X12_with, Or.inr ⟨⟨"AlgolHouse$Assignation", "with", "(LAlgolHouse$Node;)LAlgolHouse$Node;"⟩, "AlgolHouse$Node", by decide +kernel, lw_g (lw_at lw_m10 63 rfl) rfl, lw_g (lw_at lw_m10 64 rfl) rfl, Or.inl (lw_at lw_m7 225 rfl), ⟨by decide +kernel, by decide +kernel⟩, lw_g (lw_at lw_m10 65 rfl) rfl⟩⟩⟩
theorem ow29_12_7 : PMk "AlgolHouse$Parser" 477 24 2 := ⟨by decide, fun t m h => by
  rcases dsp_24 h with ⟨rfl, rfl⟩
  · exact ⟨mok_X12_with, ⟨by decide, by decide⟩, im_X12_with, Or.inr ⟨⟨"AlgolHouse$Is", "with", "(LAlgolHouse$Node;)LAlgolHouse$Node;"⟩, "AlgolHouse$Node", by decide +kernel, lw_g (lw_at lw_m10 85 rfl) rfl, lw_g (lw_at lw_m10 86 rfl) rfl, Or.inl (lw_at lw_m7 225 rfl), ⟨by decide +kernel, by decide +kernel⟩, lw_g (lw_at lw_m10 87 rfl) rfl⟩⟩⟩
theorem ow29_12_8 : PMk "AlgolHouse$Parser" 503 15 2 := ⟨by decide, fun t m h => by
  rcases dsp_15 h with ⟨rfl, rfl⟩
  · exact ⟨mok_X12_with, ⟨by decide, by decide⟩, im_X12_with, Or.inr ⟨⟨"AlgolHouse$Formula", "with", "(LAlgolHouse$Node;)LAlgolHouse$Node;"⟩, "AlgolHouse$Node", by decide +kernel, lw_g (lw_at lw_m8 185 rfl) rfl, lw_g (lw_at lw_m8 186 rfl) rfl, Or.inl (lw_at lw_m7 225 rfl), ⟨by decide +kernel, by decide +kernel⟩, lw_g (lw_at lw_m8 187 rfl) rfl⟩⟩⟩
theorem ow29_12_9 : PMk "AlgolHouse$Parser" 511 16 2 := ⟨by decide, fun t m h => by
  rcases dsp_16 h with ⟨rfl, rfl⟩
  · exact ⟨mok_X12_with, ⟨by decide, by decide⟩, im_X12_with, Or.inr ⟨⟨"AlgolHouse$Edge", "with", "(LAlgolHouse$Node;)LAlgolHouse$Node;"⟩, "AlgolHouse$Node", by decide +kernel, lw_g (lw_at lw_m8 215 rfl) rfl, lw_g (lw_at lw_m8 216 rfl) rfl, Or.inl (lw_at lw_m7 225 rfl), ⟨by decide +kernel, by decide +kernel⟩, lw_g (lw_at lw_m8 217 rfl) rfl⟩⟩⟩
theorem ow29_12_10 : PMk "AlgolHouse$Parser" 520 17 2 := ⟨by decide, fun t m h => by
  rcases dsp_17 h with ⟨rfl, rfl⟩
  · exact ⟨mok_X12_with, ⟨by decide, by decide⟩, im_X12_with, Or.inr ⟨⟨"AlgolHouse$Selection", "with", "(LAlgolHouse$Node;)LAlgolHouse$Node;"⟩, "AlgolHouse$Node", by decide +kernel, lw_g (lw_at lw_m9 11 rfl) rfl, lw_g (lw_at lw_m9 12 rfl) rfl, Or.inl (lw_at lw_m7 225 rfl), ⟨by decide +kernel, by decide +kernel⟩, lw_g (lw_at lw_m9 13 rfl) rfl⟩⟩⟩
theorem ow29_12_11 : PMk "AlgolHouse$Parser" 569 18 2 := ⟨by decide, fun t m h => by
  rcases dsp_18 h with ⟨rfl, rfl⟩
  · exact ⟨mok_X12_with, ⟨by decide, by decide⟩, im_X12_with, Or.inr ⟨⟨"AlgolHouse$Print", "with", "(LAlgolHouse$Node;)LAlgolHouse$Node;"⟩, "AlgolHouse$Node", by decide +kernel, lw_g (lw_at lw_m9 233 rfl) rfl, lw_g (lw_at lw_m9 234 rfl) rfl, Or.inl (lw_at lw_m7 225 rfl), ⟨by decide +kernel, by decide +kernel⟩, lw_g (lw_at lw_m9 235 rfl) rfl⟩⟩⟩
theorem ow29_12_12 : PMk "AlgolHouse$Parser" 579 11 2 := ⟨by decide, fun t m h => by
  rcases dsp_11 h with ⟨rfl, rfl⟩
  · exact ⟨mok_X12_part, ⟨by decide, by decide⟩, im_X12_part, Or.inr ⟨⟨"AlgolHouse$Serial", "part", "(I)LAlgolHouse$Node;"⟩, "AlgolHouse$Node", by decide +kernel, lw_g (lw_at lw_m10 108 rfl) rfl, lw_g (lw_at lw_m10 109 rfl) rfl, Or.inl (lw_at lw_m10 110 rfl), ⟨by decide +kernel, by decide +kernel⟩, lw_g (lw_at lw_m10 111 rfl) rfl⟩⟩⟩
theorem ow29_12_13 : PMk "AlgolHouse$Parser" 586 21 2 := ⟨by decide, fun t m h => by
  rcases dsp_21 h with ⟨rfl, rfl⟩
  · exact ⟨mok_X12_with, ⟨by decide, by decide⟩, im_X12_with, Or.inr ⟨⟨"AlgolHouse$Display", "with", "(LAlgolHouse$Node;)LAlgolHouse$Node;"⟩, "AlgolHouse$Node", by decide +kernel, lw_g (lw_at lw_m9 174 rfl) rfl, lw_g (lw_at lw_m9 175 rfl) rfl, Or.inl (lw_at lw_m7 225 rfl), ⟨by decide +kernel, by decide +kernel⟩, lw_g (lw_at lw_m9 176 rfl) rfl⟩⟩⟩
theorem ow29_12_14 : PMk "AlgolHouse$Parser" 590 19 2 := ⟨by decide, fun t m h => by
  rcases dsp_19 h with ⟨rfl, rfl⟩
  · exact ⟨mok_X12_with, ⟨by decide, by decide⟩, im_X12_with, Or.inr ⟨⟨"AlgolHouse$If", "with", "(LAlgolHouse$Node;)LAlgolHouse$Node;"⟩, "AlgolHouse$Node", by decide +kernel, lw_g (lw_at lw_m9 120 rfl) rfl, lw_g (lw_at lw_m9 121 rfl) rfl, Or.inl (lw_at lw_m7 225 rfl), ⟨by decide +kernel, by decide +kernel⟩, lw_g (lw_at lw_m9 122 rfl) rfl⟩⟩⟩
theorem ow29_12_15 : PMk "AlgolHouse$Parser" 602 20 2 := ⟨by decide, fun t m h => by
  rcases dsp_20 h with ⟨rfl, rfl⟩
  · exact ⟨mok_X12_with, ⟨by decide, by decide⟩, im_X12_with, Or.inr ⟨⟨"AlgolHouse$When", "with", "(LAlgolHouse$Node;)LAlgolHouse$Node;"⟩, "AlgolHouse$Node", by decide +kernel, lw_g (lw_at lw_m9 166 rfl) rfl, lw_g (lw_at lw_m9 167 rfl) rfl, Or.inl (lw_at lw_m7 225 rfl), ⟨by decide +kernel, by decide +kernel⟩, lw_g (lw_at lw_m9 168 rfl) rfl⟩⟩⟩
theorem ow29_12_16 : PMk "AlgolHouse$Parser" 613 22 2 := ⟨by decide, fun t m h => by
  rcases dsp_22 h with ⟨rfl, rfl⟩
  · exact ⟨mok_X12_with, ⟨by decide, by decide⟩, im_X12_with, Or.inr ⟨⟨"AlgolHouse$Case", "with", "(LAlgolHouse$Node;)LAlgolHouse$Node;"⟩, "AlgolHouse$Node", by decide +kernel, lw_g (lw_at lw_m9 195 rfl) rfl, lw_g (lw_at lw_m9 196 rfl) rfl, Or.inl (lw_at lw_m7 225 rfl), ⟨by decide +kernel, by decide +kernel⟩, lw_g (lw_at lw_m9 197 rfl) rfl⟩⟩⟩
theorem ow29_12 : ∀ q ∈ ([(315, 10), (344, 13), (389, 25), (412, 26), (441, 12), (463, 14), (469, 23), (477, 24), (503, 15), (511, 16), (520, 17), (569, 18), (579, 11), (586, 21), (590, 19), (602, 20), (613, 22)] : List (Nat × Nat)), ∀ n, pN q.2 n → PMk "AlgolHouse$Parser" q.1 q.2 n := List.forall_mem_cons.mpr ⟨(fun n hn => by cases hn; exact ow29_12_0), List.forall_mem_cons.mpr ⟨(fun n hn => by cases hn; exact ow29_12_1), List.forall_mem_cons.mpr ⟨(fun n hn => by cases hn; exact ow29_12_2), List.forall_mem_cons.mpr ⟨(fun n hn => by cases hn; exact ow29_12_3), List.forall_mem_cons.mpr ⟨(fun n hn => by cases hn; exact ow29_12_4), List.forall_mem_cons.mpr ⟨(fun n hn => by cases hn; exact ow29_12_5), List.forall_mem_cons.mpr ⟨(fun n hn => by cases hn; exact ow29_12_6), List.forall_mem_cons.mpr ⟨(fun n hn => by cases hn; exact ow29_12_7), List.forall_mem_cons.mpr ⟨(fun n hn => by cases hn; exact ow29_12_8), List.forall_mem_cons.mpr ⟨(fun n hn => by cases hn; exact ow29_12_9), List.forall_mem_cons.mpr ⟨(fun n hn => by cases hn; exact ow29_12_10), List.forall_mem_cons.mpr ⟨(fun n hn => by cases hn; exact ow29_12_11), List.forall_mem_cons.mpr ⟨(fun n hn => by cases hn; exact ow29_12_12), List.forall_mem_cons.mpr ⟨(fun n hn => by cases hn; exact ow29_12_13), List.forall_mem_cons.mpr ⟨(fun n hn => by cases hn; exact ow29_12_14), List.forall_mem_cons.mpr ⟨(fun n hn => by cases hn; exact ow29_12_15), List.forall_mem_cons.mpr ⟨(fun n hn => by cases hn; exact ow29_12_16), fun q h => by cases h⟩⟩⟩⟩⟩⟩⟩⟩⟩⟩⟩⟩⟩⟩⟩⟩⟩
theorem ow29_13 : ∀ q ∈ ([(3, 0)] : List (Nat × Nat)), Cond.methodLink "AlgolHouse$Parser" q.1 Lib.objectInit ∈ lw_all := List.forall_mem_cons.mpr ⟨lw_g (lw_at lw_m5 26 rfl) rfl, fun q h => by cases h⟩
theorem ow29_14 : ∀ q ∈ ([] : List (Nat × Nat)), JMk "AlgolHouse$Parser" q.1 q.2 := fun q h => by cases h
theorem ow29_15 : ∀ q ∈ ([] : List (Nat × Nat)), exT q.2 ∧ NLk "AlgolHouse$Parser" q.1 q.2 := fun q h => by cases h
theorem ow29_16 : ∀ q ∈ ([] : List (Nat × Nat)), exT q.2 ∧ Cond.methodLink "AlgolHouse$Parser" q.1 ⟨cN q.2, "<init>", "()V"⟩ ∈ lw_all := fun q h => by cases h
def Om29 : Om := [[(12, 1302612114), (18, 1311000722), (21, 1319389330), (24, 1327777938), (27, 1336166546), (30, 1344555154), (33, 1277446290), (37, 1352943762), (50, 327485974), (56, 1285834896), (60, 319097366), (64, 344263188), (83, 335874582), (126, 1294223504), (195, 663294501), (236, 646517286), (250, 671683110), (257, 654905894), (274, 1361332370), (278, 1369720978), (281, 638128676), (415, 1117666426), (421, 1126055034), (426, 1134443642), (433, 100795400), (534, 748831790), (603, 957754458), (622, 966143066), (647, 748831790), (662, 109184010), (675, 92406792)], [(56, 1285834896), (126, 1294223504), (195, 663294501), (250, 671683110), (257, 654905894), (274, 1361332370), (278, 1369720978), (435, 1142832250)], [(12, 1302612114), (18, 1311000722), (21, 1319389330), (24, 1327777938), (27, 1336166546), (30, 1344555154), (33, 1277446290), (37, 1352943762)], [(77, 3615490050), (95, 3649044482), (118, 3657433090), (123, 3632267266), (129, 3623878658), (136, 3640655874), (287, 3598712834)], [(132, 3674210306), (134, 3682598914), (170, 3724541954), (172, 3716153346), (174, 3732930562), (176, 3741319170), (178, 3749707778), (180, 3758096386), (182, 3766484994), (184, 3774873602), (310, 3690987522), (319, 3699376130), (321, 3707764738), (442, 3783262210), (464, 3992977410), (470, 4001366018), (478, 4009754626), (504, 3791650818), (506, 3800039426), (515, 3808428034), (540, 3816816642), (542, 3825205250), (547, 3833593858), (549, 3841982466), (553, 3850371074), (559, 3858759682), (564, 3867148290), (591, 3875536898), (593, 3883925506), (595, 3892314114), (597, 3900702722), (608, 3909091330), (618, 3917479938), (620, 3925868546), (623, 3934257154), (625, 3942645762), (627, 3951034370), (629, 3959422978), (631, 3967811586), (633, 3976200194), (640, 3984588802)], [(9, 48), (41, 44), (190, 9), (207, 2), (290, 21), (339, 14), (363, 30), (380, 15), (393, 24), (407, 16), (444, 32), (460, 13), (466, 11), (472, 25), (480, 27), (500, 23), (508, 18), (517, 31), (524, 12), (527, 33), (535, 28), (544, 34), (566, 29), (573, 17), (587, 20), (599, 22), (610, 19), (642, 26)], [], [(190, 1161), (207, 258), (346, 6707), (352, 6449), (357, 6966), (399, 4363)], [(363, 71487262)], [(67, 174850050), (159, 5767169), (260, 235929605), (345, 170917889), (351, 169869313), (356, 171966465)], [(11, 164725505), (47, 36004547), (192, 24397970), (209, 127668260), (217, 24660115), (292, 121940306), (341, 128217317), (365, 126153186), (386, 157317363), (395, 140820868), (409, 158630151), (446, 124060162), (462, 129525971), (468, 153901234), (474, 154978707), (482, 156293554), (502, 133740915), (510, 138711331), (519, 139786739), (526, 130572482), (529, 131926546), (537, 142139844), (546, 143200803), (568, 150268370), (575, 125077778), (589, 144220482), (601, 145797474), (612, 148674867), (635, 164987650), (644, 151310758)], [(43, 101524033), (73, 103096898), (87, 14166098), (91, 102834755), (98, 105194051), (102, 104931906), (105, 102572610), (108, 106242626), (111, 102048321), (115, 113058370), (155, 104669762), (163, 110699074), (186, 104407619), (199, 165774082), (203, 105456194), (212, 103883329), (215, 104145474), (220, 106504769), (223, 115679809), (227, 116204097), (230, 115941954), (239, 165249793), (246, 108077634), (254, 107815489), (268, 105718337), (283, 101261889), (293, 101786179), (297, 102310466), (303, 103359041), (307, 116466241), (312, 116728385), (323, 116990530), (326, 106766914), (329, 109126211), (333, 108864067), (336, 103621185), (366, 112009794), (369, 110436930), (372, 107291204), (376, 108339778), (382, 111485506), (390, 112534081), (398, 118296754), (401, 110174786), (404, 114893378), (418, 107553346), (423, 167346946), (429, 166822658), (438, 108601922), (447, 105980482), (451, 109650498), (454, 115155521), (457, 109388355), (483, 111747649), (486, 110961218), (490, 170496785), (493, 111223363), (497, 168133378), (512, 112271937), (521, 112796225), (530, 109912643), (550, 113320514), (555, 113582658), (561, 113844802), (570, 114369090), (576, 107029061), (582, 115417667), (604, 114106946), (614, 168657666), (636, 114631235), (648, 171811633), (651, 172340065), (654, 117514818), (658, 117776965), (665, 18895010), (671, 21778594)], [(315, 10), (344, 13), (389, 25), (412, 26), (441, 12), (463, 14), (469, 23), (477, 24), (503, 15), (511, 16), (520, 17), (569, 18), (579, 11), (586, 21), (590, 19), (602, 20), (613, 22)], [(3, 0)], [], [], []]
def Ok29 : List (Nat × Int) := []
def Ol29 : List (Nat × Int) := [(121, 61), (139, 33), (141, 38), (143, 15663), (145, 43), (147, 45), (149, 42), (151, 47), (153, 37), (166, 126), (168, 91), (234, 40), (242, 44), (244, 41), (266, 93), (272, 58), (301, 59), (361, 9), (413, 15674)]
theorem ow29 {s0 : State} (hN : NCs s0) : OwnOK s0 "AlgolHouse$Parser" Om29 Ok29 Ol29 := ⟨ow29_k, ow29_l, ow29_0, ow29_1, ow29_2, ow29_3, ow29_4, ow29_5, ow29_6, ow29_7, ow29_8 hN, ow29_9, ow29_10, ow29_11, ow29_12, ow29_13, ow29_14, ow29_15, ow29_16⟩
theorem ow48_k : ∀ q ∈ ([] : List (Nat × Int)), Cond.constant "java/lang/Boolean" q.1 (Int32.ofInt q.2) ∈ lw_all := fun q h => by cases h
theorem ow48_l : ∀ q ∈ ([] : List (Nat × Int)), Cond.constantLong "java/lang/Boolean" q.1 (Int64.ofInt q.2) ∈ lw_all := fun q h => by cases h
theorem ow48_0 : ∀ q ∈ ([(7, 3585474779)] : List (Nat × Nat)), q.2 ∈ iFs ∧ FLk "java/lang/Boolean" q.1 q.2 := List.forall_mem_cons.mpr ⟨⟨List.mem_of_getElem? (i := 427) rfl, ⟨"java/lang/Boolean", Or.inl (lw_g (lw_at lw_m25 239 rfl) rfl), Or.inl rfl⟩⟩, fun q h => by cases h⟩
theorem ow48_1 : ∀ q ∈ ([] : List (Nat × Nat)), q.2 ∈ iFs ∧ PLk "java/lang/Boolean" q.1 q.2 := fun q h => by cases h
theorem ow48_2 : ∀ q ∈ ([] : List (Nat × Nat)), q.2 ∈ iFs ∧ PFk "java/lang/Boolean" q.1 q.2 := fun q h => by cases h
theorem ow48_3 : ∀ q ∈ ([(27, 4085252098), (31, 4093640706)] : List (Nat × Nat)), q.2 ∈ sFs ∧ FLk "java/lang/Boolean" q.1 q.2 := List.forall_mem_cons.mpr ⟨⟨List.mem_of_getElem? (i := 16) rfl, ⟨"java/lang/Boolean", Or.inl (lw_g (lw_at lw_m6 147 rfl) rfl), Or.inl rfl⟩⟩, List.forall_mem_cons.mpr ⟨⟨List.mem_of_getElem? (i := 17) rfl, ⟨"java/lang/Boolean", Or.inl (lw_g (lw_at lw_m6 149 rfl) rfl), Or.inl rfl⟩⟩, fun q h => by cases h⟩⟩
theorem ow48_4 : ∀ q ∈ ([] : List (Nat × Nat)), TLk "java/lang/Boolean" q.1 q.2 ∧ q.2 % 4 = 2 := fun q h => by cases h
theorem ow48_5 : ∀ q ∈ ([] : List (Nat × Nat)), mdT q.2 = true ∧ NLk "java/lang/Boolean" q.1 q.2 := fun q h => by cases h
theorem ow48_6 : ∀ q ∈ ([] : List (Nat × Nat)), mdA q.2 = true ∧ ak q.2 = 2 ∧ ALk "java/lang/Boolean" q.1 q.2 := fun q h => by cases h
theorem ow48_7 : ∀ q ∈ ([] : List (Nat × Nat)), XLk "java/lang/Boolean" q.1 q.2 := fun q h => by cases h
theorem ow48_8 {s0 : State} (hN : NCs s0) : ∀ q ∈ ([] : List (Nat × Nat)), YLk s0 "java/lang/Boolean" q.1 q.2 := fun q h => by cases h
theorem ow48_9 : ∀ q ∈ ([] : List (Nat × Nat)), q.2 = ACN ∧ ACk "java/lang/Boolean" q.1 ∨ q.2 ≠ ACN ∧ SMk "java/lang/Boolean" q.1 q.2 := fun q h => by cases h
theorem ow48_10 : ∀ q ∈ ([] : List (Nat × Nat)), IMk "java/lang/Boolean" q.1 q.2 ∧ ∀ t, inT (q.2 / 16 % 128) (q.2 / 2048 % 128) t → inT 1 55 t := fun q h => by cases h
theorem ow48_11 : ∀ q ∈ ([] : List (Nat × Nat)), VMk "java/lang/Boolean" q.1 q.2 := fun q h => by cases h
theorem ow48_12 : ∀ q ∈ ([] : List (Nat × Nat)), ∀ n, pN q.2 n → PMk "java/lang/Boolean" q.1 q.2 n := fun q h => by cases h
theorem ow48_13 : ∀ q ∈ ([] : List (Nat × Nat)), Cond.methodLink "java/lang/Boolean" q.1 Lib.objectInit ∈ lw_all := fun q h => by cases h
theorem ow48_14 : ∀ q ∈ ([] : List (Nat × Nat)), JMk "java/lang/Boolean" q.1 q.2 := fun q h => by cases h
theorem ow48_15 : ∀ q ∈ ([] : List (Nat × Nat)), exT q.2 ∧ NLk "java/lang/Boolean" q.1 q.2 := fun q h => by cases h
theorem ow48_16 : ∀ q ∈ ([] : List (Nat × Nat)), exT q.2 ∧ Cond.methodLink "java/lang/Boolean" q.1 ⟨cN q.2, "<init>", "()V"⟩ ∈ lw_all := fun q h => by cases h
def Om48 : Om := [[(7, 3585474779)], [], [], [(27, 4085252098), (31, 4093640706)], [], [], [], [], [], [], [], [], [], [], [], [], []]
def Ok48 : List (Nat × Int) := []
def Ol48 : List (Nat × Int) := []
theorem ow48 {s0 : State} (hN : NCs s0) : OwnOK s0 "java/lang/Boolean" Om48 Ok48 Ol48 := ⟨ow48_k, ow48_l, ow48_0, ow48_1, ow48_2, ow48_3, ow48_4, ow48_5, ow48_6, ow48_7, ow48_8 hN, ow48_9, ow48_10, ow48_11, ow48_12, ow48_13, ow48_14, ow48_15, ow48_16⟩
theorem ow49_k : ∀ q ∈ ([] : List (Nat × Int)), Cond.constant "java/lang/Exception" q.1 (Int32.ofInt q.2) ∈ lw_all := fun q h => by cases h
theorem ow49_l : ∀ q ∈ ([] : List (Nat × Int)), Cond.constantLong "java/lang/Exception" q.1 (Int64.ofInt q.2) ∈ lw_all := fun q h => by cases h
theorem ow49_0 : ∀ q ∈ ([] : List (Nat × Nat)), q.2 ∈ iFs ∧ FLk "java/lang/Exception" q.1 q.2 := fun q h => by cases h
theorem ow49_1 : ∀ q ∈ ([] : List (Nat × Nat)), q.2 ∈ iFs ∧ PLk "java/lang/Exception" q.1 q.2 := fun q h => by cases h
theorem ow49_2 : ∀ q ∈ ([] : List (Nat × Nat)), q.2 ∈ iFs ∧ PFk "java/lang/Exception" q.1 q.2 := fun q h => by cases h
theorem ow49_3 : ∀ q ∈ ([] : List (Nat × Nat)), q.2 ∈ sFs ∧ FLk "java/lang/Exception" q.1 q.2 := fun q h => by cases h
theorem ow49_4 : ∀ q ∈ ([] : List (Nat × Nat)), TLk "java/lang/Exception" q.1 q.2 ∧ q.2 % 4 = 2 := fun q h => by cases h
theorem ow49_5 : ∀ q ∈ ([] : List (Nat × Nat)), mdT q.2 = true ∧ NLk "java/lang/Exception" q.1 q.2 := fun q h => by cases h
theorem ow49_6 : ∀ q ∈ ([] : List (Nat × Nat)), mdA q.2 = true ∧ ak q.2 = 2 ∧ ALk "java/lang/Exception" q.1 q.2 := fun q h => by cases h
theorem ow49_7 : ∀ q ∈ ([] : List (Nat × Nat)), XLk "java/lang/Exception" q.1 q.2 := fun q h => by cases h
theorem ow49_8 {s0 : State} (hN : NCs s0) : ∀ q ∈ ([] : List (Nat × Nat)), YLk s0 "java/lang/Exception" q.1 q.2 := fun q h => by cases h
theorem ow49_9 : ∀ q ∈ ([] : List (Nat × Nat)), q.2 = ACN ∧ ACk "java/lang/Exception" q.1 ∨ q.2 ≠ ACN ∧ SMk "java/lang/Exception" q.1 q.2 := fun q h => by cases h
theorem ow49_10 : ∀ q ∈ ([(16, 175995589)] : List (Nat × Nat)), IMk "java/lang/Exception" q.1 q.2 ∧ ∀ t, inT (q.2 / 16 % 128) (q.2 / 2048 % 128) t → inT 1 55 t := List.forall_mem_cons.mpr ⟨⟨⟨mok_J7_init_3, np_J7_init_3, by decide, rfl, im_J7_init_3, ⟨_, _, rfl⟩, Or.inl (lw_g (lw_at lw_m3 204 rfl) rfl)⟩, fun t ht => ⟨Nat.le_trans (by decide) ht.1, Nat.le_trans ht.2 (by decide)⟩⟩, fun q h => by cases h⟩
theorem ow49_11 : ∀ q ∈ ([] : List (Nat × Nat)), VMk "java/lang/Exception" q.1 q.2 := fun q h => by cases h
theorem ow49_12 : ∀ q ∈ ([] : List (Nat × Nat)), ∀ n, pN q.2 n → PMk "java/lang/Exception" q.1 q.2 n := fun q h => by cases h
theorem ow49_13 : ∀ q ∈ ([] : List (Nat × Nat)), Cond.methodLink "java/lang/Exception" q.1 Lib.objectInit ∈ lw_all := fun q h => by cases h
theorem ow49_14 : ∀ q ∈ ([] : List (Nat × Nat)), JMk "java/lang/Exception" q.1 q.2 := fun q h => by cases h
theorem ow49_15 : ∀ q ∈ ([] : List (Nat × Nat)), exT q.2 ∧ NLk "java/lang/Exception" q.1 q.2 := fun q h => by cases h
theorem ow49_16 : ∀ q ∈ ([] : List (Nat × Nat)), exT q.2 ∧ Cond.methodLink "java/lang/Exception" q.1 ⟨cN q.2, "<init>", "()V"⟩ ∈ lw_all := fun q h => by cases h
def Om49 : Om := [[], [], [], [], [], [], [], [], [], [], [(16, 175995589)], [], [], [], [], [], []]
def Ok49 : List (Nat × Int) := []
def Ol49 : List (Nat × Int) := []
theorem ow49 {s0 : State} (hN : NCs s0) : OwnOK s0 "java/lang/Exception" Om49 Ok49 Ol49 := ⟨ow49_k, ow49_l, ow49_0, ow49_1, ow49_2, ow49_3, ow49_4, ow49_5, ow49_6, ow49_7, ow49_8 hN, ow49_9, ow49_10, ow49_11, ow49_12, ow49_13, ow49_14, ow49_15, ow49_16⟩
theorem ow50_k : ∀ q ∈ ([(265, 1431655765), (266, 858993459), (267, 252645135)] : List (Nat × Int)), Cond.constant "java/lang/Integer" q.1 (Int32.ofInt q.2) ∈ lw_all := List.forall_mem_cons.mpr ⟨lw_g (lw_at lw_m13 55 rfl) rfl, List.forall_mem_cons.mpr ⟨lw_g (lw_at lw_m13 56 rfl) rfl, List.forall_mem_cons.mpr ⟨lw_g (lw_at lw_m13 57 rfl) rfl, fun q h => by cases h⟩⟩⟩
theorem ow50_l : ∀ q ∈ ([] : List (Nat × Int)), Cond.constantLong "java/lang/Integer" q.1 (Int64.ofInt q.2) ∈ lw_all := fun q h => by cases h
theorem ow50_0 : ∀ q ∈ ([(205, 3551683268)] : List (Nat × Nat)), q.2 ∈ iFs ∧ FLk "java/lang/Integer" q.1 q.2 := List.forall_mem_cons.mpr ⟨⟨List.mem_of_getElem? (i := 423) rfl, ⟨"java/lang/Integer", Or.inl (lw_g (lw_at lw_m6 140 rfl) rfl), Or.inl rfl⟩⟩, fun q h => by cases h⟩
theorem ow50_1 : ∀ q ∈ ([] : List (Nat × Nat)), q.2 ∈ iFs ∧ PLk "java/lang/Integer" q.1 q.2 := fun q h => by cases h
theorem ow50_2 : ∀ q ∈ ([(205, 3551683268)] : List (Nat × Nat)), q.2 ∈ iFs ∧ PFk "java/lang/Integer" q.1 q.2 := List.forall_mem_cons.mpr ⟨⟨List.mem_of_getElem? (i := 423) rfl, rfl, rfl, "java/lang/Integer", lw_g (lw_at lw_m6 140 rfl) rfl, Or.inl rfl⟩, fun q h => by cases h⟩
theorem ow50_3 : ∀ q ∈ ([(191, 4060086272), (195, 4068474882)] : List (Nat × Nat)), q.2 ∈ sFs ∧ FLk "java/lang/Integer" q.1 q.2 := List.forall_mem_cons.mpr ⟨⟨List.mem_of_getElem? (i := 13) rfl, ⟨"java/lang/Integer$IntegerCache", Or.inl (lw_g (lw_at lw_m6 130 rfl) rfl), Or.inl rfl⟩⟩, List.forall_mem_cons.mpr ⟨⟨List.mem_of_getElem? (i := 14) rfl, ⟨"java/lang/Integer$IntegerCache", Or.inl (lw_g (lw_at lw_m6 132 rfl) rfl), Or.inl rfl⟩⟩, fun q h => by cases h⟩⟩
theorem ow50_4 : ∀ q ∈ ([] : List (Nat × Nat)), TLk "java/lang/Integer" q.1 q.2 ∧ q.2 % 4 = 2 := fun q h => by cases h
theorem ow50_5 : ∀ q ∈ ([(1, 49)] : List (Nat × Nat)), mdT q.2 = true ∧ NLk "java/lang/Integer" q.1 q.2 := List.forall_mem_cons.mpr ⟨⟨rfl, lw_g (lw_at lw_m6 134 rfl) rfl, lw_g (lw_at lw_m6 135 rfl) rfl, lw_g (lw_at lw_m1 25 rfl) rfl⟩, fun q h => by cases h⟩
theorem ow50_6 : ∀ q ∈ ([] : List (Nat × Nat)), mdA q.2 = true ∧ ak q.2 = 2 ∧ ALk "java/lang/Integer" q.1 q.2 := fun q h => by cases h
theorem ow50_7 : ∀ q ∈ ([] : List (Nat × Nat)), XLk "java/lang/Integer" q.1 q.2 := fun q h => by cases h
theorem ow50_8 {s0 : State} (hN : NCs s0) : ∀ q ∈ ([] : List (Nat × Nat)), YLk s0 "java/lang/Integer" q.1 q.2 := fun q h => by cases h
theorem ow50_9 : ∀ q ∈ ([] : List (Nat × Nat)), q.2 = ACN ∧ ACk "java/lang/Integer" q.1 ∨ q.2 ≠ ACN ∧ SMk "java/lang/Integer" q.1 q.2 := fun q h => by cases h
theorem ow50_10 : ∀ q ∈ ([(199, 170234642), (202, 169714449)] : List (Nat × Nat)), IMk "java/lang/Integer" q.1 q.2 ∧ ∀ t, inT (q.2 / 16 % 128) (q.2 / 2048 % 128) t → inT 1 55 t := List.forall_mem_cons.mpr ⟨⟨⟨mok_J17_init, np_J17_init, by decide, rfl, im_J17_init, ⟨_, _, rfl⟩, Or.inl (lw_g (lw_at lw_m6 136 rfl) rfl)⟩, fun t ht => ⟨Nat.le_trans (by decide) ht.1, Nat.le_trans ht.2 (by decide)⟩⟩, List.forall_mem_cons.mpr ⟨⟨⟨mok_J16_init, np_J16_init, by decide, rfl, im_J16_init, ⟨_, _, rfl⟩, Or.inl (lw_g (lw_at lw_m6 139 rfl) rfl)⟩, fun t ht => ⟨Nat.le_trans (by decide) ht.1, Nat.le_trans ht.2 (by decide)⟩⟩, fun q h => by cases h⟩⟩
theorem ow50_11 : ∀ q ∈ ([] : List (Nat × Nat)), VMk "java/lang/Integer" q.1 q.2 := fun q h => by cases h
theorem ow50_12 : ∀ q ∈ ([] : List (Nat × Nat)), ∀ n, pN q.2 n → PMk "java/lang/Integer" q.1 q.2 n := fun q h => by cases h
theorem ow50_13 : ∀ q ∈ ([] : List (Nat × Nat)), Cond.methodLink "java/lang/Integer" q.1 Lib.objectInit ∈ lw_all := fun q h => by cases h
theorem ow50_14 : ∀ q ∈ ([] : List (Nat × Nat)), JMk "java/lang/Integer" q.1 q.2 := fun q h => by cases h
theorem ow50_15 : ∀ q ∈ ([] : List (Nat × Nat)), exT q.2 ∧ NLk "java/lang/Integer" q.1 q.2 := fun q h => by cases h
theorem ow50_16 : ∀ q ∈ ([] : List (Nat × Nat)), exT q.2 ∧ Cond.methodLink "java/lang/Integer" q.1 ⟨cN q.2, "<init>", "()V"⟩ ∈ lw_all := fun q h => by cases h
def Om50 : Om := [[(205, 3551683268)], [], [(205, 3551683268)], [(191, 4060086272), (195, 4068474882)], [], [(1, 49)], [], [], [], [], [(199, 170234642), (202, 169714449)], [], [], [], [], [], []]
def Ok50 : List (Nat × Int) := [(265, 1431655765), (266, 858993459), (267, 252645135)]
def Ol50 : List (Nat × Int) := []
theorem ow50 {s0 : State} (hN : NCs s0) : OwnOK s0 "java/lang/Integer" Om50 Ok50 Ol50 := ⟨ow50_k, ow50_l, ow50_0, ow50_1, ow50_2, ow50_3, ow50_4, ow50_5, ow50_6, ow50_7, ow50_8 hN, ow50_9, ow50_10, ow50_11, ow50_12, ow50_13, ow50_14, ow50_15, ow50_16⟩
theorem ow51_k : ∀ q ∈ ([] : List (Nat × Int)), Cond.constant "java/lang/Long" q.1 (Int32.ofInt q.2) ∈ lw_all := fun q h => by cases h
theorem ow51_l : ∀ q ∈ ([(230, (-128)), (232, 127)] : List (Nat × Int)), Cond.constantLong "java/lang/Long" q.1 (Int64.ofInt q.2) ∈ lw_all := List.forall_mem_cons.mpr ⟨lw_g (lw_at lw_m6 25 rfl) rfl, List.forall_mem_cons.mpr ⟨lw_g (lw_at lw_m6 26 rfl) rfl, fun q h => by cases h⟩⟩
theorem ow51_0 : ∀ q ∈ ([(273, 3560203981)] : List (Nat × Nat)), q.2 ∈ iFs ∧ FLk "java/lang/Long" q.1 q.2 := List.forall_mem_cons.mpr ⟨⟨List.mem_of_getElem? (i := 424) rfl, ⟨"java/lang/Long", Or.inl (lw_g (lw_at lw_m6 38 rfl) rfl), Or.inl rfl⟩⟩, fun q h => by cases h⟩
theorem ow51_1 : ∀ q ∈ ([] : List (Nat × Nat)), q.2 ∈ iFs ∧ PLk "java/lang/Long" q.1 q.2 := fun q h => by cases h
theorem ow51_2 : ∀ q ∈ ([(273, 3560203981)] : List (Nat × Nat)), q.2 ∈ iFs ∧ PFk "java/lang/Long" q.1 q.2 := List.forall_mem_cons.mpr ⟨⟨List.mem_of_getElem? (i := 424) rfl, rfl, rfl, "java/lang/Long", lw_g (lw_at lw_m6 38 rfl) rfl, Or.inl rfl⟩, fun q h => by cases h⟩
theorem ow51_3 : ∀ q ∈ ([(234, 4076863490)] : List (Nat × Nat)), q.2 ∈ sFs ∧ FLk "java/lang/Long" q.1 q.2 := List.forall_mem_cons.mpr ⟨⟨List.mem_of_getElem? (i := 15) rfl, ⟨"java/lang/Long$LongCache", Or.inl (lw_g (lw_at lw_m6 27 rfl) rfl), Or.inl rfl⟩⟩, fun q h => by cases h⟩
theorem ow51_4 : ∀ q ∈ ([] : List (Nat × Nat)), TLk "java/lang/Long" q.1 q.2 ∧ q.2 % 4 = 2 := fun q h => by cases h
theorem ow51_5 : ∀ q ∈ ([(1, 51)] : List (Nat × Nat)), mdT q.2 = true ∧ NLk "java/lang/Long" q.1 q.2 := List.forall_mem_cons.mpr ⟨⟨rfl, lw_g (lw_at lw_m6 29 rfl) rfl, lw_g (lw_at lw_m6 30 rfl) rfl, lw_g (lw_at lw_m1 37 rfl) rfl⟩, fun q h => by cases h⟩
theorem ow51_6 : ∀ q ∈ ([] : List (Nat × Nat)), mdA q.2 = true ∧ ak q.2 = 2 ∧ ALk "java/lang/Long" q.1 q.2 := fun q h => by cases h
theorem ow51_7_0 : XLk "java/lang/Long" 1 6707 := (Or.inl ⟨"java/lang/Long", lw_g (lw_at lw_m6 29 rfl) rfl, fun t h1 h2 => by
  rcases (by omega : t = 51 ∨ t = 52) with rfl | rfl
  · exact ⟨⟨by omega, by omega⟩, Or.inl rfl⟩
  · exact ⟨⟨by omega, by omega⟩, Or.inl rfl⟩⟩)
theorem ow51_7 : ∀ q ∈ ([(1, 6707)] : List (Nat × Nat)), XLk "java/lang/Long" q.1 q.2 := List.forall_mem_cons.mpr ⟨ow51_7_0, fun q h => by cases h⟩
theorem ow51_8_0 {s0 : State} (hN : NCs s0) : YLk s0 "java/lang/Long" 1 109894195 := ⟨"java/lang/Long", lw_g (lw_at lw_m6 29 rfl) rfl, fun t h1 h2 => by
  rcases (by omega : t = 51 ∨ t = 52) with rfl | rfl
  · exact ⟨⟨by omega, by omega⟩, fun _ => Or.inl rfl, fun z => absurd (by omega) z⟩
  · exact ⟨⟨by omega, by omega⟩, fun _ => Or.inl rfl, fun z => absurd (by omega) z⟩⟩
theorem ow51_8 {s0 : State} (hN : NCs s0) : ∀ q ∈ ([(1, 109894195)] : List (Nat × Nat)), YLk s0 "java/lang/Long" q.1 q.2 := List.forall_mem_cons.mpr ⟨ow51_8_0 hN, fun q h => by cases h⟩
theorem ow51_9 : ∀ q ∈ ([] : List (Nat × Nat)), q.2 = ACN ∧ ACk "java/lang/Long" q.1 ∨ q.2 ≠ ACN ∧ SMk "java/lang/Long" q.1 q.2 := fun q h => by cases h
theorem ow51_10 : ∀ q ∈ ([(240, 171287346), (270, 169714449)] : List (Nat × Nat)), IMk "java/lang/Long" q.1 q.2 ∧ ∀ t, inT (q.2 / 16 % 128) (q.2 / 2048 % 128) t → inT 1 55 t := List.forall_mem_cons.mpr ⟨⟨⟨mok_J20_init, np_J20_init, by decide, rfl, im_J20_init, ⟨_, _, rfl⟩, Or.inl (lw_g (lw_at lw_m6 31 rfl) rfl)⟩, fun t ht => ⟨Nat.le_trans (by decide) ht.1, Nat.le_trans ht.2 (by decide)⟩⟩, List.forall_mem_cons.mpr ⟨⟨⟨mok_J16_init, np_J16_init, by decide, rfl, im_J16_init, ⟨_, _, rfl⟩, Or.inl (lw_g (lw_at lw_m6 34 rfl) rfl)⟩, fun t ht => ⟨Nat.le_trans (by decide) ht.1, Nat.le_trans ht.2 (by decide)⟩⟩, fun q h => by cases h⟩⟩
theorem ow51_11_0 : VMk "java/lang/Long" 280 171811633 := ⟨mok_J20_longValue, by decide, fun t ht => by
  rcases tg_51_52 (Nat.le_trans (by decide) ht.1) (Nat.le_trans ht.2 (by decide)) with rfl | rfl
  · exact ⟨⟨by decide, by decide⟩, im_J20_longValue, Or.inl ⟨np_J20_longValue, lw_g (lw_at lw_m7 199 rfl) rfl, Or.inl (lw_g (lw_at lw_m7 197 rfl) rfl)⟩⟩
  · exact ⟨⟨by decide, by decide⟩, im_J20_longValue, Or.inl ⟨np_J20_longValue, lw_g (lw_at lw_m7 199 rfl) rfl, Or.inl (lw_g (lw_at lw_m7 197 rfl) rfl)⟩⟩⟩
theorem ow51_11 : ∀ q ∈ ([(280, 171811633)] : List (Nat × Nat)), VMk "java/lang/Long" q.1 q.2 := List.forall_mem_cons.mpr ⟨ow51_11_0, fun q h => by cases h⟩
theorem ow51_12 : ∀ q ∈ ([] : List (Nat × Nat)), ∀ n, pN q.2 n → PMk "java/lang/Long" q.1 q.2 n := fun q h => by cases h
theorem ow51_13 : ∀ q ∈ ([] : List (Nat × Nat)), Cond.methodLink "java/lang/Long" q.1 Lib.objectInit ∈ lw_all := fun q h => by cases h
theorem ow51_14 : ∀ q ∈ ([] : List (Nat × Nat)), JMk "java/lang/Long" q.1 q.2 := fun q h => by cases h
theorem ow51_15 : ∀ q ∈ ([] : List (Nat × Nat)), exT q.2 ∧ NLk "java/lang/Long" q.1 q.2 := fun q h => by cases h
theorem ow51_16 : ∀ q ∈ ([] : List (Nat × Nat)), exT q.2 ∧ Cond.methodLink "java/lang/Long" q.1 ⟨cN q.2, "<init>", "()V"⟩ ∈ lw_all := fun q h => by cases h
def Om51 : Om := [[(273, 3560203981)], [], [(273, 3560203981)], [(234, 4076863490)], [], [(1, 51)], [], [(1, 6707)], [(1, 109894195)], [], [(240, 171287346), (270, 169714449)], [(280, 171811633)], [], [], [], [], []]
def Ok51 : List (Nat × Int) := []
def Ol51 : List (Nat × Int) := [(230, -128), (232, 127)]
theorem ow51 {s0 : State} (hN : NCs s0) : OwnOK s0 "java/lang/Long" Om51 Ok51 Ol51 := ⟨ow51_k, ow51_l, ow51_0, ow51_1, ow51_2, ow51_3, ow51_4, ow51_5, ow51_6, ow51_7, ow51_8 hN, ow51_9, ow51_10, ow51_11, ow51_12, ow51_13, ow51_14, ow51_15, ow51_16⟩
theorem ow52_k : ∀ q ∈ ([] : List (Nat × Int)), Cond.constant "java/lang/Math" q.1 (Int32.ofInt q.2) ∈ lw_all := fun q h => by cases h
theorem ow52_l : ∀ q ∈ ([] : List (Nat × Int)), Cond.constantLong "java/lang/Math" q.1 (Int64.ofInt q.2) ∈ lw_all := fun q h => by cases h
theorem ow52_0 : ∀ q ∈ ([] : List (Nat × Nat)), q.2 ∈ iFs ∧ FLk "java/lang/Math" q.1 q.2 := fun q h => by cases h
theorem ow52_1 : ∀ q ∈ ([] : List (Nat × Nat)), q.2 ∈ iFs ∧ PLk "java/lang/Math" q.1 q.2 := fun q h => by cases h
theorem ow52_2 : ∀ q ∈ ([] : List (Nat × Nat)), q.2 ∈ iFs ∧ PFk "java/lang/Math" q.1 q.2 := fun q h => by cases h
theorem ow52_3 : ∀ q ∈ ([] : List (Nat × Nat)), q.2 ∈ sFs ∧ FLk "java/lang/Math" q.1 q.2 := fun q h => by cases h
theorem ow52_4 : ∀ q ∈ ([] : List (Nat × Nat)), TLk "java/lang/Math" q.1 q.2 ∧ q.2 % 4 = 2 := fun q h => by cases h
theorem ow52_5 : ∀ q ∈ ([] : List (Nat × Nat)), mdT q.2 = true ∧ NLk "java/lang/Math" q.1 q.2 := fun q h => by cases h
theorem ow52_6 : ∀ q ∈ ([] : List (Nat × Nat)), mdA q.2 = true ∧ ak q.2 = 2 ∧ ALk "java/lang/Math" q.1 q.2 := fun q h => by cases h
theorem ow52_7 : ∀ q ∈ ([] : List (Nat × Nat)), XLk "java/lang/Math" q.1 q.2 := fun q h => by cases h
theorem ow52_8 {s0 : State} (hN : NCs s0) : ∀ q ∈ ([] : List (Nat × Nat)), YLk s0 "java/lang/Math" q.1 q.2 := fun q h => by cases h
theorem ow52_9 : ∀ q ∈ ([] : List (Nat × Nat)), q.2 = ACN ∧ ACk "java/lang/Math" q.1 ∨ q.2 ≠ ACN ∧ SMk "java/lang/Math" q.1 q.2 := fun q h => by cases h
theorem ow52_10 : ∀ q ∈ ([] : List (Nat × Nat)), IMk "java/lang/Math" q.1 q.2 ∧ ∀ t, inT (q.2 / 16 % 128) (q.2 / 2048 % 128) t → inT 1 55 t := fun q h => by cases h
theorem ow52_11 : ∀ q ∈ ([] : List (Nat × Nat)), VMk "java/lang/Math" q.1 q.2 := fun q h => by cases h
theorem ow52_12 : ∀ q ∈ ([] : List (Nat × Nat)), ∀ n, pN q.2 n → PMk "java/lang/Math" q.1 q.2 n := fun q h => by cases h
theorem ow52_13 : ∀ q ∈ ([] : List (Nat × Nat)), Cond.methodLink "java/lang/Math" q.1 Lib.objectInit ∈ lw_all := fun q h => by cases h
theorem ow52_14 : ∀ q ∈ ([] : List (Nat × Nat)), JMk "java/lang/Math" q.1 q.2 := fun q h => by cases h
theorem ow52_15 : ∀ q ∈ ([] : List (Nat × Nat)), exT q.2 ∧ NLk "java/lang/Math" q.1 q.2 := fun q h => by cases h
theorem ow52_16 : ∀ q ∈ ([] : List (Nat × Nat)), exT q.2 ∧ Cond.methodLink "java/lang/Math" q.1 ⟨cN q.2, "<init>", "()V"⟩ ∈ lw_all := fun q h => by cases h
def Om52 : Om := [[], [], [], [], [], [], [], [], [], [], [], [], [], [], [], [], []]
def Ok52 : List (Nat × Int) := []
def Ol52 : List (Nat × Int) := []
theorem ow52 {s0 : State} (hN : NCs s0) : OwnOK s0 "java/lang/Math" Om52 Ok52 Ol52 := ⟨ow52_k, ow52_l, ow52_0, ow52_1, ow52_2, ow52_3, ow52_4, ow52_5, ow52_6, ow52_7, ow52_8 hN, ow52_9, ow52_10, ow52_11, ow52_12, ow52_13, ow52_14, ow52_15, ow52_16⟩
theorem ow53_k : ∀ q ∈ ([] : List (Nat × Int)), Cond.constant "java/lang/Number" q.1 (Int32.ofInt q.2) ∈ lw_all := fun q h => by cases h
theorem ow53_l : ∀ q ∈ ([] : List (Nat × Int)), Cond.constantLong "java/lang/Number" q.1 (Int64.ofInt q.2) ∈ lw_all := fun q h => by cases h
theorem ow53_0 : ∀ q ∈ ([] : List (Nat × Nat)), q.2 ∈ iFs ∧ FLk "java/lang/Number" q.1 q.2 := fun q h => by cases h
theorem ow53_1 : ∀ q ∈ ([] : List (Nat × Nat)), q.2 ∈ iFs ∧ PLk "java/lang/Number" q.1 q.2 := fun q h => by cases h
theorem ow53_2 : ∀ q ∈ ([] : List (Nat × Nat)), q.2 ∈ iFs ∧ PFk "java/lang/Number" q.1 q.2 := fun q h => by cases h
theorem ow53_3 : ∀ q ∈ ([] : List (Nat × Nat)), q.2 ∈ sFs ∧ FLk "java/lang/Number" q.1 q.2 := fun q h => by cases h
theorem ow53_4 : ∀ q ∈ ([] : List (Nat × Nat)), TLk "java/lang/Number" q.1 q.2 ∧ q.2 % 4 = 2 := fun q h => by cases h
theorem ow53_5 : ∀ q ∈ ([] : List (Nat × Nat)), mdT q.2 = true ∧ NLk "java/lang/Number" q.1 q.2 := fun q h => by cases h
theorem ow53_6 : ∀ q ∈ ([] : List (Nat × Nat)), mdA q.2 = true ∧ ak q.2 = 2 ∧ ALk "java/lang/Number" q.1 q.2 := fun q h => by cases h
theorem ow53_7 : ∀ q ∈ ([] : List (Nat × Nat)), XLk "java/lang/Number" q.1 q.2 := fun q h => by cases h
theorem ow53_8 {s0 : State} (hN : NCs s0) : ∀ q ∈ ([] : List (Nat × Nat)), YLk s0 "java/lang/Number" q.1 q.2 := fun q h => by cases h
theorem ow53_9 : ∀ q ∈ ([] : List (Nat × Nat)), q.2 = ACN ∧ ACk "java/lang/Number" q.1 ∨ q.2 ≠ ACN ∧ SMk "java/lang/Number" q.1 q.2 := fun q h => by cases h
theorem ow53_10 : ∀ q ∈ ([] : List (Nat × Nat)), IMk "java/lang/Number" q.1 q.2 ∧ ∀ t, inT (q.2 / 16 % 128) (q.2 / 2048 % 128) t → inT 1 55 t := fun q h => by cases h
theorem ow53_11 : ∀ q ∈ ([] : List (Nat × Nat)), VMk "java/lang/Number" q.1 q.2 := fun q h => by cases h
theorem ow53_12 : ∀ q ∈ ([] : List (Nat × Nat)), ∀ n, pN q.2 n → PMk "java/lang/Number" q.1 q.2 n := fun q h => by cases h
theorem ow53_13 : ∀ q ∈ ([(1, 0)] : List (Nat × Nat)), Cond.methodLink "java/lang/Number" q.1 Lib.objectInit ∈ lw_all := List.forall_mem_cons.mpr ⟨lw_g (lw_at lw_m6 37 rfl) rfl, fun q h => by cases h⟩
theorem ow53_14 : ∀ q ∈ ([] : List (Nat × Nat)), JMk "java/lang/Number" q.1 q.2 := fun q h => by cases h
theorem ow53_15 : ∀ q ∈ ([] : List (Nat × Nat)), exT q.2 ∧ NLk "java/lang/Number" q.1 q.2 := fun q h => by cases h
theorem ow53_16 : ∀ q ∈ ([] : List (Nat × Nat)), exT q.2 ∧ Cond.methodLink "java/lang/Number" q.1 ⟨cN q.2, "<init>", "()V"⟩ ∈ lw_all := fun q h => by cases h
def Om53 : Om := [[], [], [], [], [], [], [], [], [], [], [], [], [], [(1, 0)], [], [], []]
def Ok53 : List (Nat × Int) := []
def Ol53 : List (Nat × Int) := []
theorem ow53 {s0 : State} (hN : NCs s0) : OwnOK s0 "java/lang/Number" Om53 Ok53 Ol53 := ⟨ow53_k, ow53_l, ow53_0, ow53_1, ow53_2, ow53_3, ow53_4, ow53_5, ow53_6, ow53_7, ow53_8 hN, ow53_9, ow53_10, ow53_11, ow53_12, ow53_13, ow53_14, ow53_15, ow53_16⟩
theorem ow54_k : ∀ q ∈ ([] : List (Nat × Int)), Cond.constant "java/lang/Object" q.1 (Int32.ofInt q.2) ∈ lw_all := fun q h => by cases h
theorem ow54_l : ∀ q ∈ ([] : List (Nat × Int)), Cond.constantLong "java/lang/Object" q.1 (Int64.ofInt q.2) ∈ lw_all := fun q h => by cases h
theorem ow54_0 : ∀ q ∈ ([] : List (Nat × Nat)), q.2 ∈ iFs ∧ FLk "java/lang/Object" q.1 q.2 := fun q h => by cases h
theorem ow54_1 : ∀ q ∈ ([] : List (Nat × Nat)), q.2 ∈ iFs ∧ PLk "java/lang/Object" q.1 q.2 := fun q h => by cases h
theorem ow54_2 : ∀ q ∈ ([] : List (Nat × Nat)), q.2 ∈ iFs ∧ PFk "java/lang/Object" q.1 q.2 := fun q h => by cases h
theorem ow54_3 : ∀ q ∈ ([] : List (Nat × Nat)), q.2 ∈ sFs ∧ FLk "java/lang/Object" q.1 q.2 := fun q h => by cases h
theorem ow54_4 : ∀ q ∈ ([] : List (Nat × Nat)), TLk "java/lang/Object" q.1 q.2 ∧ q.2 % 4 = 2 := fun q h => by cases h
theorem ow54_5 : ∀ q ∈ ([] : List (Nat × Nat)), mdT q.2 = true ∧ NLk "java/lang/Object" q.1 q.2 := fun q h => by cases h
theorem ow54_6 : ∀ q ∈ ([] : List (Nat × Nat)), mdA q.2 = true ∧ ak q.2 = 2 ∧ ALk "java/lang/Object" q.1 q.2 := fun q h => by cases h
theorem ow54_7 : ∀ q ∈ ([] : List (Nat × Nat)), XLk "java/lang/Object" q.1 q.2 := fun q h => by cases h
theorem ow54_8 {s0 : State} (hN : NCs s0) : ∀ q ∈ ([] : List (Nat × Nat)), YLk s0 "java/lang/Object" q.1 q.2 := fun q h => by cases h
theorem ow54_9 : ∀ q ∈ ([] : List (Nat × Nat)), q.2 = ACN ∧ ACk "java/lang/Object" q.1 ∨ q.2 ≠ ACN ∧ SMk "java/lang/Object" q.1 q.2 := fun q h => by cases h
theorem ow54_10 : ∀ q ∈ ([] : List (Nat × Nat)), IMk "java/lang/Object" q.1 q.2 ∧ ∀ t, inT (q.2 / 16 % 128) (q.2 / 2048 % 128) t → inT 1 55 t := fun q h => by cases h
theorem ow54_11 : ∀ q ∈ ([] : List (Nat × Nat)), VMk "java/lang/Object" q.1 q.2 := fun q h => by cases h
theorem ow54_12 : ∀ q ∈ ([] : List (Nat × Nat)), ∀ n, pN q.2 n → PMk "java/lang/Object" q.1 q.2 n := fun q h => by cases h
theorem ow54_13 : ∀ q ∈ ([] : List (Nat × Nat)), Cond.methodLink "java/lang/Object" q.1 Lib.objectInit ∈ lw_all := fun q h => by cases h
theorem ow54_14 : ∀ q ∈ ([] : List (Nat × Nat)), JMk "java/lang/Object" q.1 q.2 := fun q h => by cases h
theorem ow54_15 : ∀ q ∈ ([] : List (Nat × Nat)), exT q.2 ∧ NLk "java/lang/Object" q.1 q.2 := fun q h => by cases h
theorem ow54_16 : ∀ q ∈ ([] : List (Nat × Nat)), exT q.2 ∧ Cond.methodLink "java/lang/Object" q.1 ⟨cN q.2, "<init>", "()V"⟩ ∈ lw_all := fun q h => by cases h
def Om54 : Om := [[], [], [], [], [], [], [], [], [], [], [], [], [], [], [], [], []]
def Ok54 : List (Nat × Int) := []
def Ol54 : List (Nat × Int) := []
theorem ow54 {s0 : State} (hN : NCs s0) : OwnOK s0 "java/lang/Object" Om54 Ok54 Ol54 := ⟨ow54_k, ow54_l, ow54_0, ow54_1, ow54_2, ow54_3, ow54_4, ow54_5, ow54_6, ow54_7, ow54_8 hN, ow54_9, ow54_10, ow54_11, ow54_12, ow54_13, ow54_14, ow54_15, ow54_16⟩
theorem ow55_k : ∀ q ∈ ([] : List (Nat × Int)), Cond.constant "java/lang/RuntimeException" q.1 (Int32.ofInt q.2) ∈ lw_all := fun q h => by cases h
theorem ow55_l : ∀ q ∈ ([] : List (Nat × Int)), Cond.constantLong "java/lang/RuntimeException" q.1 (Int64.ofInt q.2) ∈ lw_all := fun q h => by cases h
theorem ow55_0 : ∀ q ∈ ([] : List (Nat × Nat)), q.2 ∈ iFs ∧ FLk "java/lang/RuntimeException" q.1 q.2 := fun q h => by cases h
theorem ow55_1 : ∀ q ∈ ([] : List (Nat × Nat)), q.2 ∈ iFs ∧ PLk "java/lang/RuntimeException" q.1 q.2 := fun q h => by cases h
theorem ow55_2 : ∀ q ∈ ([] : List (Nat × Nat)), q.2 ∈ iFs ∧ PFk "java/lang/RuntimeException" q.1 q.2 := fun q h => by cases h
theorem ow55_3 : ∀ q ∈ ([] : List (Nat × Nat)), q.2 ∈ sFs ∧ FLk "java/lang/RuntimeException" q.1 q.2 := fun q h => by cases h
theorem ow55_4 : ∀ q ∈ ([] : List (Nat × Nat)), TLk "java/lang/RuntimeException" q.1 q.2 ∧ q.2 % 4 = 2 := fun q h => by cases h
theorem ow55_5 : ∀ q ∈ ([] : List (Nat × Nat)), mdT q.2 = true ∧ NLk "java/lang/RuntimeException" q.1 q.2 := fun q h => by cases h
theorem ow55_6 : ∀ q ∈ ([] : List (Nat × Nat)), mdA q.2 = true ∧ ak q.2 = 2 ∧ ALk "java/lang/RuntimeException" q.1 q.2 := fun q h => by cases h
theorem ow55_7 : ∀ q ∈ ([] : List (Nat × Nat)), XLk "java/lang/RuntimeException" q.1 q.2 := fun q h => by cases h
theorem ow55_8 {s0 : State} (hN : NCs s0) : ∀ q ∈ ([] : List (Nat × Nat)), YLk s0 "java/lang/RuntimeException" q.1 q.2 := fun q h => by cases h
theorem ow55_9 : ∀ q ∈ ([] : List (Nat × Nat)), q.2 = ACN ∧ ACk "java/lang/RuntimeException" q.1 ∨ q.2 ≠ ACN ∧ SMk "java/lang/RuntimeException" q.1 q.2 := fun q h => by cases h
theorem ow55_10 : ∀ q ∈ ([(16, 176257733)] : List (Nat × Nat)), IMk "java/lang/RuntimeException" q.1 q.2 ∧ ∀ t, inT (q.2 / 16 % 128) (q.2 / 2048 % 128) t → inT 1 55 t := List.forall_mem_cons.mpr ⟨⟨⟨mok_J8_init_2, np_J8_init_2, by decide, rfl, im_J8_init_2, ⟨_, _, rfl⟩, Or.inl (lw_g (lw_at lw_m3 201 rfl) rfl)⟩, fun t ht => ⟨Nat.le_trans (by decide) ht.1, Nat.le_trans ht.2 (by decide)⟩⟩, fun q h => by cases h⟩
theorem ow55_11 : ∀ q ∈ ([] : List (Nat × Nat)), VMk "java/lang/RuntimeException" q.1 q.2 := fun q h => by cases h
theorem ow55_12 : ∀ q ∈ ([] : List (Nat × Nat)), ∀ n, pN q.2 n → PMk "java/lang/RuntimeException" q.1 q.2 n := fun q h => by cases h
theorem ow55_13 : ∀ q ∈ ([] : List (Nat × Nat)), Cond.methodLink "java/lang/RuntimeException" q.1 Lib.objectInit ∈ lw_all := fun q h => by cases h
theorem ow55_14 : ∀ q ∈ ([] : List (Nat × Nat)), JMk "java/lang/RuntimeException" q.1 q.2 := fun q h => by cases h
theorem ow55_15 : ∀ q ∈ ([] : List (Nat × Nat)), exT q.2 ∧ NLk "java/lang/RuntimeException" q.1 q.2 := fun q h => by cases h
theorem ow55_16 : ∀ q ∈ ([] : List (Nat × Nat)), exT q.2 ∧ Cond.methodLink "java/lang/RuntimeException" q.1 ⟨cN q.2, "<init>", "()V"⟩ ∈ lw_all := fun q h => by cases h
def Om55 : Om := [[], [], [], [], [], [], [], [], [], [], [(16, 176257733)], [], [], [], [], [], []]
def Ok55 : List (Nat × Int) := []
def Ol55 : List (Nat × Int) := []
theorem ow55 {s0 : State} (hN : NCs s0) : OwnOK s0 "java/lang/RuntimeException" Om55 Ok55 Ol55 := ⟨ow55_k, ow55_l, ow55_0, ow55_1, ow55_2, ow55_3, ow55_4, ow55_5, ow55_6, ow55_7, ow55_8 hN, ow55_9, ow55_10, ow55_11, ow55_12, ow55_13, ow55_14, ow55_15, ow55_16⟩
theorem ow56_k : ∀ q ∈ ([] : List (Nat × Int)), Cond.constant "java/lang/String" q.1 (Int32.ofInt q.2) ∈ lw_all := fun q h => by cases h
theorem ow56_l : ∀ q ∈ ([] : List (Nat × Int)), Cond.constantLong "java/lang/String" q.1 (Int64.ofInt q.2) ∈ lw_all := fun q h => by cases h
theorem ow56_0 : ∀ q ∈ ([(9, 3568632022), (15, 3577020628)] : List (Nat × Nat)), q.2 ∈ iFs ∧ FLk "java/lang/String" q.1 q.2 := List.forall_mem_cons.mpr ⟨⟨List.mem_of_getElem? (i := 425) rfl, ⟨"java/lang/String", Or.inl (lw_g (lw_at lw_m3 57 rfl) rfl), Or.inl rfl⟩⟩, List.forall_mem_cons.mpr ⟨⟨List.mem_of_getElem? (i := 426) rfl, ⟨"java/lang/String", Or.inl (lw_g (lw_at lw_m3 58 rfl) rfl), Or.inl rfl⟩⟩, fun q h => by cases h⟩⟩
theorem ow56_1 : ∀ q ∈ ([] : List (Nat × Nat)), q.2 ∈ iFs ∧ PLk "java/lang/String" q.1 q.2 := fun q h => by cases h
theorem ow56_2 : ∀ q ∈ ([] : List (Nat × Nat)), q.2 ∈ iFs ∧ PFk "java/lang/String" q.1 q.2 := fun q h => by cases h
theorem ow56_3 : ∀ q ∈ ([(38, 4102029315), (1053, 4110417922)] : List (Nat × Nat)), q.2 ∈ sFs ∧ FLk "java/lang/String" q.1 q.2 := List.forall_mem_cons.mpr ⟨⟨List.mem_of_getElem? (i := 18) rfl, ⟨"java/lang/String", Or.inl (lw_g (lw_at lw_m1 102 rfl) rfl), Or.inl rfl⟩⟩, List.forall_mem_cons.mpr ⟨⟨List.mem_of_getElem? (i := 19) rfl, ⟨"jdk/internal/util/Preconditions", Or.inl (lw_g (lw_at lw_m1 118 rfl) rfl), Or.inl rfl⟩⟩, fun q h => by cases h⟩⟩
theorem ow56_4 : ∀ q ∈ ([] : List (Nat × Nat)), TLk "java/lang/String" q.1 q.2 ∧ q.2 % 4 = 2 := fun q h => by cases h
theorem ow56_5 : ∀ q ∈ ([] : List (Nat × Nat)), mdT q.2 = true ∧ NLk "java/lang/String" q.1 q.2 := fun q h => by cases h
theorem ow56_6 : ∀ q ∈ ([] : List (Nat × Nat)), mdA q.2 = true ∧ ak q.2 = 2 ∧ ALk "java/lang/String" q.1 q.2 := fun q h => by cases h
theorem ow56_7 : ∀ q ∈ ([] : List (Nat × Nat)), XLk "java/lang/String" q.1 q.2 := fun q h => by cases h
theorem ow56_8 {s0 : State} (hN : NCs s0) : ∀ q ∈ ([] : List (Nat × Nat)), YLk s0 "java/lang/String" q.1 q.2 := fun q h => by cases h
theorem ow56_9 : ∀ q ∈ ([(495, 174325762), (1059, 172752899)] : List (Nat × Nat)), q.2 = ACN ∧ ACk "java/lang/String" q.1 ∨ q.2 ≠ ACN ∧ SMk "java/lang/String" q.1 q.2 := List.forall_mem_cons.mpr ⟨Or.inr ⟨by decide, mok_J1_charAt, np_J1_charAt, ⟨sm_J1_charAt, lw_g (lw_at lw_m1 4 rfl) rfl⟩, Or.inl (lw_g (lw_at lw_m1 112 rfl) rfl)⟩, List.forall_mem_cons.mpr ⟨Or.inr ⟨by decide, mok_J2_checkIndex, np_J2_checkIndex, ⟨sm_J2_checkIndex, lw_g (lw_at lw_m1 5 rfl) rfl⟩, Or.inl (lw_g (lw_at lw_m1 120 rfl) rfl)⟩, fun q h => by cases h⟩⟩
theorem ow56_10 : ∀ q ∈ ([] : List (Nat × Nat)), IMk "java/lang/String" q.1 q.2 ∧ ∀ t, inT (q.2 / 16 % 128) (q.2 / 2048 % 128) t → inT 1 55 t := fun q h => by cases h
theorem ow56_11_0 : VMk "java/lang/String" 335 173386577 := ⟨mok_J0_coder, by decide, fun t ht => by
  obtain rfl : t = 53 := Nat.le_antisymm (Nat.le_trans ht.2 (by decide)) (Nat.le_trans (by decide) ht.1)
  exact ⟨⟨by decide, by decide⟩, im_J0_coder, Or.inl ⟨np_J0_coder, lw_g (lw_at lw_m1 100 rfl) rfl, Or.inl (lw_g (lw_at lw_m1 98 rfl) rfl)⟩⟩⟩
theorem ow56_11_1 : VMk "java/lang/String" 492 173910865 := ⟨mok_J0_isLatin1, by decide, fun t ht => by
  obtain rfl : t = 53 := Nat.le_antisymm (Nat.le_trans ht.2 (by decide)) (Nat.le_trans (by decide) ht.1)
  exact ⟨⟨by decide, by decide⟩, im_J0_isLatin1, Or.inl ⟨np_J0_isLatin1, lw_g (lw_at lw_m1 110 rfl) rfl, Or.inl (lw_g (lw_at lw_m1 108 rfl) rfl)⟩⟩⟩
theorem ow56_11 : ∀ q ∈ ([(335, 173386577), (492, 173910865)] : List (Nat × Nat)), VMk "java/lang/String" q.1 q.2 := List.forall_mem_cons.mpr ⟨ow56_11_0, List.forall_mem_cons.mpr ⟨ow56_11_1, fun q h => by cases h⟩⟩
theorem ow56_12 : ∀ q ∈ ([] : List (Nat × Nat)), ∀ n, pN q.2 n → PMk "java/lang/String" q.1 q.2 n := fun q h => by cases h
theorem ow56_13 : ∀ q ∈ ([] : List (Nat × Nat)), Cond.methodLink "java/lang/String" q.1 Lib.objectInit ∈ lw_all := fun q h => by cases h
theorem ow56_14 : ∀ q ∈ ([] : List (Nat × Nat)), JMk "java/lang/String" q.1 q.2 := fun q h => by cases h
theorem ow56_15 : ∀ q ∈ ([] : List (Nat × Nat)), exT q.2 ∧ NLk "java/lang/String" q.1 q.2 := fun q h => by cases h
theorem ow56_16 : ∀ q ∈ ([] : List (Nat × Nat)), exT q.2 ∧ Cond.methodLink "java/lang/String" q.1 ⟨cN q.2, "<init>", "()V"⟩ ∈ lw_all := fun q h => by cases h
def Om56 : Om := [[(9, 3568632022), (15, 3577020628)], [], [], [(38, 4102029315), (1053, 4110417922)], [], [], [], [], [], [(495, 174325762), (1059, 172752899)], [], [(335, 173386577), (492, 173910865)], [], [], [], [], []]
def Ok56 : List (Nat × Int) := []
def Ol56 : List (Nat × Int) := []
theorem ow56 {s0 : State} (hN : NCs s0) : OwnOK s0 "java/lang/String" Om56 Ok56 Ol56 := ⟨ow56_k, ow56_l, ow56_0, ow56_1, ow56_2, ow56_3, ow56_4, ow56_5, ow56_6, ow56_7, ow56_8 hN, ow56_9, ow56_10, ow56_11, ow56_12, ow56_13, ow56_14, ow56_15, ow56_16⟩
theorem ow57_k : ∀ q ∈ ([] : List (Nat × Int)), Cond.constant "java/lang/StringLatin1" q.1 (Int32.ofInt q.2) ∈ lw_all := fun q h => by cases h
theorem ow57_l : ∀ q ∈ ([] : List (Nat × Int)), Cond.constantLong "java/lang/StringLatin1" q.1 (Int64.ofInt q.2) ∈ lw_all := fun q h => by cases h
theorem ow57_0 : ∀ q ∈ ([] : List (Nat × Nat)), q.2 ∈ iFs ∧ FLk "java/lang/StringLatin1" q.1 q.2 := fun q h => by cases h
theorem ow57_1 : ∀ q ∈ ([] : List (Nat × Nat)), q.2 ∈ iFs ∧ PLk "java/lang/StringLatin1" q.1 q.2 := fun q h => by cases h
theorem ow57_2 : ∀ q ∈ ([] : List (Nat × Nat)), q.2 ∈ iFs ∧ PFk "java/lang/StringLatin1" q.1 q.2 := fun q h => by cases h
theorem ow57_3 : ∀ q ∈ ([] : List (Nat × Nat)), q.2 ∈ sFs ∧ FLk "java/lang/StringLatin1" q.1 q.2 := fun q h => by cases h
theorem ow57_4 : ∀ q ∈ ([] : List (Nat × Nat)), TLk "java/lang/StringLatin1" q.1 q.2 ∧ q.2 % 4 = 2 := fun q h => by cases h
theorem ow57_5 : ∀ q ∈ ([] : List (Nat × Nat)), mdT q.2 = true ∧ NLk "java/lang/StringLatin1" q.1 q.2 := fun q h => by cases h
theorem ow57_6 : ∀ q ∈ ([] : List (Nat × Nat)), mdA q.2 = true ∧ ak q.2 = 2 ∧ ALk "java/lang/StringLatin1" q.1 q.2 := fun q h => by cases h
theorem ow57_7 : ∀ q ∈ ([] : List (Nat × Nat)), XLk "java/lang/StringLatin1" q.1 q.2 := fun q h => by cases h
theorem ow57_8 {s0 : State} (hN : NCs s0) : ∀ q ∈ ([] : List (Nat × Nat)), YLk s0 "java/lang/StringLatin1" q.1 q.2 := fun q h => by cases h
theorem ow57_9 : ∀ q ∈ ([(9, 174063618)] : List (Nat × Nat)), q.2 = ACN ∧ ACk "java/lang/StringLatin1" q.1 ∨ q.2 ≠ ACN ∧ SMk "java/lang/StringLatin1" q.1 q.2 := List.forall_mem_cons.mpr ⟨Or.inr ⟨by decide, mok_J0_checkIndex, np_J0_checkIndex, ⟨sm_J0_checkIndex, lw_g (lw_at lw_m1 3 rfl) rfl⟩, Or.inl (lw_g (lw_at lw_m1 115 rfl) rfl)⟩, fun q h => by cases h⟩
theorem ow57_10 : ∀ q ∈ ([] : List (Nat × Nat)), IMk "java/lang/StringLatin1" q.1 q.2 ∧ ∀ t, inT (q.2 / 16 % 128) (q.2 / 2048 % 128) t → inT 1 55 t := fun q h => by cases h
theorem ow57_11 : ∀ q ∈ ([] : List (Nat × Nat)), VMk "java/lang/StringLatin1" q.1 q.2 := fun q h => by cases h
theorem ow57_12 : ∀ q ∈ ([] : List (Nat × Nat)), ∀ n, pN q.2 n → PMk "java/lang/StringLatin1" q.1 q.2 n := fun q h => by cases h
theorem ow57_13 : ∀ q ∈ ([] : List (Nat × Nat)), Cond.methodLink "java/lang/StringLatin1" q.1 Lib.objectInit ∈ lw_all := fun q h => by cases h
theorem ow57_14 : ∀ q ∈ ([] : List (Nat × Nat)), JMk "java/lang/StringLatin1" q.1 q.2 := fun q h => by cases h
theorem ow57_15 : ∀ q ∈ ([] : List (Nat × Nat)), exT q.2 ∧ NLk "java/lang/StringLatin1" q.1 q.2 := fun q h => by cases h
theorem ow57_16 : ∀ q ∈ ([] : List (Nat × Nat)), exT q.2 ∧ Cond.methodLink "java/lang/StringLatin1" q.1 ⟨cN q.2, "<init>", "()V"⟩ ∈ lw_all := fun q h => by cases h
def Om57 : Om := [[], [], [], [], [], [], [], [], [], [(9, 174063618)], [], [], [], [], [], [], []]
def Ok57 : List (Nat × Int) := []
def Ol57 : List (Nat × Int) := []
theorem ow57 {s0 : State} (hN : NCs s0) : OwnOK s0 "java/lang/StringLatin1" Om57 Ok57 Ol57 := ⟨ow57_k, ow57_l, ow57_0, ow57_1, ow57_2, ow57_3, ow57_4, ow57_5, ow57_6, ow57_7, ow57_8 hN, ow57_9, ow57_10, ow57_11, ow57_12, ow57_13, ow57_14, ow57_15, ow57_16⟩
theorem ow58_k : ∀ q ∈ ([] : List (Nat × Int)), Cond.constant "java/lang/Throwable" q.1 (Int32.ofInt q.2) ∈ lw_all := fun q h => by cases h
theorem ow58_l : ∀ q ∈ ([] : List (Nat × Int)), Cond.constantLong "java/lang/Throwable" q.1 (Int64.ofInt q.2) ∈ lw_all := fun q h => by cases h
theorem ow58_0 : ∀ q ∈ ([] : List (Nat × Nat)), q.2 ∈ iFs ∧ FLk "java/lang/Throwable" q.1 q.2 := fun q h => by cases h
theorem ow58_1 : ∀ q ∈ ([(7, 3459210930), (17, 3467599538), (24, 3475988146), (31, 3484376754)] : List (Nat × Nat)), q.2 ∈ iFs ∧ PLk "java/lang/Throwable" q.1 q.2 := List.forall_mem_cons.mpr ⟨⟨List.mem_of_getElem? (i := 412) rfl, ⟨"java/lang/Throwable", Or.inl (lw_g (lw_at lw_m3 36 rfl) rfl), Or.inl rfl⟩, rfl⟩, List.forall_mem_cons.mpr ⟨⟨List.mem_of_getElem? (i := 413) rfl, ⟨"java/lang/Throwable", Or.inl (lw_g (lw_at lw_m3 37 rfl) rfl), Or.inl rfl⟩, rfl⟩, List.forall_mem_cons.mpr ⟨⟨List.mem_of_getElem? (i := 414) rfl, ⟨"java/lang/Throwable", Or.inl (lw_g (lw_at lw_m3 38 rfl) rfl), Or.inl rfl⟩, rfl⟩, List.forall_mem_cons.mpr ⟨⟨List.mem_of_getElem? (i := 415) rfl, ⟨"java/lang/Throwable", Or.inl (lw_g (lw_at lw_m3 35 rfl) rfl), Or.inl rfl⟩, rfl⟩, fun q h => by cases h⟩⟩⟩⟩
theorem ow58_2 : ∀ q ∈ ([] : List (Nat × Nat)), q.2 ∈ iFs ∧ PFk "java/lang/Throwable" q.1 q.2 := fun q h => by cases h
theorem ow58_3 : ∀ q ∈ ([(13, 4118806530), (20, 4127195138)] : List (Nat × Nat)), q.2 ∈ sFs ∧ FLk "java/lang/Throwable" q.1 q.2 := List.forall_mem_cons.mpr ⟨⟨List.mem_of_getElem? (i := 20) rfl, ⟨"java/lang/Throwable", Or.inl (lw_g (lw_at lw_m2 45 rfl) rfl), Or.inl rfl⟩⟩, List.forall_mem_cons.mpr ⟨⟨List.mem_of_getElem? (i := 21) rfl, ⟨"java/lang/Throwable", Or.inl (lw_g (lw_at lw_m2 47 rfl) rfl), Or.inl rfl⟩⟩, fun q h => by cases h⟩⟩
theorem ow58_4 : ∀ q ∈ ([] : List (Nat × Nat)), TLk "java/lang/Throwable" q.1 q.2 ∧ q.2 % 4 = 2 := fun q h => by cases h
theorem ow58_5 : ∀ q ∈ ([] : List (Nat × Nat)), mdT q.2 = true ∧ NLk "java/lang/Throwable" q.1 q.2 := fun q h => by cases h
theorem ow58_6 : ∀ q ∈ ([] : List (Nat × Nat)), mdA q.2 = true ∧ ak q.2 = 2 ∧ ALk "java/lang/Throwable" q.1 q.2 := fun q h => by cases h
theorem ow58_7 : ∀ q ∈ ([] : List (Nat × Nat)), XLk "java/lang/Throwable" q.1 q.2 := fun q h => by cases h
theorem ow58_8 {s0 : State} (hN : NCs s0) : ∀ q ∈ ([] : List (Nat × Nat)), YLk s0 "java/lang/Throwable" q.1 q.2 := fun q h => by cases h
theorem ow58_9 : ∀ q ∈ ([] : List (Nat × Nat)), q.2 = ACN ∧ ACk "java/lang/Throwable" q.1 ∨ q.2 ≠ ACN ∧ SMk "java/lang/Throwable" q.1 q.2 := fun q h => by cases h
theorem ow58_10 : ∀ q ∈ ([] : List (Nat × Nat)), IMk "java/lang/Throwable" q.1 q.2 ∧ ∀ t, inT (q.2 / 16 % 128) (q.2 / 2048 % 128) t → inT 1 55 t := fun q h => by cases h
theorem ow58_11 : ∀ q ∈ ([] : List (Nat × Nat)), VMk "java/lang/Throwable" q.1 q.2 := fun q h => by cases h
theorem ow58_12 : ∀ q ∈ ([] : List (Nat × Nat)), ∀ n, pN q.2 n → PMk "java/lang/Throwable" q.1 q.2 n := fun q h => by cases h
theorem ow58_13 : ∀ q ∈ ([(1, 0)] : List (Nat × Nat)), Cond.methodLink "java/lang/Throwable" q.1 Lib.objectInit ∈ lw_all := List.forall_mem_cons.mpr ⟨lw_g (lw_at lw_m2 44 rfl) rfl, fun q h => by cases h⟩
theorem ow58_14 : ∀ q ∈ ([] : List (Nat × Nat)), JMk "java/lang/Throwable" q.1 q.2 := fun q h => by cases h
theorem ow58_15 : ∀ q ∈ ([] : List (Nat × Nat)), exT q.2 ∧ NLk "java/lang/Throwable" q.1 q.2 := fun q h => by cases h
theorem ow58_16 : ∀ q ∈ ([] : List (Nat × Nat)), exT q.2 ∧ Cond.methodLink "java/lang/Throwable" q.1 ⟨cN q.2, "<init>", "()V"⟩ ∈ lw_all := fun q h => by cases h
def Om58 : Om := [[], [(7, 3459210930), (17, 3467599538), (24, 3475988146), (31, 3484376754)], [], [(13, 4118806530), (20, 4127195138)], [], [], [], [], [], [], [], [], [], [(1, 0)], [], [], []]
def Ok58 : List (Nat × Int) := []
def Ol58 : List (Nat × Int) := []
theorem ow58 {s0 : State} (hN : NCs s0) : OwnOK s0 "java/lang/Throwable" Om58 Ok58 Ol58 := ⟨ow58_k, ow58_l, ow58_0, ow58_1, ow58_2, ow58_3, ow58_4, ow58_5, ow58_6, ow58_7, ow58_8 hN, ow58_9, ow58_10, ow58_11, ow58_12, ow58_13, ow58_14, ow58_15, ow58_16⟩
theorem ow59_k : ∀ q ∈ ([] : List (Nat × Int)), Cond.constant "java/util/AbstractCollection" q.1 (Int32.ofInt q.2) ∈ lw_all := fun q h => by cases h
theorem ow59_l : ∀ q ∈ ([] : List (Nat × Int)), Cond.constantLong "java/util/AbstractCollection" q.1 (Int64.ofInt q.2) ∈ lw_all := fun q h => by cases h
theorem ow59_0 : ∀ q ∈ ([] : List (Nat × Nat)), q.2 ∈ iFs ∧ FLk "java/util/AbstractCollection" q.1 q.2 := fun q h => by cases h
theorem ow59_1 : ∀ q ∈ ([] : List (Nat × Nat)), q.2 ∈ iFs ∧ PLk "java/util/AbstractCollection" q.1 q.2 := fun q h => by cases h
theorem ow59_2 : ∀ q ∈ ([] : List (Nat × Nat)), q.2 ∈ iFs ∧ PFk "java/util/AbstractCollection" q.1 q.2 := fun q h => by cases h
theorem ow59_3 : ∀ q ∈ ([] : List (Nat × Nat)), q.2 ∈ sFs ∧ FLk "java/util/AbstractCollection" q.1 q.2 := fun q h => by cases h
theorem ow59_4 : ∀ q ∈ ([] : List (Nat × Nat)), TLk "java/util/AbstractCollection" q.1 q.2 ∧ q.2 % 4 = 2 := fun q h => by cases h
theorem ow59_5 : ∀ q ∈ ([] : List (Nat × Nat)), mdT q.2 = true ∧ NLk "java/util/AbstractCollection" q.1 q.2 := fun q h => by cases h
theorem ow59_6 : ∀ q ∈ ([] : List (Nat × Nat)), mdA q.2 = true ∧ ak q.2 = 2 ∧ ALk "java/util/AbstractCollection" q.1 q.2 := fun q h => by cases h
theorem ow59_7 : ∀ q ∈ ([] : List (Nat × Nat)), XLk "java/util/AbstractCollection" q.1 q.2 := fun q h => by cases h
theorem ow59_8 {s0 : State} (hN : NCs s0) : ∀ q ∈ ([] : List (Nat × Nat)), YLk s0 "java/util/AbstractCollection" q.1 q.2 := fun q h => by cases h
theorem ow59_9 : ∀ q ∈ ([] : List (Nat × Nat)), q.2 = ACN ∧ ACk "java/util/AbstractCollection" q.1 ∨ q.2 ≠ ACN ∧ SMk "java/util/AbstractCollection" q.1 q.2 := fun q h => by cases h
theorem ow59_10 : ∀ q ∈ ([] : List (Nat × Nat)), IMk "java/util/AbstractCollection" q.1 q.2 ∧ ∀ t, inT (q.2 / 16 % 128) (q.2 / 2048 % 128) t → inT 1 55 t := fun q h => by cases h
theorem ow59_11 : ∀ q ∈ ([] : List (Nat × Nat)), VMk "java/util/AbstractCollection" q.1 q.2 := fun q h => by cases h
theorem ow59_12 : ∀ q ∈ ([] : List (Nat × Nat)), ∀ n, pN q.2 n → PMk "java/util/AbstractCollection" q.1 q.2 n := fun q h => by cases h
theorem ow59_13 : ∀ q ∈ ([(1, 0)] : List (Nat × Nat)), Cond.methodLink "java/util/AbstractCollection" q.1 Lib.objectInit ∈ lw_all := List.forall_mem_cons.mpr ⟨lw_g (lw_at lw_m1 197 rfl) rfl, fun q h => by cases h⟩
theorem ow59_14 : ∀ q ∈ ([] : List (Nat × Nat)), JMk "java/util/AbstractCollection" q.1 q.2 := fun q h => by cases h
theorem ow59_15 : ∀ q ∈ ([] : List (Nat × Nat)), exT q.2 ∧ NLk "java/util/AbstractCollection" q.1 q.2 := fun q h => by cases h
theorem ow59_16 : ∀ q ∈ ([] : List (Nat × Nat)), exT q.2 ∧ Cond.methodLink "java/util/AbstractCollection" q.1 ⟨cN q.2, "<init>", "()V"⟩ ∈ lw_all := fun q h => by cases h
def Om59 : Om := [[], [], [], [], [], [], [], [], [], [], [], [], [], [(1, 0)], [], [], []]
def Ok59 : List (Nat × Int) := []
def Ol59 : List (Nat × Int) := []
theorem ow59 {s0 : State} (hN : NCs s0) : OwnOK s0 "java/util/AbstractCollection" Om59 Ok59 Ol59 := ⟨ow59_k, ow59_l, ow59_0, ow59_1, ow59_2, ow59_3, ow59_4, ow59_5, ow59_6, ow59_7, ow59_8 hN, ow59_9, ow59_10, ow59_11, ow59_12, ow59_13, ow59_14, ow59_15, ow59_16⟩
theorem ow60_k : ∀ q ∈ ([] : List (Nat × Int)), Cond.constant "java/util/AbstractList" q.1 (Int32.ofInt q.2) ∈ lw_all := fun q h => by cases h
theorem ow60_l : ∀ q ∈ ([] : List (Nat × Int)), Cond.constantLong "java/util/AbstractList" q.1 (Int64.ofInt q.2) ∈ lw_all := fun q h => by cases h
theorem ow60_0 : ∀ q ∈ ([] : List (Nat × Nat)), q.2 ∈ iFs ∧ FLk "java/util/AbstractList" q.1 q.2 := fun q h => by cases h
theorem ow60_1 : ∀ q ∈ ([(7, 3526385856)] : List (Nat × Nat)), q.2 ∈ iFs ∧ PLk "java/util/AbstractList" q.1 q.2 := List.forall_mem_cons.mpr ⟨⟨List.mem_of_getElem? (i := 420) rfl, ⟨"java/util/AbstractList", Or.inl (lw_g (lw_at lw_m1 202 rfl) rfl), Or.inl rfl⟩, rfl⟩, fun q h => by cases h⟩
theorem ow60_2 : ∀ q ∈ ([] : List (Nat × Nat)), q.2 ∈ iFs ∧ PFk "java/util/AbstractList" q.1 q.2 := fun q h => by cases h
theorem ow60_3 : ∀ q ∈ ([] : List (Nat × Nat)), q.2 ∈ sFs ∧ FLk "java/util/AbstractList" q.1 q.2 := fun q h => by cases h
theorem ow60_4 : ∀ q ∈ ([] : List (Nat × Nat)), TLk "java/util/AbstractList" q.1 q.2 ∧ q.2 % 4 = 2 := fun q h => by cases h
theorem ow60_5 : ∀ q ∈ ([] : List (Nat × Nat)), mdT q.2 = true ∧ NLk "java/util/AbstractList" q.1 q.2 := fun q h => by cases h
theorem ow60_6 : ∀ q ∈ ([] : List (Nat × Nat)), mdA q.2 = true ∧ ak q.2 = 2 ∧ ALk "java/util/AbstractList" q.1 q.2 := fun q h => by cases h
theorem ow60_7 : ∀ q ∈ ([] : List (Nat × Nat)), XLk "java/util/AbstractList" q.1 q.2 := fun q h => by cases h
theorem ow60_8 {s0 : State} (hN : NCs s0) : ∀ q ∈ ([] : List (Nat × Nat)), YLk s0 "java/util/AbstractList" q.1 q.2 := fun q h => by cases h
theorem ow60_9 : ∀ q ∈ ([] : List (Nat × Nat)), q.2 = ACN ∧ ACk "java/util/AbstractList" q.1 ∨ q.2 ≠ ACN ∧ SMk "java/util/AbstractList" q.1 q.2 := fun q h => by cases h
theorem ow60_10 : ∀ q ∈ ([(1, 169444097)] : List (Nat × Nat)), IMk "java/util/AbstractList" q.1 q.2 ∧ ∀ t, inT (q.2 / 16 % 128) (q.2 / 2048 % 128) t → inT 1 55 t := List.forall_mem_cons.mpr ⟨⟨⟨mok_J4_init, np_J4_init, by decide, rfl, im_J4_init, ⟨_, _, rfl⟩, Or.inl (lw_g (lw_at lw_m1 194 rfl) rfl)⟩, fun t ht => ⟨Nat.le_trans (by decide) ht.1, Nat.le_trans ht.2 (by decide)⟩⟩, fun q h => by cases h⟩
theorem ow60_11 : ∀ q ∈ ([] : List (Nat × Nat)), VMk "java/util/AbstractList" q.1 q.2 := fun q h => by cases h
theorem ow60_12 : ∀ q ∈ ([] : List (Nat × Nat)), ∀ n, pN q.2 n → PMk "java/util/AbstractList" q.1 q.2 n := fun q h => by cases h
theorem ow60_13 : ∀ q ∈ ([] : List (Nat × Nat)), Cond.methodLink "java/util/AbstractList" q.1 Lib.objectInit ∈ lw_all := fun q h => by cases h
theorem ow60_14 : ∀ q ∈ ([] : List (Nat × Nat)), JMk "java/util/AbstractList" q.1 q.2 := fun q h => by cases h
theorem ow60_15 : ∀ q ∈ ([] : List (Nat × Nat)), exT q.2 ∧ NLk "java/util/AbstractList" q.1 q.2 := fun q h => by cases h
theorem ow60_16 : ∀ q ∈ ([] : List (Nat × Nat)), exT q.2 ∧ Cond.methodLink "java/util/AbstractList" q.1 ⟨cN q.2, "<init>", "()V"⟩ ∈ lw_all := fun q h => by cases h
def Om60 : Om := [[], [(7, 3526385856)], [], [], [], [], [], [], [], [], [(1, 169444097)], [], [], [], [], [], []]
def Ok60 : List (Nat × Int) := []
def Ol60 : List (Nat × Int) := []
theorem ow60 {s0 : State} (hN : NCs s0) : OwnOK s0 "java/util/AbstractList" Om60 Ok60 Ol60 := ⟨ow60_k, ow60_l, ow60_0, ow60_1, ow60_2, ow60_3, ow60_4, ow60_5, ow60_6, ow60_7, ow60_8 hN, ow60_9, ow60_10, ow60_11, ow60_12, ow60_13, ow60_14, ow60_15, ow60_16⟩
theorem ow61_k : ∀ q ∈ ([] : List (Nat × Int)), Cond.constant "java/util/ArrayList" q.1 (Int32.ofInt q.2) ∈ lw_all := fun q h => by cases h
theorem ow61_l : ∀ q ∈ ([] : List (Nat × Int)), Cond.constantLong "java/util/ArrayList" q.1 (Int64.ofInt q.2) ∈ lw_all := fun q h => by cases h
theorem ow61_0 : ∀ q ∈ ([(9, 3534774466), (48, 3543163072), (63, 3526385856)] : List (Nat × Nat)), q.2 ∈ iFs ∧ FLk "java/util/ArrayList" q.1 q.2 := List.forall_mem_cons.mpr ⟨⟨List.mem_of_getElem? (i := 421) rfl, ⟨"java/util/ArrayList", Or.inl (lw_g (lw_at lw_m1 200 rfl) rfl), Or.inl rfl⟩⟩, List.forall_mem_cons.mpr ⟨⟨List.mem_of_getElem? (i := 422) rfl, ⟨"java/util/ArrayList", Or.inl (lw_g (lw_at lw_m1 201 rfl) rfl), Or.inl rfl⟩⟩, List.forall_mem_cons.mpr ⟨⟨List.mem_of_getElem? (i := 420) rfl, ⟨"java/util/ArrayList", Or.inl (lw_g (lw_at lw_m1 203 rfl) rfl), Or.inr (lw_g (lw_at lw_m1 204 rfl) rfl)⟩⟩, fun q h => by cases h⟩⟩⟩
theorem ow61_1 : ∀ q ∈ ([(9, 3534774466), (48, 3543163072), (63, 3526385856)] : List (Nat × Nat)), q.2 ∈ iFs ∧ PLk "java/util/ArrayList" q.1 q.2 := List.forall_mem_cons.mpr ⟨⟨List.mem_of_getElem? (i := 421) rfl, ⟨"java/util/ArrayList", Or.inl (lw_g (lw_at lw_m1 200 rfl) rfl), Or.inl rfl⟩, rfl⟩, List.forall_mem_cons.mpr ⟨⟨List.mem_of_getElem? (i := 422) rfl, ⟨"java/util/ArrayList", Or.inl (lw_g (lw_at lw_m1 201 rfl) rfl), Or.inl rfl⟩, rfl⟩, List.forall_mem_cons.mpr ⟨⟨List.mem_of_getElem? (i := 420) rfl, ⟨"java/util/ArrayList", Or.inl (lw_g (lw_at lw_m1 203 rfl) rfl), Or.inr (lw_g (lw_at lw_m1 204 rfl) rfl)⟩, rfl⟩, fun q h => by cases h⟩⟩⟩
theorem ow61_2 : ∀ q ∈ ([] : List (Nat × Nat)), q.2 ∈ iFs ∧ PFk "java/util/ArrayList" q.1 q.2 := fun q h => by cases h
theorem ow61_3 : ∀ q ∈ ([(15, 4043309058), (39, 4034920450)] : List (Nat × Nat)), q.2 ∈ sFs ∧ FLk "java/util/ArrayList" q.1 q.2 := List.forall_mem_cons.mpr ⟨⟨List.mem_of_getElem? (i := 12) rfl, ⟨"java/util/ArrayList", Or.inl (lw_g (lw_at lw_m2 17 rfl) rfl), Or.inl rfl⟩⟩, List.forall_mem_cons.mpr ⟨⟨List.mem_of_getElem? (i := 11) rfl, ⟨"java/util/ArrayList", Or.inl (lw_g (lw_at lw_m1 198 rfl) rfl), Or.inl rfl⟩⟩, fun q h => by cases h⟩⟩
theorem ow61_4 : ∀ q ∈ ([(23, 4051697666)] : List (Nat × Nat)), TLk "java/util/ArrayList" q.1 q.2 ∧ q.2 % 4 = 2 := List.forall_mem_cons.mpr ⟨⟨List.mem_of_getElem? (i := 42) rfl, rfl⟩, fun q h => by cases h⟩
theorem ow61_5 : ∀ q ∈ ([] : List (Nat × Nat)), mdT q.2 = true ∧ NLk "java/util/ArrayList" q.1 q.2 := fun q h => by cases h
theorem ow61_6 : ∀ q ∈ ([(7, 71)] : List (Nat × Nat)), mdA q.2 = true ∧ ak q.2 = 2 ∧ ALk "java/util/ArrayList" q.1 q.2 := List.forall_mem_cons.mpr ⟨⟨rfl, rfl, "java/lang/Object", rfl, lw_g (lw_at lw_m2 15 rfl) rfl, lw_at lw_m2 16 rfl⟩, fun q h => by cases h⟩
theorem ow61_7 : ∀ q ∈ ([] : List (Nat × Nat)), XLk "java/util/ArrayList" q.1 q.2 := fun q h => by cases h
theorem ow61_8 {s0 : State} (hN : NCs s0) : ∀ q ∈ ([] : List (Nat × Nat)), YLk s0 "java/util/ArrayList" q.1 q.2 := fun q h => by cases h
theorem ow61_9 : ∀ q ∈ ([(66, 236191746), (73, 175374339), (79, 174587906), (112, 235929605), (118, 172490754)] : List (Nat × Nat)), q.2 = ACN ∧ ACk "java/util/ArrayList" q.1 ∨ q.2 ≠ ACN ∧ SMk "java/util/ArrayList" q.1 q.2 := List.forall_mem_cons.mpr ⟨Or.inr ⟨by decide, mok_P_Arrays_copyOf, np_P_Arrays_copyOf, ⟨sm_P_Arrays_copyOf, lw_g (lw_at lw_m1 22 rfl) rfl⟩, Or.inl (lw_g (lw_at lw_m6 59 rfl) rfl)⟩, List.forall_mem_cons.mpr ⟨Or.inr ⟨by decide, mok_J13_newLength, np_J13_newLength, ⟨sm_J13_newLength, lw_g (lw_at lw_m1 20 rfl) rfl⟩, Or.inl (lw_g (lw_at lw_m6 58 rfl) rfl)⟩, List.forall_mem_cons.mpr ⟨Or.inr ⟨by decide, mok_J14_max, np_J14_max, ⟨sm_J14_max, lw_g (lw_at lw_m1 21 rfl) rfl⟩, Or.inl (lw_g (lw_at lw_m6 126 rfl) rfl)⟩, List.forall_mem_cons.mpr ⟨Or.inl ⟨rfl, lw_g (lw_at lw_m8 150 rfl) rfl, lw_g (lw_at lw_m2 138 rfl) rfl, lw_g (lw_at lw_m2 137 rfl) rfl, lw_g (lw_at lw_m1 23 rfl) rfl⟩, List.forall_mem_cons.mpr ⟨Or.inr ⟨by decide, mok_J22_checkIndex, np_J22_checkIndex, ⟨sm_J22_checkIndex, lw_g (lw_at lw_m1 44 rfl) rfl⟩, Or.inl (lw_g (lw_at lw_m7 81 rfl) rfl)⟩, fun q h => by cases h⟩⟩⟩⟩⟩
theorem ow61_10 : ∀ q ∈ ([(1, 169181953)] : List (Nat × Nat)), IMk "java/util/ArrayList" q.1 q.2 ∧ ∀ t, inT (q.2 / 16 % 128) (q.2 / 2048 % 128) t → inT 1 55 t := List.forall_mem_cons.mpr ⟨⟨⟨mok_J5_init, np_J5_init, by decide, rfl, im_J5_init, ⟨_, _, rfl⟩, Or.inl (lw_g (lw_at lw_m1 191 rfl) rfl)⟩, fun t ht => ⟨Nat.le_trans (by decide) ht.1, Nat.le_trans ht.2 (by decide)⟩⟩, fun q h => by cases h⟩
theorem ow61_11_0 : VMk "java/util/ArrayList" 69 166560514 := ⟨mok_J6_grow_2, by decide, fun t ht => by
  obtain rfl : t = 48 := Nat.le_antisymm (Nat.le_trans ht.2 (by decide)) (Nat.le_trans (by decide) ht.1)
  exact ⟨⟨by decide, by decide⟩, im_J6_grow_2, Or.inl ⟨np_J6_grow_2, lw_g (lw_ms _ (List.mem_map.mpr ⟨_, List.mem_of_getElem? (i := 18) rfl, rfl⟩)) rfl, Or.inl (lw_g (lw_at lw_m6 54 rfl) rfl)⟩⟩⟩
theorem ow61_11_1 : VMk "java/util/ArrayList" 85 167609090 := ⟨mok_J6_indexOf, by decide, fun t ht => by
  obtain rfl : t = 48 := Nat.le_antisymm (Nat.le_trans ht.2 (by decide)) (Nat.le_trans (by decide) ht.1)
  exact ⟨⟨by decide, by decide⟩, im_J6_indexOf, Or.inl ⟨np_J6_indexOf, lw_g (lw_at lw_m7 118 rfl) rfl, Or.inl (lw_g (lw_at lw_m7 116 rfl) rfl)⟩⟩⟩
theorem ow61_11_2 : VMk "java/util/ArrayList" 89 167871236 := ⟨mok_J6_indexOfRange, by decide, fun t ht => by
  obtain rfl : t = 48 := Nat.le_antisymm (Nat.le_trans ht.2 (by decide)) (Nat.le_trans (by decide) ht.1)
  exact ⟨⟨by decide, by decide⟩, im_J6_indexOfRange, Or.inl ⟨np_J6_indexOfRange, lw_g (lw_at lw_m7 122 rfl) rfl, Or.inl (lw_g (lw_at lw_m7 120 rfl) rfl)⟩⟩⟩
theorem ow61_11_3 : VMk "java/util/ArrayList" 123 167084802 := ⟨mok_J6_elementData, by decide, fun t ht => by
  obtain rfl : t = 48 := Nat.le_antisymm (Nat.le_trans ht.2 (by decide)) (Nat.le_trans (by decide) ht.1)
  exact ⟨⟨by decide, by decide⟩, im_J6_elementData, Or.inl ⟨np_J6_elementData, lw_g (lw_at lw_m7 87 rfl) rfl, Or.inl (lw_g (lw_at lw_m7 85 rfl) rfl)⟩⟩⟩
theorem ow61_11_4 : VMk "java/util/ArrayList" 129 166298369 := ⟨mok_J6_grow, by decide, fun t ht => by
  obtain rfl : t = 48 := Nat.le_antisymm (Nat.le_trans ht.2 (by decide)) (Nat.le_trans (by decide) ht.1)
  exact ⟨⟨by decide, by decide⟩, im_J6_grow, Or.inl ⟨np_J6_grow, lw_g (lw_ms _ (List.mem_map.mpr ⟨_, List.mem_of_getElem? (i := 17) rfl, rfl⟩)) rfl, Or.inl (lw_g (lw_at lw_m6 50 rfl) rfl)⟩⟩⟩
theorem ow61_11_5 : VMk "java/util/ArrayList" 131 166036228 := ⟨mok_J6_add_2, by decide, fun t ht => by
  obtain rfl : t = 48 := Nat.le_antisymm (Nat.le_trans ht.2 (by decide)) (Nat.le_trans (by decide) ht.1)
  exact ⟨⟨by decide, by decide⟩, im_J6_add_2, Or.inl ⟨np_J6_add_2, lw_g (lw_ms _ (List.mem_map.mpr ⟨_, List.mem_of_getElem? (i := 16) rfl, rfl⟩)) rfl, Or.inl (lw_g (lw_at lw_m6 46 rfl) rfl)⟩⟩⟩
theorem ow61_11_6 : VMk "java/util/ArrayList" 144 168395523 := ⟨mok_J6_fastRemove, by decide, fun t ht => by
  obtain rfl : t = 48 := Nat.le_antisymm (Nat.le_trans ht.2 (by decide)) (Nat.le_trans (by decide) ht.1)
  exact ⟨⟨by decide, by decide⟩, im_J6_fastRemove, Or.inl ⟨np_J6_fastRemove, lw_g (lw_ms _ (List.mem_map.mpr ⟨_, List.mem_of_getElem? (i := 49) rfl, rfl⟩)) rfl, Or.inl (lw_g (lw_at lw_m8 146 rfl) rfl)⟩⟩⟩
theorem ow61_11 : ∀ q ∈ ([(69, 166560514), (85, 167609090), (89, 167871236), (123, 167084802), (129, 166298369), (131, 166036228), (144, 168395523)] : List (Nat × Nat)), VMk "java/util/ArrayList" q.1 q.2 := List.forall_mem_cons.mpr ⟨ow61_11_0, List.forall_mem_cons.mpr ⟨ow61_11_1, List.forall_mem_cons.mpr ⟨ow61_11_2, List.forall_mem_cons.mpr ⟨ow61_11_3, List.forall_mem_cons.mpr ⟨ow61_11_4, List.forall_mem_cons.mpr ⟨ow61_11_5, List.forall_mem_cons.mpr ⟨ow61_11_6, fun q h => by cases h⟩⟩⟩⟩⟩⟩⟩
theorem ow61_12_0 : PMk "java/util/ArrayList" 93 47 2 := ⟨by decide, fun t m h => by
  rcases dsp_47 h with ⟨rfl, rfl⟩ | ⟨rfl, rfl⟩ | ⟨rfl, rfl⟩ | ⟨rfl, rfl⟩
  · exact ⟨mok_J25_equals, ⟨by decide, by decide⟩, im_J25_equals, Or.inl ⟨by decide +kernel, lw_g (lw_at lw_m7 148 rfl) rfl, Or.inl (lw_g (lw_at lw_m7 125 rfl) rfl)⟩⟩
  · exact ⟨mok_J25_equals, ⟨by decide, by decide⟩, im_J25_equals, Or.inl ⟨by decide +kernel, lw_g (lw_at lw_m7 162 rfl) rfl, Or.inl (lw_g (lw_at lw_m7 125 rfl) rfl)⟩⟩
  · exact ⟨mok_J20_equals, ⟨by decide, by decide⟩, im_J20_equals, Or.inr ⟨⟨"java/lang/Object", "equals", "(Ljava/lang/Object;)Z"⟩, "java/lang/Object", by decide +kernel, lw_g (lw_at lw_m7 125 rfl) rfl, lw_g (lw_at lw_m7 127 rfl) rfl, Or.inl (lw_at lw_m7 124 rfl), ⟨by decide +kernel, by decide +kernel⟩, lw_g (lw_at lw_m7 194 rfl) rfl⟩⟩
  · exact ⟨mok_J20_equals, ⟨by decide, by decide⟩, im_J20_equals, Or.inr ⟨⟨"java/lang/Object", "equals", "(Ljava/lang/Object;)Z"⟩, "java/lang/Object", by decide +kernel, lw_g (lw_at lw_m7 125 rfl) rfl, lw_g (lw_at lw_m7 127 rfl) rfl, Or.inl (lw_at lw_m7 124 rfl), ⟨by decide +kernel, by decide +kernel⟩, lw_g (lw_at lw_m7 194 rfl) rfl⟩⟩⟩
theorem ow61_12 : ∀ q ∈ ([(93, 47)] : List (Nat × Nat)), ∀ n, pN q.2 n → PMk "java/util/ArrayList" q.1 q.2 n := List.forall_mem_cons.mpr ⟨(fun n hn => by cases hn; exact ow61_12_0), fun q h => by cases h⟩
theorem ow61_13 : ∀ q ∈ ([] : List (Nat × Nat)), Cond.methodLink "java/util/ArrayList" q.1 Lib.objectInit ∈ lw_all := fun q h => by cases h
theorem ow61_14_0 : JMk "java/util/ArrayList" 42 168919809 := ⟨mok_J6_toArray, rfl, ⟨"java/util/Collection", "toArray", "()[Ljava/lang/Object;"⟩, by decide +kernel, ⟨by decide +kernel, by decide +kernel⟩, lw_g (lw_at lw_m9 203 rfl) rfl, lw_at lw_m9 205 rfl, lw_at lw_m9 204 rfl, lw_at lw_m9 210 rfl, im_J6_toArray, fun t ht => by
  obtain rfl : t = 48 := Nat.le_antisymm (Nat.le_trans ht.2 (by decide)) (Nat.le_trans (by decide) ht.1)
  exact ⟨⟨by decide, by decide⟩, lw_at lw_m9 208 rfl, lw_at lw_m9 206 rfl, lw_g (lw_at lw_m9 207 rfl) rfl⟩⟩
theorem ow61_14 : ∀ q ∈ ([(42, 168919809)] : List (Nat × Nat)), JMk "java/util/ArrayList" q.1 q.2 := List.forall_mem_cons.mpr ⟨ow61_14_0, fun q h => by cases h⟩
theorem ow61_15 : ∀ q ∈ ([] : List (Nat × Nat)), exT q.2 ∧ NLk "java/util/ArrayList" q.1 q.2 := fun q h => by cases h
theorem ow61_16 : ∀ q ∈ ([] : List (Nat × Nat)), exT q.2 ∧ Cond.methodLink "java/util/ArrayList" q.1 ⟨cN q.2, "<init>", "()V"⟩ ∈ lw_all := fun q h => by cases h
def Om61 : Om := [[(9, 3534774466), (48, 3543163072), (63, 3526385856)], [(9, 3534774466), (48, 3543163072), (63, 3526385856)], [], [(15, 4043309058), (39, 4034920450)], [(23, 4051697666)], [], [(7, 71)], [], [], [(66, 236191746), (73, 175374339), (79, 174587906), (112, 235929605), (118, 172490754)], [(1, 169181953)], [(69, 166560514), (85, 167609090), (89, 167871236), (123, 167084802), (129, 166298369), (131, 166036228), (144, 168395523)], [(93, 47)], [], [(42, 168919809)], [], []]
def Ok61 : List (Nat × Int) := []
def Ol61 : List (Nat × Int) := []
theorem ow61 {s0 : State} (hN : NCs s0) : OwnOK s0 "java/util/ArrayList" Om61 Ok61 Ol61 := ⟨ow61_k, ow61_l, ow61_0, ow61_1, ow61_2, ow61_3, ow61_4, ow61_5, ow61_6, ow61_7, ow61_8 hN, ow61_9, ow61_10, ow61_11, ow61_12, ow61_13, ow61_14, ow61_15, ow61_16⟩
theorem ow62_k : ∀ q ∈ ([] : List (Nat × Int)), Cond.constant "java/util/Objects" q.1 (Int32.ofInt q.2) ∈ lw_all := fun q h => by cases h
theorem ow62_l : ∀ q ∈ ([] : List (Nat × Int)), Cond.constantLong "java/util/Objects" q.1 (Int64.ofInt q.2) ∈ lw_all := fun q h => by cases h
theorem ow62_0 : ∀ q ∈ ([] : List (Nat × Nat)), q.2 ∈ iFs ∧ FLk "java/util/Objects" q.1 q.2 := fun q h => by cases h
theorem ow62_1 : ∀ q ∈ ([] : List (Nat × Nat)), q.2 ∈ iFs ∧ PLk "java/util/Objects" q.1 q.2 := fun q h => by cases h
theorem ow62_2 : ∀ q ∈ ([] : List (Nat × Nat)), q.2 ∈ iFs ∧ PFk "java/util/Objects" q.1 q.2 := fun q h => by cases h
theorem ow62_3 : ∀ q ∈ ([] : List (Nat × Nat)), q.2 ∈ sFs ∧ FLk "java/util/Objects" q.1 q.2 := fun q h => by cases h
theorem ow62_4 : ∀ q ∈ ([] : List (Nat × Nat)), TLk "java/util/Objects" q.1 q.2 ∧ q.2 % 4 = 2 := fun q h => by cases h
theorem ow62_5 : ∀ q ∈ ([] : List (Nat × Nat)), mdT q.2 = true ∧ NLk "java/util/Objects" q.1 q.2 := fun q h => by cases h
theorem ow62_6 : ∀ q ∈ ([] : List (Nat × Nat)), mdA q.2 = true ∧ ak q.2 = 2 ∧ ALk "java/util/Objects" q.1 q.2 := fun q h => by cases h
theorem ow62_7 : ∀ q ∈ ([] : List (Nat × Nat)), XLk "java/util/Objects" q.1 q.2 := fun q h => by cases h
theorem ow62_8 {s0 : State} (hN : NCs s0) : ∀ q ∈ ([] : List (Nat × Nat)), YLk s0 "java/util/Objects" q.1 q.2 := fun q h => by cases h
theorem ow62_9 : ∀ q ∈ ([(105, 172752899)] : List (Nat × Nat)), q.2 = ACN ∧ ACk "java/util/Objects" q.1 ∨ q.2 ≠ ACN ∧ SMk "java/util/Objects" q.1 q.2 := List.forall_mem_cons.mpr ⟨Or.inr ⟨by decide, mok_J2_checkIndex, np_J2_checkIndex, ⟨sm_J2_checkIndex, lw_g (lw_at lw_m1 5 rfl) rfl⟩, Or.inl (lw_g (lw_at lw_m7 84 rfl) rfl)⟩, fun q h => by cases h⟩
theorem ow62_10 : ∀ q ∈ ([] : List (Nat × Nat)), IMk "java/util/Objects" q.1 q.2 ∧ ∀ t, inT (q.2 / 16 % 128) (q.2 / 2048 % 128) t → inT 1 55 t := fun q h => by cases h
theorem ow62_11 : ∀ q ∈ ([] : List (Nat × Nat)), VMk "java/util/Objects" q.1 q.2 := fun q h => by cases h
theorem ow62_12 : ∀ q ∈ ([] : List (Nat × Nat)), ∀ n, pN q.2 n → PMk "java/util/Objects" q.1 q.2 n := fun q h => by cases h
theorem ow62_13 : ∀ q ∈ ([] : List (Nat × Nat)), Cond.methodLink "java/util/Objects" q.1 Lib.objectInit ∈ lw_all := fun q h => by cases h
theorem ow62_14 : ∀ q ∈ ([] : List (Nat × Nat)), JMk "java/util/Objects" q.1 q.2 := fun q h => by cases h
theorem ow62_15 : ∀ q ∈ ([] : List (Nat × Nat)), exT q.2 ∧ NLk "java/util/Objects" q.1 q.2 := fun q h => by cases h
theorem ow62_16 : ∀ q ∈ ([] : List (Nat × Nat)), exT q.2 ∧ Cond.methodLink "java/util/Objects" q.1 ⟨cN q.2, "<init>", "()V"⟩ ∈ lw_all := fun q h => by cases h
def Om62 : Om := [[], [], [], [], [], [], [], [], [], [(105, 172752899)], [], [], [], [], [], [], []]
def Ok62 : List (Nat × Int) := []
def Ol62 : List (Nat × Int) := []
theorem ow62 {s0 : State} (hN : NCs s0) : OwnOK s0 "java/util/Objects" Om62 Ok62 Ol62 := ⟨ow62_k, ow62_l, ow62_0, ow62_1, ow62_2, ow62_3, ow62_4, ow62_5, ow62_6, ow62_7, ow62_8 hN, ow62_9, ow62_10, ow62_11, ow62_12, ow62_13, ow62_14, ow62_15, ow62_16⟩
theorem ow63_k : ∀ q ∈ ([(200, 2147483639)] : List (Nat × Int)), Cond.constant "jdk/internal/util/ArraysSupport" q.1 (Int32.ofInt q.2) ∈ lw_all := List.forall_mem_cons.mpr ⟨lw_g (lw_at lw_m2 118 rfl) rfl, fun q h => by cases h⟩
theorem ow63_l : ∀ q ∈ ([] : List (Nat × Int)), Cond.constantLong "jdk/internal/util/ArraysSupport" q.1 (Int64.ofInt q.2) ∈ lw_all := fun q h => by cases h
theorem ow63_0 : ∀ q ∈ ([] : List (Nat × Nat)), q.2 ∈ iFs ∧ FLk "jdk/internal/util/ArraysSupport" q.1 q.2 := fun q h => by cases h
theorem ow63_1 : ∀ q ∈ ([] : List (Nat × Nat)), q.2 ∈ iFs ∧ PLk "jdk/internal/util/ArraysSupport" q.1 q.2 := fun q h => by cases h
theorem ow63_2 : ∀ q ∈ ([] : List (Nat × Nat)), q.2 ∈ iFs ∧ PFk "jdk/internal/util/ArraysSupport" q.1 q.2 := fun q h => by cases h
theorem ow63_3 : ∀ q ∈ ([] : List (Nat × Nat)), q.2 ∈ sFs ∧ FLk "jdk/internal/util/ArraysSupport" q.1 q.2 := fun q h => by cases h
theorem ow63_4 : ∀ q ∈ ([] : List (Nat × Nat)), TLk "jdk/internal/util/ArraysSupport" q.1 q.2 ∧ q.2 % 4 = 2 := fun q h => by cases h
theorem ow63_5 : ∀ q ∈ ([] : List (Nat × Nat)), mdT q.2 = true ∧ NLk "jdk/internal/util/ArraysSupport" q.1 q.2 := fun q h => by cases h
theorem ow63_6 : ∀ q ∈ ([] : List (Nat × Nat)), mdA q.2 = true ∧ ak q.2 = 2 ∧ ALk "jdk/internal/util/ArraysSupport" q.1 q.2 := fun q h => by cases h
theorem ow63_7 : ∀ q ∈ ([] : List (Nat × Nat)), XLk "jdk/internal/util/ArraysSupport" q.1 q.2 := fun q h => by cases h
theorem ow63_8 {s0 : State} (hN : NCs s0) : ∀ q ∈ ([] : List (Nat × Nat)), YLk s0 "jdk/internal/util/ArraysSupport" q.1 q.2 := fun q h => by cases h
theorem ow63_9 : ∀ q ∈ ([(194, 174587906)] : List (Nat × Nat)), q.2 = ACN ∧ ACk "jdk/internal/util/ArraysSupport" q.1 ∨ q.2 ≠ ACN ∧ SMk "jdk/internal/util/ArraysSupport" q.1 q.2 := List.forall_mem_cons.mpr ⟨Or.inr ⟨by decide, mok_J14_max, np_J14_max, ⟨sm_J14_max, lw_g (lw_at lw_m1 21 rfl) rfl⟩, Or.inl (lw_g (lw_at lw_m2 115 rfl) rfl)⟩, fun q h => by cases h⟩
theorem ow63_10 : ∀ q ∈ ([] : List (Nat × Nat)), IMk "jdk/internal/util/ArraysSupport" q.1 q.2 ∧ ∀ t, inT (q.2 / 16 % 128) (q.2 / 2048 % 128) t → inT 1 55 t := fun q h => by cases h
theorem ow63_11 : ∀ q ∈ ([] : List (Nat × Nat)), VMk "jdk/internal/util/ArraysSupport" q.1 q.2 := fun q h => by cases h
theorem ow63_12 : ∀ q ∈ ([] : List (Nat × Nat)), ∀ n, pN q.2 n → PMk "jdk/internal/util/ArraysSupport" q.1 q.2 n := fun q h => by cases h
theorem ow63_13 : ∀ q ∈ ([] : List (Nat × Nat)), Cond.methodLink "jdk/internal/util/ArraysSupport" q.1 Lib.objectInit ∈ lw_all := fun q h => by cases h
theorem ow63_14 : ∀ q ∈ ([] : List (Nat × Nat)), JMk "jdk/internal/util/ArraysSupport" q.1 q.2 := fun q h => by cases h
theorem ow63_15 : ∀ q ∈ ([] : List (Nat × Nat)), exT q.2 ∧ NLk "jdk/internal/util/ArraysSupport" q.1 q.2 := fun q h => by cases h
theorem ow63_16 : ∀ q ∈ ([] : List (Nat × Nat)), exT q.2 ∧ Cond.methodLink "jdk/internal/util/ArraysSupport" q.1 ⟨cN q.2, "<init>", "()V"⟩ ∈ lw_all := fun q h => by cases h
def Om63 : Om := [[], [], [], [], [], [], [], [], [], [(194, 174587906)], [], [], [], [], [], [], []]
def Ok63 : List (Nat × Int) := [(200, 2147483639)]
def Ol63 : List (Nat × Int) := []
theorem ow63 {s0 : State} (hN : NCs s0) : OwnOK s0 "jdk/internal/util/ArraysSupport" Om63 Ok63 Ol63 := ⟨ow63_k, ow63_l, ow63_0, ow63_1, ow63_2, ow63_3, ow63_4, ow63_5, ow63_6, ow63_7, ow63_8 hN, ow63_9, ow63_10, ow63_11, ow63_12, ow63_13, ow63_14, ow63_15, ow63_16⟩
theorem ow64_k : ∀ q ∈ ([] : List (Nat × Int)), Cond.constant "jdk/internal/util/Preconditions" q.1 (Int32.ofInt q.2) ∈ lw_all := fun q h => by cases h
theorem ow64_l : ∀ q ∈ ([] : List (Nat × Int)), Cond.constantLong "jdk/internal/util/Preconditions" q.1 (Int64.ofInt q.2) ∈ lw_all := fun q h => by cases h
theorem ow64_0 : ∀ q ∈ ([] : List (Nat × Nat)), q.2 ∈ iFs ∧ FLk "jdk/internal/util/Preconditions" q.1 q.2 := fun q h => by cases h
theorem ow64_1 : ∀ q ∈ ([] : List (Nat × Nat)), q.2 ∈ iFs ∧ PLk "jdk/internal/util/Preconditions" q.1 q.2 := fun q h => by cases h
theorem ow64_2 : ∀ q ∈ ([] : List (Nat × Nat)), q.2 ∈ iFs ∧ PFk "jdk/internal/util/Preconditions" q.1 q.2 := fun q h => by cases h
theorem ow64_3 : ∀ q ∈ ([] : List (Nat × Nat)), q.2 ∈ sFs ∧ FLk "jdk/internal/util/Preconditions" q.1 q.2 := fun q h => by cases h
theorem ow64_4 : ∀ q ∈ ([] : List (Nat × Nat)), TLk "jdk/internal/util/Preconditions" q.1 q.2 ∧ q.2 % 4 = 2 := fun q h => by cases h
theorem ow64_5 : ∀ q ∈ ([] : List (Nat × Nat)), mdT q.2 = true ∧ NLk "jdk/internal/util/Preconditions" q.1 q.2 := fun q h => by cases h
theorem ow64_6 : ∀ q ∈ ([] : List (Nat × Nat)), mdA q.2 = true ∧ ak q.2 = 2 ∧ ALk "jdk/internal/util/Preconditions" q.1 q.2 := fun q h => by cases h
theorem ow64_7 : ∀ q ∈ ([] : List (Nat × Nat)), XLk "jdk/internal/util/Preconditions" q.1 q.2 := fun q h => by cases h
theorem ow64_8 {s0 : State} (hN : NCs s0) : ∀ q ∈ ([] : List (Nat × Nat)), YLk s0 "jdk/internal/util/Preconditions" q.1 q.2 := fun q h => by cases h
theorem ow64_9 : ∀ q ∈ ([] : List (Nat × Nat)), q.2 = ACN ∧ ACk "jdk/internal/util/Preconditions" q.1 ∨ q.2 ≠ ACN ∧ SMk "jdk/internal/util/Preconditions" q.1 q.2 := fun q h => by cases h
theorem ow64_10 : ∀ q ∈ ([] : List (Nat × Nat)), IMk "jdk/internal/util/Preconditions" q.1 q.2 ∧ ∀ t, inT (q.2 / 16 % 128) (q.2 / 2048 % 128) t → inT 1 55 t := fun q h => by cases h
theorem ow64_11 : ∀ q ∈ ([] : List (Nat × Nat)), VMk "jdk/internal/util/Preconditions" q.1 q.2 := fun q h => by cases h
theorem ow64_12 : ∀ q ∈ ([] : List (Nat × Nat)), ∀ n, pN q.2 n → PMk "jdk/internal/util/Preconditions" q.1 q.2 n := fun q h => by cases h
theorem ow64_13 : ∀ q ∈ ([] : List (Nat × Nat)), Cond.methodLink "jdk/internal/util/Preconditions" q.1 Lib.objectInit ∈ lw_all := fun q h => by cases h
theorem ow64_14 : ∀ q ∈ ([] : List (Nat × Nat)), JMk "jdk/internal/util/Preconditions" q.1 q.2 := fun q h => by cases h
theorem ow64_15 : ∀ q ∈ ([] : List (Nat × Nat)), exT q.2 ∧ NLk "jdk/internal/util/Preconditions" q.1 q.2 := fun q h => by cases h
theorem ow64_16 : ∀ q ∈ ([] : List (Nat × Nat)), exT q.2 ∧ Cond.methodLink "jdk/internal/util/Preconditions" q.1 ⟨cN q.2, "<init>", "()V"⟩ ∈ lw_all := fun q h => by cases h
def Om64 : Om := [[], [], [], [], [], [], [], [], [], [], [], [], [], [], [], [], []]
def Ok64 : List (Nat × Int) := []
def Ol64 : List (Nat × Int) := []
theorem ow64 {s0 : State} (hN : NCs s0) : OwnOK s0 "jdk/internal/util/Preconditions" Om64 Ok64 Ol64 := ⟨ow64_k, ow64_l, ow64_0, ow64_1, ow64_2, ow64_3, ow64_4, ow64_5, ow64_6, ow64_7, ow64_8 hN, ow64_9, ow64_10, ow64_11, ow64_12, ow64_13, ow64_14, ow64_15, ow64_16⟩
