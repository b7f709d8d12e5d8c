/-! THE FIRST WORLD, out of what holds at the law's entry: printed by gen/startg.py -/
set_option maxRecDepth 100000
theorem s_arrP {ty : FieldType} {args : Array Value} {s : State} (h : (Cond.arrayClass ty).before args s = true) : ∃ cA : ClassId, ArrOfT s cA ty ∧ s.vm.findClass ("[" ++ ty.toString) = some cA := by
  obtain ⟨cA, k, comp, h1, h2, h3⟩ := Cond.arrayClass_spec (args := args) (first := s) (o := none) (s := s) (idx := []) h
  exact ⟨cA, fun n z => ⟨fun k h => (by cases h), k, h2, comp, h3⟩, h1⟩
theorem s_arrO {C : String} {args : Array Value} {s : State} (h : (Cond.arrayOver (.object C)).before args s = true) : ∃ cA : ClassId, ArrOfT s cA (.object C) ∧ va_RA s cA (.object C) := by
  obtain ⟨comp, cA, k, h1, h2, h3, h4, h5⟩ := Cond.arrayOver_spec (args := args) (first := s) (o := none) (s := s) (idx := []) h
  exact ⟨cA, fun n z => ⟨fun k h => (by cases h), k, h3, comp, h4⟩, k, comp, h3, h4, h1, h5⟩
theorem s_arrA {t : FieldType} {args : Array Value} {s : State} (h : (Cond.arrayOver (.array t)).before args s = true) : ∃ cA : ClassId, ArrOfT s cA (.array t) ∧ va_RA s cA (.array t) := by
  simp only [Cond.before, Cond.holds, Cond.value, beq_iff_eq, Option.bind_eq_some_iff, Option.map_eq_some_iff] at h
  obtain ⟨comp, h1, cA, h2, k, h3, h4⟩ := h
  obtain ⟨hlt, hp, -⟩ := Array.findIdx?_eq_some_iff_getElem.mp h2
  have hk : k = s.vm.classes[cA] := by
    rw [Array.getElem?_eq_getElem hlt] at h3
    exact (Option.some.inj h3).symm
  rw [← hk] at hp
  cases hkind : k.kind with
  | array c2 t2 =>
    rw [hkind] at h4
    simp only [Bool.and_eq_true, beq_iff_eq] at h4
    exact ⟨cA, fun n z => ⟨fun k h => (by cases h), k, h3, c2, by rw [hkind, h4.1]⟩, h4.2⟩
  | _ => rw [hkind] at hp; simp at hp
/-- a private method of the class above, selected in an object of a class below -/
theorem s_selP {C : String} {y : MethodName} {s : State} {args : Array Value} {n : Nat} (hy : y.cls ≠ "java/lang/invoke/MethodHandle" ∧ y.cls ≠ "java/lang/invoke/VarHandle") (hins : (Cond.instantiable C n).before args s = true) (hsup : (Cond.superclass C y.cls).before args s = true) (hpriv : (Cond.privateMethod y).before args s = true) (hinst : (Cond.instanceMethod y).before args s = true) : (Cond.selects C y y).before args s = true := by
  obtain ⟨c, k, hc, hk, -, hniab, -, -⟩ := Cond.instantiable_spec hins
  obtain ⟨cR, k', kR, hcR, hk', hkR, hsuper, hord, hordR, hni⟩ := Cond.superclass_spec hc hsup
  obtain ⟨mk, methM, hnamed, hmethM, -, -⟩ := Cond.instanceMethod_spec hinst
  have hfound : s.methodFound? y.cls y.name y.desc = some mk := State.methodFound?_of_named hnamed hy
  have hcls : mk.cls = cR := Option.some.inj ((findClass_of_methodNamed hnamed).symm.trans hcR)
  have hsel : selectMethod {} s.vm c mk = .method mk := selectMethod_private hmethM (Cond.privateMethod_at hpriv mk methM hnamed hmethM)
  simp only [Cond.before, Cond.holds, Cond.value, hc, hfound, hnamed, hsel, hcls, hkR]
  simp; exact hni
def sG : Cond := Jvm.Cond.and given_1 narrow_1
def kNo : List Nat := [92, 130, 132, 134, 138, 136, 57]
def kTm (i : Nat) : Term := .string "EverybodyHasTheBook$Reader" (kNo.getD i 0)
set_option maxHeartbeats 4000000 in
theorem sg_N : ∀ q ∈ xwN, Cond.not (.castable q.1 q.2) ∈ flatC sG := by decide +kernel
theorem sg_ex : ∀ i ∈ List.range 7, Cond.exactly (kTm i) "java/lang/String" ∈ flatC sG ∧ Cond.eq (.field (kTm i) "java/lang/String" "coder" "B") (.int 0) ∈ flatC sG ∧ Cond.arrayOf (.field (kTm i) "java/lang/String" "value" "[B") .byte ∈ flatC sG ∧ Cond.eq (.length (.field (kTm i) "java/lang/String" "value" "[B")) (.int (Int32.ofNat (kLen.getD i 0))) ∈ flatC sG ∧ Cond.eq (.field (kTm i) "java/lang/String" "hash" "I") (.int (kHash.getD i 0)) ∈ flatC sG ∧ Cond.eq (.field (kTm i) "java/lang/String" "hashIsZero" "Z") (.int 0) ∈ flatC sG := by decide +kernel
theorem sg_el : ∀ i ∈ List.range 7, ∀ j ∈ List.range (kLen.getD i 0), Cond.eq (.elem (.field (kTm i) "java/lang/String" "value" "[B") (.int (Int32.ofNat j))) (.int ((kByt.getD i []).getD j 0)) ∈ flatC sG := by decide +kernel
theorem sg_ne : ∀ i ∈ List.range 7, ∀ j ∈ List.range 7, i = j ∨ Cond.not (Cond.eq (kTm i) (kTm j)) ∈ flatC sG ∨ Cond.not (Cond.eq (kTm j) (kTm i)) ∈ flatC sG := by decide +kernel
def kMo : List (Nat × Nat) := [(202, 1), (196, 0), (206, 2), (210, 3), (215, 4), (220, 5)]
theorem sg_mo : ∀ q ∈ kMo, Cond.eq (kTm q.2) (.string "EverybodyHasTheBookModel" q.1) ∈ flatC sG := by decide +kernel
theorem sg_st : Cond.eq (.static "java/lang/String" "COMPACT_STRINGS" "Z") (.int 1) ∈ flatC sG ∧ Cond.isRef (.static Bundle.tN "UNASSIGNED_STACK" Bundle.steD) ∈ flatC sG ∧ Cond.isRef (.static Bundle.tN "SUPPRESSED_SENTINEL" Bundle.listD) ∈ flatC sG ∧ Cond.isRef (.static "jdk/internal/util/Preconditions" "SIOOBE_FORMATTER" "Ljava/util/function/BiFunction;") ∈ flatC sG := by decide +kernel
