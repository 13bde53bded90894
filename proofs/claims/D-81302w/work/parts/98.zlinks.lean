/-! LINKS of Arrays, ArraysSupport (by program: walk.links) -/
set_option maxRecDepth 100000
theorem wl_J17_300 : GoodIn lw_all (va_wsS RJ17 300 yJ17_copyOf_2 (ws_ yJ17_copyOf_2 cJ17_copyOf_2 4 (some (.array (Jvm.ClassFile.FieldType.object "java/lang/Object"))))) := lw_S q400 q401 q86 q402
theorem wd_J17_J17_copyOf_2 : yJ17_copyOf_2.cls ≠ "java/lang/invoke/MethodHandle" ∧ yJ17_copyOf_2.cls ≠ "java/lang/invoke/VarHandle" ∧ (parseMethodDescriptor yJ17_copyOf_2.desc).map (fun d => d.parameters.length) = some 3 := by decide +kernel
theorem wl_J17_304 : GoodIn lw_all (va_wsS RJ17 304 yJ13_min (ws_ yJ13_min cJ13_min 2 (some .int))) := lw_S q406 q407 q78 q408
theorem wd_J17_J13_min : yJ13_min.cls ≠ "java/lang/invoke/MethodHandle" ∧ yJ13_min.cls ≠ "java/lang/invoke/VarHandle" ∧ (parseMethodDescriptor yJ13_min.desc).map (fun d => d.parameters.length) = some 2 := by decide +kernel
theorem wl_J16_194 : GoodIn lw_all (va_wsS RJ16 194 yJ13_max (ws_ yJ13_max cJ13_max 2 (some .int))) := lw_S q367 q368 q78 q369
theorem wd_J16_J13_max : yJ13_max.cls ≠ "java/lang/invoke/MethodHandle" ∧ yJ13_max.cls ≠ "java/lang/invoke/VarHandle" ∧ (parseMethodDescriptor yJ13_max.desc).map (fun d => d.parameters.length) = some 2 := by decide +kernel
theorem wl_J16_201 : GoodIn lw_all (va_wsS RJ16 201 yJ16_hugeLength (ws_ yJ16_hugeLength cJ16_hugeLength 3 (some .int))) := lw_S q371 q372 q85 q373
theorem wd_J16_J16_hugeLength : yJ16_hugeLength.cls ≠ "java/lang/invoke/MethodHandle" ∧ yJ16_hugeLength.cls ≠ "java/lang/invoke/VarHandle" ∧ (parseMethodDescriptor yJ16_hugeLength.desc).map (fun d => d.parameters.length) = some 2 := by decide +kernel
theorem c10 : (10 : Int32).toNatClampNeg = 10 := by decide
theorem c0 : (0 : Int32).toNatClampNeg = 0 := by decide
theorem cp_el {D : va_G} {dA : Nat → ClassId} {s : State} {H0 H : Heap} {locs : List Loc} {ed sz : Nat} {f : Nat → Option Nat} (hR : ∀ i, i < 10 → ∀ y, f i = some y → anyR D y H0 ∧ y ≠ ed) (hRl : ∀ i, i < 10 → ∀ y, f i = some y → y < sz) (hS : va_S (fun q => q = ed ∨ sz ≤ q) H0 H locs) (hK : K2 D dA s) : ∀ i : Nat, i < (10 : Int32).toNatClampNeg → ∀ y : Nat, f ((0 : Int32).toNatClampNeg + i) = some y → va_Any "java/lang/Object" s H y := by
  intro i hi y hy
  rw [c10] at hi
  rw [c0, Nat.zero_add] at hy
  obtain ⟨h1, h2⟩ := hR i hi y hy
  have h3 := hRl i hi y hy
  exact (h1.keep hS (fun h9 => by
    rcases h9 with h9 | h9
    · exact h2 h9
    · omega)).any hK
