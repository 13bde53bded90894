/-! SHEETW: sheets as plain things; the lanes' contracts as one -/
set_option maxRecDepth 100000
theorem TC.mono {l : Launch} {y : MethodName} {code : ByteArray} {n : Nat} {ret : Option FieldType} {fr lc mc ms : Nat} {Kp Kp' : State → Prop} {av : List Value} {Pre Pre' : Heap → Prop} {A A' : Nat → Prop} {C : String} (h : TC l y code n ret fr lc mc ms Kp av Pre A C) (hK : ∀ U, Kp' U → Kp U) (hP : ∀ H, Pre' H → Pre H) (hA : ∀ q, A q → A' q) : TC l y code n ret fr lc mc ms Kp' av Pre' A' C := by
  intro p e h1 h2 h3 s m args below h4 h5 h6 h7
  obtain ⟨k, o, a1, a2, a3, x, e9, q, w, L, s9, f⟩ := h p e h1 h2 h3 s m args below h4 h5 ⟨h6.1, hK _ h6.2.1, hP _ h6.2.2⟩ trivial
  exact ⟨k, o, a1, a2, a3, x, e9, ⟨q.1, q.2.mono hA⟩, w, L, s9, fun z hz => hA _ (f z hz)⟩
theorem GC.monoK {l : Launch} {y : MethodName} {code : ByteArray} {n : Nat} {ret : Option FieldType} {fr lc mc ms : Nat} {Kp Kp' : State → Prop} {av : List Value} {Pre : Heap → Prop} {A : Nat → Prop} {post : Option Value → Heap → Prop} (h : GC l y code n ret fr lc mc ms Kp av Pre A post) (hK : ∀ U, Kp' U → Kp U) : GC l y code n ret fr lc mc ms Kp' av Pre A post :=
  Met.mono h (fun _ _ x => ⟨x.1, hK _ x.2.1, x.2.2⟩) (fun _ _ _ _ _ q => q) (fun _ q => q)
/-- a lane's array class -/
def ldA : Nat → Nat
  | 0 => 2
  | 1 => 3
  | _ => 0
def ldT : Nat → FieldType
  | 0 => .byte
  | 1 => .short
  | _ => .int
theorem ld_at {dA : Nat → ClassId} : ∀ w, w < 3 → (tyL dA)[ldA w]? = some (dA (ldA w), ldT w)
  | 0, _ => rfl
  | 1, _ => rfl
  | 2, _ => rfl
  | w + 3, h => by omega
abbrev rowP (D : va_G) (dA : Nat → ClassId) (rk w L : Nat) (f : Nat → Int32) (H : Heap) : Prop := va_P D vwCl [(rk, .inl (dA (ldA w), L, .inl f))] H
theorem r0_cellOf (l : Launch) (D : va_G) (dA : Nat → ClassId) (w rk L i : Nat) (f : Nat → Int32) (hw : w < 3) (hi : i < L) (hL : L < 2 ^ 31) : RC l yX0_cellOf cX0_cellOf 3 (some .int) 0 0 D dA [.ref rk, .int (nI w), .int (nI i)] (rowP D dA rk w L f) (fun v9 => v9 = some (.int (f i))) := by
  match w, hw with
  | 0, _ => exact r0_cellOf0 l D dA rk L i f hi hL
  | 1, _ => exact r0_cellOf1 l D dA rk L i f hi hL
  | 2, _ => exact r0_cellOf2 l D dA rk L i f hi hL
theorem r0_sizeOf (l : Launch) (D : va_G) (dA : Nat → ClassId) (w rk L : Nat) (f : Nat → Int32) (hw : w < 3) : RC l yX0_sizeOf cX0_sizeOf 2 (some .int) 0 0 D dA [.ref rk, .int (nI w)] (rowP D dA rk w L f) (fun v9 => v9 = some (.int (nI L))) := by
  match w, hw with
  | 0, _ => exact r0_sizeOf0 l D dA rk L f
  | 1, _ => exact r0_sizeOf1 l D dA rk L f
  | 2, _ => exact r0_sizeOf2 l D dA rk L f
theorem t0_cellN (l : Launch) (hfl : NoTr l) (D : va_G) (dA : Nat → ClassId) (cT : ClassId) (zs zu ze : Nat) (w : Nat) (hw : w < 3) (iv : Int32) : TC l yX0_cellOf cX0_cellOf 3 (some .int) 8 10260 1 8 (K7 D dA cT zs zu ze) [.null, .int (nI w), .int iv] (TH cT zs zu ze) (fun _ => False) "java/lang/NullPointerException" := by
  match w, hw with
  | 0, _ => exact (t0_cellN0 l hfl D dA cT zs zu ze iv).mono (fun _ h => h.1) (fun _ h => h) (fun _ h => h)
  | 1, _ => exact (t0_cellN1 l hfl D dA cT zs zu ze iv).mono (fun _ h => h.1) (fun _ h => h) (fun _ h => h)
  | 2, _ => exact (t0_cellN2 l hfl D dA cT zs zu ze iv).mono (fun _ h => h.1) (fun _ h => h) (fun _ h => h)
theorem t0_sizeN (l : Launch) (hfl : NoTr l) (D : va_G) (dA : Nat → ClassId) (cT : ClassId) (zs zu ze : Nat) (w : Nat) (hw : w < 3) : TC l yX0_sizeOf cX0_sizeOf 2 (some .int) 8 10260 1 8 (K7 D dA cT zs zu ze) [.null, .int (nI w)] (TH cT zs zu ze) (fun _ => False) "java/lang/NullPointerException" := by
  match w, hw with
  | 0, _ => exact (t0_sizeN0 l hfl D dA cT zs zu ze).mono (fun _ h => h.1) (fun _ h => h) (fun _ h => h)
  | 1, _ => exact (t0_sizeN1 l hfl D dA cT zs zu ze).mono (fun _ h => h.1) (fun _ h => h) (fun _ h => h)
  | 2, _ => exact (t0_sizeN2 l hfl D dA cT zs zu ze).mono (fun _ h => h.1) (fun _ h => h) (fun _ h => h)
theorem t0_cellO (l : Launch) (hfl : NoTr l) (D : va_G) (dA : Nat → ClassId) (cT : ClassId) (zs zu ze : Nat) (w rk L : Nat) (hw : w < 3) (f : Nat → Int32) (hL : L < 2 ^ 31) (iv : Int32) (hout : iv < 0 ∨ L ≤ iv.toNatClampNeg) : TC l yX0_cellOf cX0_cellOf 3 (some .int) 8 10260 3 300 (K7 D dA cT zs zu ze) [.ref rk, .int (nI w), .int iv] (fun H => TH cT zs zu ze H ∧ rowP D dA rk w L f H) (fun _ => False) "java/lang/ArrayIndexOutOfBoundsException" := by
  match w, hw with
  | 0, _ => exact t0_cellO0 l hfl D dA cT zs zu ze rk L f hL iv hout
  | 1, _ => exact t0_cellO1 l hfl D dA cT zs zu ze rk L f hL iv hout
  | 2, _ => exact t0_cellO2 l hfl D dA cT zs zu ze rk L f hL iv hout
theorem t0_setO (l : Launch) (hfl : NoTr l) (D : va_G) (dA : Nat → ClassId) (cT : ClassId) (zs zu ze : Nat) (w rk L : Nat) (hw : w < 3) (f : Nat → Int32) (hL : L < 2 ^ 31) (iv v : Int32) (hout : iv < 0 ∨ L ≤ iv.toNatClampNeg) : TC l yX0_setIn cX0_setIn 3 none 8 10260 3 300 (K7 D dA cT zs zu ze) [.ref rk, .int iv, .int v] (fun H => TH cT zs zu ze H ∧ rowP D dA rk w L f H) (fun _ => False) "java/lang/ArrayIndexOutOfBoundsException" := by
  match w, hw with
  | 0, _ => exact t0_setO0 l hfl D dA cT zs zu ze rk L f hL iv v hout
  | 1, _ => exact t0_setO1 l hfl D dA cT zs zu ze rk L f hL iv v hout
  | 2, _ => exact t0_setO2 l hfl D dA cT zs zu ze rk L f hL iv v hout
theorem t0_rowN (l : Launch) (hfl : NoTr l) (D : va_G) (dA : Nat → ClassId) (cT : ClassId) (zs zu ze : Nat) (w : Nat) (hw : w < 3) (nv : Int32) (hn : nv < 0) : TC l yX0_rowOf cX0_rowOf 2 (some (.object "java/lang/Object")) 8 10260 3 300 (K7 D dA cT zs zu ze) [.int (nI w), .int nv] (TH cT zs zu ze) (fun _ => False) "java/lang/NegativeArraySizeException" := by
  match w, hw with
  | 0, _ => exact t0_rowN0 l hfl D dA cT zs zu ze nv hn
  | 1, _ => exact t0_rowN1 l hfl D dA cT zs zu ze nv hn
  | 2, _ => exact t0_rowN2 l hfl D dA cT zs zu ze nv hn
theorem t0_cellC (l : Launch) (hfl : NoTr l) (D : va_G) (dA : Nat → ClassId) (cT : ClassId) (zs zu ze : Nat) (w u rk L : Nat) (hw : w < 3) (hu : u < 3) (hwu : u ≠ w) (f : Nat → Int32) (iv : Int32) : TC l yX0_cellOf cX0_cellOf 3 (some .int) 8 10260 3 900 (K7 D dA cT zs zu ze) [.ref rk, .int (nI w), .int iv] (fun H => TH cT zs zu ze H ∧ rowP D dA rk u L f H) (fun _ => False) "java/lang/ClassCastException" := by
  match w, u, hw, hu with
  | 0, 0, _, _ => exact absurd rfl hwu
  | 0, 1, _, _ => exact t0_cellC01 l hfl D dA cT zs zu ze rk L f iv
  | 0, 2, _, _ => exact t0_cellC02 l hfl D dA cT zs zu ze rk L f iv
  | 1, 0, _, _ => exact t0_cellC10 l hfl D dA cT zs zu ze rk L f iv
  | 1, 1, _, _ => exact absurd rfl hwu
  | 1, 2, _, _ => exact t0_cellC12 l hfl D dA cT zs zu ze rk L f iv
  | 2, 0, _, _ => exact t0_cellC20 l hfl D dA cT zs zu ze rk L f iv
  | 2, 1, _, _ => exact t0_cellC21 l hfl D dA cT zs zu ze rk L f iv
  | 2, 2, _, _ => exact absurd rfl hwu
theorem t0_sizeC (l : Launch) (hfl : NoTr l) (D : va_G) (dA : Nat → ClassId) (cT : ClassId) (zs zu ze : Nat) (w u rk L : Nat) (hw : w < 3) (hu : u < 3) (hwu : u ≠ w) (f : Nat → Int32) : TC l yX0_sizeOf cX0_sizeOf 2 (some .int) 8 10260 3 900 (K7 D dA cT zs zu ze) [.ref rk, .int (nI w)] (fun H => TH cT zs zu ze H ∧ rowP D dA rk u L f H) (fun _ => False) "java/lang/ClassCastException" := by
  match w, u, hw, hu with
  | 0, 0, _, _ => exact absurd rfl hwu
  | 0, 1, _, _ => exact t0_sizeC01 l hfl D dA cT zs zu ze rk L f
  | 0, 2, _, _ => exact t0_sizeC02 l hfl D dA cT zs zu ze rk L f
  | 1, 0, _, _ => exact t0_sizeC10 l hfl D dA cT zs zu ze rk L f
  | 1, 1, _, _ => exact absurd rfl hwu
  | 1, 2, _, _ => exact t0_sizeC12 l hfl D dA cT zs zu ze rk L f
  | 2, 0, _, _ => exact t0_sizeC20 l hfl D dA cT zs zu ze rk L f
  | 2, 1, _, _ => exact t0_sizeC21 l hfl D dA cT zs zu ze rk L f
  | 2, 2, _, _ => exact absurd rfl hwu
/-- sheets: lane, length, cells -/
abbrev Shs : Type := Nat → Option (Nat × Nat × (Nat → Int32))
def shR (sh : Shs) (so : Nat → Nat) : Nat → Option Nat := fun k => (sh k).map (fun _ => so k)
def shV (sh : Shs) (ro : Nat → Nat) (k : Nat) : Value := va_rf ((sh k).map (fun _ => ro k))
/-- the sheets' array, the sheets, their rows -/
def SHT (D : va_G) (dA : Nat → ClassId) (b : Nat) (sh : Shs) (so ro : Nat → Nat) (H : Heap) : Prop :=
  va_P D vwCl [(b, .inl (dA 4, 4, .inr (.inr (.inr (.inr (shR sh so))))))] H ∧ ∀ k, k < 4 → ∀ (w L : Nat) (f : Nat → Int32), sh k = some (w, L, f) → w < 3 ∧ L ≤ 60 ∧ va_P D vwCl [(so k, .inr (6, [.ref (ro k)]))] H ∧ rowP D dA (ro k) w L f H
theorem SHT.fr {D : va_G} {dA : Nat → ClassId} {b : Nat} {sh : Shs} {so ro : Nat → Nat} {A : Nat → Prop} {H H1 : Heap} (h : SHT D dA b sh so ro H) (o1 : ∀ q, q < H.size → ¬ A q → H1[q]? = H[q]?) (h1 : ¬ A b) (h2 : ∀ k, k < 4 → sh k ≠ none → ¬ A (so k) ∧ ¬ A (ro k)) : SHT D dA b sh so ro H1 := by
  refine ⟨h.1.fr o1 (fun k q hq => ?_), fun k hk w L f e => ?_⟩
  · match k, hq with
    | 0, hq => cases hq; exact h1
    | k + 1, hq => simp at hq
  · obtain ⟨a1, a2, a3, a4⟩ := h.2 k hk w L f e
    have h3 := h2 k hk (by rw [e]; exact fun z => by cases z)
    refine ⟨a1, a2, a3.fr o1 (fun i q hq => ?_), a4.fr o1 (fun i q hq => ?_)⟩
    · match i, hq with
      | 0, hq => cases hq; exact h3.1
      | i + 1, hq => simp at hq
    · match i, hq with
      | 0, hq => cases hq; exact h3.2
      | i + 1, hq => simp at hq
