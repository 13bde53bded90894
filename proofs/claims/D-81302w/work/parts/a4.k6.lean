/-! K6: the tables with the statics of the arms -/
set_option maxRecDepth 100000
theorem W.adm {p : Program} {l : Launch} {e : Env} {R : Room} {s : State} {m : MethodId} {args : Array Value} {below : List Frame} {meth : Method} {c : Code} {H : Heap} {locs : List Loc} {cells slots : Nat} {Q : State → Prop} {g : JFrame} (h : l.admits e → W p l e R s m args below meth c H locs cells slots Q g) : W p l e R s m args below meth c H locs cells slots Q g := fun T hT X => h X.admits T hT X
/-- traces are off under every environment of the launch -/
def NoTr (l : Launch) : Prop := ∀ e : Env, l.admits e → e.platform.stackTraces = false
def K6 (D : va_G) (dA : Nat → ClassId) (cT : ClassId) (zs zu ze : Nat) (U : State) : Prop := K2 D dA U ∧ SV "java/lang/Throwable" "UNASSIGNED_STACK" "[Ljava/lang/StackTraceElement;" cT zs zu U ∧ SV "java/lang/Throwable" "SUPPRESSED_SENTINEL" "Ljava/util/List;" cT zs ze U
theorem Wm_K6 {D : va_G} {dA : Nat → ClassId} {cT : ClassId} {zs zu ze : Nat} : Wm (K6 D dA cT zs zu ze) := fun _ _ hW h => ⟨h.1.warm hW, h.2.1.warm hW, h.2.2.warm hW⟩
/-- the statics of the arms, in the heap -/
def TH (cT : ClassId) (zs zu ze : Nat) (H : Heap) : Prop := SH cT zs zu H ∧ SH cT zs ze H
theorem TH.fr {cT : ClassId} {zs zu ze : Nat} {A : Nat → Prop} {H H1 : Heap} (h : TH cT zs zu ze H) (o1 : ∀ q, q < H.size → ¬ A q → H1[q]? = H[q]?) (hA : ¬ A zs) : TH cT zs zu ze H1 := ⟨h.1.fr o1 hA, h.2.fr o1 hA⟩
