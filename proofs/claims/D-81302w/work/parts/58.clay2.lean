/-! CLAY2: the component's 'lay', to any depth -/
set_option maxRecDepth 100000
theorem k0_lay (l : Launch) (D : va_G) (dA : Nat → ClassId) (a : Nat → Nat) (hI : kInj a) (Ph : Heap → Prop) (hSt : kStb a Ph) (n : Nat) (net : Nat → Nat) (r : Nat) (hr4 : r < 4) (tn : Int32) : ∀ (d : Nat), d ≤ 15 → ∀ (σ : MS) (sx tt : Nat), KG σ n net → σ.1 9 = tn → TBc σ n net r tn → vld n sx → tt < 256 → mu sx ≤ d →
    KC l yX0_lay cX0_lay 14 (some .int) (3 + (d + 1)) (100 + 33 * (d + 1)) D dA a [.ref (a 0), .int (nI r), .int (nI sx), .int (nI tt)] σ Ph (fun v9 σ9 => v9 = some (.int (nI (sOf r sx tt))) ∧ FRc σ σ9 tn ∧ TBc σ9 n net r tn ∧ σ9.2.1 4 (sOf r sx tt) = tn)
  | 0, hd, σ, sx, tt, h1, h2, h3, h4, h5, h6 => k0_layS l D dA a hI σ Ph hSt n net r hr4 tn 0 hd (fun _ _ _ _ _ _ _ _ h => absurd h (by omega)) sx tt h1 h2 h3 h4 h5 h6
  | d + 1, hd, σ, sx, tt, h1, h2, h3, h4, h5, h6 => k0_layS l D dA a hI σ Ph hSt n net r hr4 tn (d + 1) hd (fun σ' sx' tt' g1 g2 g3 g4 g5 g6 => k0_lay l D dA a hI Ph hSt n net r hr4 tn d (by omega) σ' sx' tt' g1 g2 g3 g4 g5 (by omega)) sx tt h1 h2 h3 h4 h5 h6
theorem pn_AL : plainName "java/util/ArrayList" = true := by decide
theorem pn_OB : plainName "java/util/Objects" = true := by decide
theorem pn_PR : plainName "jdk/internal/util/Preconditions" = true := by decide
theorem pn_AS : plainName "jdk/internal/util/ArraysSupport" = true := by decide
theorem pn_AR : plainName "java/util/Arrays" = true := by decide
theorem pn_IN : plainName "java/lang/Integer" = true := by decide
