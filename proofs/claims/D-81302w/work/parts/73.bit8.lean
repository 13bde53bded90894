/-! BIT8: bits of the component's tokens -/
set_option maxRecDepth 100000
theorem bit8_2 : ∀ tt, tt < 256 → ∀ p, p < 4 → (tt >>> p &&& 1) = ((tt &&& 15) >>> p &&& 1) := by decide +kernel
theorem bit8_3 : ∀ tt, tt < 256 → ∀ p, p < 4 → (tt >>> (4 + p) &&& 1) = ((tt >>> 4) >>> p &&& 1) := by decide +kernel
theorem bit8_e2 {n tt t p : Nat} (ht : tt < 256) (hp : p < 4) (hpn : p < n) (h : tkE n (tof 2 tt) t) : (nI tt >>> (nI p &&& 31)) &&& 1 = nI (t >>> p &&& 1) := by
  rw [bit_eq (by omega) (by omega), bit8_2 tt ht p hp, bit_tb, bit_tb t p, ← h p hpn]; rfl
theorem bit8_e3 {n tt t p : Nat} (ht : tt < 256) (hp : p < 4) (hpn : p < n) (h : tkE n (tof 3 tt) t) : (nI tt >>> ((4 + nI p) &&& 31)) &&& 1 = nI (t >>> p &&& 1) := by
  rw [show (4 : Int32) + nI p = nI (4 + p) from nI_add 4 p, bit_eq (by omega) (by omega), bit8_3 tt ht p hp, bit_tb, bit_tb t p, ← h p hpn]; rfl
