/-! bits of ints -/
set_option maxRecDepth 100000
theorem iI_tn (x : Int) : (iI x).toBitVec.toNat = (x % 4294967296).toNat := by
  show (BitVec.ofInt 32 x).toNat = _
  rw [BitVec.toNat_ofInt]
  rfl
theorem iI_and {x : Int} (k : Nat) (hk : k ≤ 31) {mm : Int} (hm : (iI mm).toBitVec.toNat = 2 ^ k - 1) : iI x &&& iI mm = iI (x % 2 ^ k) := by
  rw [pk_and _ k hm, iI_tn, ← iI_nat]
  congr 1
  rw [Int.natCast_emod, Int.toNat_of_nonneg (Int.emod_nonneg _ (by decide))]
  rw [show (((2 ^ k : Nat)) : Int) = 2 ^ k by simp]
  refine Int.emod_emod_of_dvd x ?_
  rw [show (4294967296 : Int) = 2 ^ 32 by decide]
  exact ⟨2 ^ (32 - k), by rw [← Int.pow_add, show k + (32 - k) = 32 by omega]⟩
theorem iI_sc : ∀ n, n < 32 → ((nI n &&& 31).toBitVec.smod 32).toNat = n := by decide
theorem gR_div {x : Int} (hx : gR x) (s : Nat) : gR (x / 2 ^ s) := by
  have h2 : (0 : Int) < 2 ^ s := Int.pow_pos (by decide)
  obtain ⟨h0, h1⟩ := hx
  constructor
  · rw [Int.le_ediv_iff_mul_le h2]
    generalize (2 : Int) ^ s = p at h2
    omega
  · rcases Int.lt_or_le x 0 with c | c
    · have := Int.ediv_neg_of_neg_of_pos c h2
      omega
    · have := Int.ediv_le_self (2 ^ s) c
      omega
theorem iI_shr {x : Int} (hx : gR x) (s : Nat) (hs : s < 32) : iI x >>> (iI (s : Int) &&& 31) = iI (x / 2 ^ s) := by
  have h1 := iI_sc s hs
  apply Int32.toInt_inj.mp
  rw [show iI (s : Int) = nI s from rfl, pk_shr _ _ s h1, iI_toInt hx, Int.shiftRight_eq_div_pow, iI_toInt]
  · simp
  · exact gR_div hx s
theorem iI_shlN {x : Nat} (s : Nat) (hs : s < 32) (h : x * 2 ^ s < 2 ^ 31) : iI (x : Int) <<< (iI (s : Int) &&& 31) = iI ((x * 2 ^ s : Nat) : Int) := by
  have h1 := iI_sc s hs
  exact pk_shlN (n := x) (nI s &&& 31) s h1 (by omega)
