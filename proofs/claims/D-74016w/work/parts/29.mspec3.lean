/-! THE REFERENCE in plain Lean, 3: answers -/
set_option maxRecDepth 100000
/-- an int's own value, after its wrap -/
def iW (z : Int) : Int := (iI z).toInt
theorem iI_W (z : Int) : iI (iW z) = iI z := (iI_of (iI z)).symm
theorem gR_W (z : Int) : gR (iW z) := gR_toInt (iI z)
theorem iW_id {z : Int} (h : gR z) : iW z = z := iI_toInt h
def mOdd (k thr level : Int) (r : Int → Int) : Int → Int :=
  iUp r (112 + 11 * k + 10) (iW (r (112 + 11 * k + 10) + if level < thr then r (12 + 4 * level + 3) else r (12 + 4 * level + 2) - r (12 + 4 * level + 3)))
def mC0a (r : Int → Int) : Int → Int := iUp r (112 + 11 * r 1 + 7) (iW (r (112 + 11 * r 1 + 7) + 1))
def mC0 (r : Int → Int) (thr : Int) : Int → Int := mFor (mOdd (r 1) thr) (25 - 0 : Int).toNat 0 (mC0a r)
theorem mC0_i {i r : Int → Int} (h : mOk i r) (hon : r 1 ≠ -2) (thr : Int) : mOk i (mC0 r thr) ∧ ∀ j, j ≠ 112 + 11 * r 1 + 7 → j ≠ 112 + 11 * r 1 + 10 → mC0 r thr j = r j := by
  have hn := h.2.2.1
  have ho := h.2.2.2.2.1
  have := mFor_inv (F := mOdd (r 1) thr) (fun k q => mOk i q ∧ ∀ j, j ≠ 112 + 11 * r 1 + 7 → j ≠ 112 + 11 * r 1 + 10 → q j = r j) (b := 25) (fun k q hk hq => ⟨hq.1.t6 (by omega) (by omega) (by omega) (gR_W _), fun j j1 j2 => by unfold mOdd; rw [iUp_n j2]; exact hq.2 j j1 j2⟩) (25 - 0 : Int).toNat 0 (mC0a r) (by decide) ⟨h.t6 (by omega) (by omega) (by omega) (gR_W _), fun j j1 _ => by unfold mC0a; rw [iUp_n j1]⟩
  exact this
theorem mC0_n {i r : Int → Int} (h : mOk i r) (hon : r 1 ≠ -2) {thr j : Int} (h7 : j ≠ 112 + 11 * r 1 + 7) (h10 : j ≠ 112 + 11 * r 1 + 10) : mC0 r thr j = r j := (mC0_i h hon thr).2 j h7 h10
/-- the run of like ones -/
def mLk (r : Int → Int) (thr : Int) : Int := if r 7 = 0 ∨ r 8 ≠ thr then 1 else iW (r 7 + 1)
def mLN (r : Int → Int) (thr : Int) : Int := if r 7 = 0 ∨ r 8 ≠ thr then r 5 else r 9
def mC1 (r : Int → Int) (thr : Int) : Int → Int :=
  if r 7 = 0 ∨ r 8 ≠ thr then iUp (iUp (iUp (iUp (mC0 r thr) 7 0) 9 (r 5)) 8 thr) 7 1 else iUp (iUp (mC0 r thr) 8 thr) 7 (iW (r 7 + 1))
theorem mC1_ok {i r : Int → Int} (h : mOk i r) (hon : r 1 ≠ -2) {thr : Int} (ht : 0 ≤ thr ∧ thr ≤ 25) : mOk i (mC1 r thr) := by
  have h0 := (mC0_i h hon thr).1
  unfold mC1
  split
  · exact (((h0.h7 ⟨by decide, by decide⟩).free (h.2.1 _) (Or.inl rfl)).h8 (by omega)).h7 ⟨by decide, by decide⟩
  · exact (h0.h8 (by omega)).h7 (gR_W _)
theorem mC1_n {i r : Int → Int} (h : mOk i r) (hon : r 1 ≠ -2) {thr j : Int} (h7 : j ≠ 112 + 11 * r 1 + 7) (h10 : j ≠ 112 + 11 * r 1 + 10) (hj : j ≠ 7 ∧ j ≠ 8 ∧ j ≠ 9) : mC1 r thr j = r j := by
  have := mC0_n h hon (thr := thr) h7 h10
  unfold mC1
  split
  · rw [iUp_n hj.1, iUp_n hj.2.1, iUp_n hj.2.2, iUp_n hj.1, this]
  · rw [iUp_n hj.1, iUp_n hj.2.1, this]
theorem mC1_7 (r : Int → Int) (thr : Int) : mC1 r thr 7 = mLk r thr := by
  unfold mC1 mLk
  split <;> exact iUp_s _ _ _
theorem mC1_9 {i r : Int → Int} (h : mOk i r) (hon : r 1 ≠ -2) (thr : Int) : mC1 r thr 9 = mLN r thr := by
  have ho := h.2.2.2.2.1
  unfold mC1 mLN
  split
  · rw [iUp_n (by decide), iUp_n (by decide), iUp_s]
  · rw [iUp_n (by decide), iUp_n (by decide), mC0_n h hon (by omega) (by omega)]
def mC2 (r : Int → Int) (thr : Int) : Int → Int := iUp (mC1 r thr) (112 + 11 * r 1 + 9) (mLN r thr)
def mCmR (i r : Int → Int) (thr : Int) : Int → Int :=
  if r (112 + 11 * r 1 + 3) = 0 then mEndR i (mC0 r thr) 2 thr
  else if mLk r thr = i 4 then mEndR i (mC2 r thr) 2 thr
  else if mBound i (mC1 r thr) (r (112 + 11 * r 1 + 1)) (r (112 + 11 * r 1 + 2)) < r 5 + i 3 then mEndR i (mC1 r thr) 3 (-2)
  else mSrchs (mC1 r thr) thr (r 5 + i 3)
def mCmV (i r : Int → Int) (thr : Int) : Int :=
  if r (112 + 11 * r 1 + 3) = 0 then mEndV i (mC0 r thr) 2 thr
  else if mLk r thr = i 4 then mEndV i (mC2 r thr) 2 thr
  else if mBound i (mC1 r thr) (r (112 + 11 * r 1 + 1)) (r (112 + 11 * r 1 + 2)) < r 5 + i 3 then mEndV i (mC1 r thr) 3 (-2)
  else 1
theorem mC2_ok {i r : Int → Int} (h : mOk i r) (hon : r 1 ≠ -2) {thr : Int} (ht : 0 ≤ thr ∧ thr ≤ 25) : mOk i (mC2 r thr) := by
  have hn := h.2.2.1
  have ho := h.2.2.2.2.1
  unfold mC2
  refine (mC1_ok h hon ht).t6 (by omega) (by omega) (by omega) ?_
  unfold mLN
  split <;> exact h.2.1 _
theorem mCmR_ok {i r : Int → Int} (h : mOk i r) (hon : r 1 ≠ -2) {thr : Int} (ht : 0 ≤ thr ∧ thr ≤ 25) : mOk i (mCmR i r thr) := by
  have hn := h.2.2.1
  have ho := h.2.2.2.2.1
  have h3 := h.1.2.2.2.1
  have h5 := h.2.2.2.2.2.2.2.1
  have e0 := mC0_n h hon (thr := thr) (j := 1) (by omega) (by omega)
  have e1 := mC1_n h hon (thr := thr) (j := 1) (by omega) (by omega) (by omega)
  have e10 := mC1_n h hon (thr := thr) (j := 0) (by omega) (by omega) (by omega)
  have e2 : mC2 r thr 1 = r 1 := by unfold mC2; rw [iUp_n (by omega), e1]
  obtain ⟨t0, t1, t2, -⟩ := mOk_t h (k := r 1) (by omega) (by omega)
  unfold mCmR
  split
  · exact mEndR_ok (mC0_i h hon thr).1 (by omega) (by omega) (by omega) (by omega)
  · split
    · exact mEndR_ok (mC2_ok h hon ht) (by omega) (by omega) (by omega) (by omega)
    · have hb := mBound_b (mC1_ok h hon ht) (ear := r (112 + 11 * r 1 + 1)) (tone := r (112 + 11 * r 1 + 2)) t1 t2
      split
      · exact mEndR_ok (mC1_ok h hon ht) (by omega) (by omega) (by omega) (by omega)
      · exact mSrchs_ok (mC1_ok h hon ht) (by omega) (by omega) (by omega)
/-! the log -/
def mShiftL (r : Int → Int) : Int → Int := fun j => if 646 ≤ j ∧ j ≤ 1839 then r (j - 6) else r j
def mLogR (r : Int → Int) (level : Int) (heard asc : Bool) : Int → Int :=
  iUp (iUp (iUp (iUp (iUp (iUp (iUp (mShiftL r) 11 (min 200 (r 11 + 1))) 640 (r 1)) 641 level) 642 (r 5)) 643 (gb heard)) 644 (r 10)) 645 (gb asc)
theorem mShiftL_n {r : Int → Int} {j : Int} (h : j < 646) : mShiftL r j = r j := if_neg (by omega)
theorem mLogR_n {r : Int → Int} {level j : Int} {heard asc : Bool} (h : j < 640) (h11 : j ≠ 11) : mLogR r level heard asc j = r j := by
  unfold mLogR
  rw [iUp_n (by omega), iUp_n (by omega), iUp_n (by omega), iUp_n (by omega), iUp_n (by omega), iUp_n (by omega), iUp_n h11, mShiftL_n (by omega)]
theorem mLogR_R {r : Int → Int} (h : mR0 r) {level : Int} (hl : gR level) (heard asc : Bool) : mR0 (mLogR r level heard asc) := by
  have h1 : mR0 (mShiftL r) := fun j => by unfold mShiftL; split <;> exact h _
  have h2 : gR (min 200 (r 11 + 1)) := by have := h 11; unfold gR at *; omega
  exact ((((((h1.up h2).up (h 1)).up hl).up (h 5)).up (gb_R _)).up (h 10)).up (gb_R _)
theorem mLogR_ok {i r : Int → Int} (h : mOk i r) {level : Int} (hl : gR level) (heard asc : Bool) : mOk i (mLogR r level heard asc) := by
  have hR := mLogR_R h.2.1 hl heard asc
  have e : ∀ j, j < 640 → j ≠ 11 → mLogR r level heard asc j = r j := fun j a b => mLogR_n a b
  have e11 : mLogR r level heard asc 11 = min 200 (r 11 + 1) := by unfold mLogR; (repeat (first | rw [iUp_s] | rw [iUp_n (by omega)]))
  obtain ⟨h1, h2, h3, h4, h5⟩ := h
  refine ⟨h1, hR, by rw [e 0 (by omega) (by omega), e 2 (by omega) (by omega)]; exact h3, fun k k0 k1 => ?_, ?_⟩
  · rw [e 0 (by omega) (by omega)] at k1
    have := h4 k k0 k1
    unfold mTOk mT at *
    rw [e _ (by omega) (by omega), e _ (by omega) (by omega), e _ (by omega) (by omega), e _ (by omega) (by omega), e _ (by omega) (by omega), e _ (by omega) (by omega)]
    exact this
  · obtain ⟨a1, a3, a4, a5, a6, a7, a8, a11, a2⟩ := h5
    unfold mSOk
    rw [e11, e 0 (by omega) (by omega), e 1 (by omega) (by omega), e 2 (by omega) (by omega), e 3 (by omega) (by omega), e 4 (by omega) (by omega), e 5 (by omega) (by omega), e 6 (by omega) (by omega), e 7 (by omega) (by omega), e 8 (by omega) (by omega)]
    exact ⟨a1, a3, a4, a5, a6, a7, a8, by omega, a2⟩
theorem mSh_step {ρ b : Int → Int} {k : Int} (hz : ∀ j, ρ j = if k < j ∧ j ≤ 1839 then b (j - 6) else b j) (hk : k ≤ 1839) (j : Int) : iUp ρ k (ρ (k - 6)) j = if k - 1 < j ∧ j ≤ 1839 then b (j - 6) else b j := by
  unfold iUp
  by_cases c : j = k
  · subst c
    rw [if_pos rfl, if_pos (by omega), hz, if_neg (by omega)]
  · rw [if_neg c, hz j]
    by_cases c2 : k < j ∧ j ≤ 1839
    · rw [if_pos c2, if_pos (by omega)]
    · rw [if_neg c2, if_neg (by omega)]
theorem mSh_end {ρ b : Int → Int} {k : Int} (hz : ∀ j, ρ j = if k < j ∧ j ≤ 1839 then b (j - 6) else b j) (hk : k = 645) : ρ = mShiftL b := by
  subst hk
  exact funext fun j => by rw [hz j]; unfold mShiftL; by_cases c : 646 ≤ j ∧ j ≤ 1839 <;> first | rw [if_pos c, if_pos (by omega)] | rw [if_neg c, if_neg (by omega)]
/-! an answer -/
def mAsc (r : Int → Int) : Bool := decide (0 < r 6) && decide (r 4 < r 3)
def mAa (r : Int → Int) : Int → Int := iUp (iUp (iUp r 10 (iW (r 10 + 1))) 6 (r 6 + 1)) (112 + 11 * r 1 + 6) (iW (r (112 + 11 * r 1 + 6) + 1))
def mAb (r : Int → Int) (heard logged asc : Bool) : Int → Int := if logged = true then mLogR (mAa r) (r 3) heard asc else mAa r
def mAc (b : Int → Int) (level : Int) (heard : Bool) : Int → Int := iUp (iUp b (12 + 4 * level + 2) (iW (b (12 + 4 * level + 2) + 1))) (12 + 4 * level + 3) (iW (b (12 + 4 * level + 3) + gb heard))
def mAd (c : Int → Int) (level : Int) (heard asc : Bool) : Int → Int := if asc = true then iUp (iUp c (12 + 4 * level + 0) (iW (c (12 + 4 * level + 0) + 1))) (12 + 4 * level + 1) ((2 * c (12 + 4 * level + 1) + gb heard) % 8) else c
def mNxL (level : Int) (heard : Bool) : Int := if heard = true then (if level < 2 then 0 else level - 2) else min 24 (level + 1)
def mAe (d : Int → Int) (level : Int) (heard : Bool) : Int → Int := iUp (iUp d 4 level) 3 (mNxL level heard)
def mA1 (r : Int → Int) (heard logged : Bool) : Int → Int := mAe (mAd (mAc (mAb r heard logged (mAsc r)) (r 3) heard) (r 3) heard (mAsc r)) (r 3) heard
/-- the counts' last answers are three bits -/
def mCnt (r : Int → Int) : Prop := ∀ l, 0 ≤ l → l ≤ 24 → 0 ≤ r (12 + 4 * l + 1) ∧ r (12 + 4 * l + 1) ≤ 7
theorem mAa_ok {i r : Int → Int} (h : mOk i r) (hon : r 1 ≠ -2) (h6 : r 6 ≤ 29) : mOk i (mAa r) := by
  have hn := h.2.2.1
  have ho := h.2.2.2.2.1
  have h0 := h.2.2.2.2.2.2.2.2.1
  unfold mAa
  exact ((h.free (gR_W _) (by omega)).h6 (by omega)).t6 (by omega) (by omega) (by omega) (gR_W _)
theorem mAa_n {i r : Int → Int} (h : mOk i r) (hon : r 1 ≠ -2) {j : Int} (h6 : j ≠ 6) (h10 : j ≠ 10) (hj : j ≠ 112 + 11 * r 1 + 6) : mAa r j = r j := by
  unfold mAa
  rw [iUp_n hj, iUp_n h6, iUp_n h10]
theorem mAb_ok {i r : Int → Int} (h : mOk i r) (hon : r 1 ≠ -2) (h6 : r 6 ≤ 29) (heard logged asc : Bool) : mOk i (mAb r heard logged asc) := by
  unfold mAb
  split
  · exact mLogR_ok (mAa_ok h hon h6) (h.2.1 _) heard asc
  · exact mAa_ok h hon h6
theorem mAb_n {i r : Int → Int} (h : mOk i r) (hon : r 1 ≠ -2) {heard logged asc : Bool} {j : Int} (h6 : j ≠ 6) (h10 : j ≠ 10) (h11 : j ≠ 11) (hj : j ≠ 112 + 11 * r 1 + 6) (h640 : j < 640) : mAb r heard logged asc j = r j := by
  unfold mAb
  split
  · rw [mLogR_n h640 h11, mAa_n h hon h6 h10 hj]
  · exact mAa_n h hon h6 h10 hj
theorem mAb_6 {i r : Int → Int} (h : mOk i r) (hon : r 1 ≠ -2) {heard logged asc : Bool} : mAb r heard logged asc 6 = r 6 + 1 := by
  have ho := h.2.2.2.2.1
  have e : mAa r 6 = r 6 + 1 := by unfold mAa; rw [iUp_n (by omega), iUp_s]
  unfold mAb
  split
  · rw [mLogR_n (by omega) (by omega), e]
  · exact e
theorem mAd_ok {i c : Int → Int} (h : mOk i c) {level : Int} (hl : 0 ≤ level ∧ level ≤ 24) (heard asc : Bool) : mOk i (mAd c level heard asc) := by
  have e : 0 ≤ (2 * c (12 + 4 * level + 1) + gb heard) % 8 ∧ (2 * c (12 + 4 * level + 1) + gb heard) % 8 < 8 := ⟨Int.emod_nonneg _ (by decide), Int.emod_lt_of_pos _ (by decide)⟩
  unfold mAd
  split
  · exact (h.free (gR_W _) (by omega)).free ⟨by omega, by omega⟩ (by omega)
  · exact h
theorem mNxL_b {level : Int} (hl : 0 ≤ level ∧ level ≤ 24) (heard : Bool) : 0 ≤ mNxL level heard ∧ mNxL level heard ≤ 24 := by
  unfold mNxL
  split
  · split <;> omega
  · omega
theorem mA1_ok {i r : Int → Int} (h : mOk i r) (hon : r 1 ≠ -2) (h6 : r 6 ≤ 29) (hC : mCnt r) (heard logged : Bool) : mOk i (mA1 r heard logged) ∧ mA1 r heard logged 1 = r 1 ∧ mA1 r heard logged 6 = r 6 + 1 ∧ mCnt (mA1 r heard logged) := by
  have hn := h.2.2.1
  have ho := h.2.2.2.2.1
  have hl := h.2.2.2.2.2.1
  have hb := mAb_ok h hon h6 heard logged (mAsc r)
  have hN := mNxL_b hl heard
  have hc : mOk i (mAc (mAb r heard logged (mAsc r)) (r 3) heard) := (hb.free (gR_W _) (by omega)).free (gR_W _) (by omega)
  have hd := mAd_ok hc hl heard (mAsc r)
  have g : ∀ j, 12 ≤ j ∧ j < 112 → mAb r heard logged (mAsc r) j = r j := fun j hj => mAb_n h hon (by omega) (by omega) (by omega) (by omega) (by omega)
  have lo : ∀ j, j ≠ 3 → j ≠ 4 → j < 12 → mA1 r heard logged j = mAb r heard logged (mAsc r) j := fun j a b c => by
    unfold mA1 mAe
    rw [iUp_n a, iUp_n b]
    unfold mAd
    split
    · rw [iUp_n (by omega), iUp_n (by omega)]; unfold mAc; rw [iUp_n (by omega), iUp_n (by omega)]
    · unfold mAc; rw [iUp_n (by omega), iUp_n (by omega)]
  refine ⟨(hd.h4 (by omega)).h3 hN, ?_, ?_, fun l l0 l1 => ?_⟩
  · rw [lo 1 (by omega) (by omega) (by omega)]; exact mAb_n h hon (by omega) (by omega) (by omega) (by omega) (by omega)
  · rw [lo 6 (by omega) (by omega) (by omega)]; exact mAb_6 h hon
  · have hc1 : ∀ j, 0 ≤ j → j ≤ 24 → mAc (mAb r heard logged (mAsc r)) (r 3) heard (12 + 4 * j + 1) = r (12 + 4 * j + 1) := fun j a b => by
      unfold mAc; rw [iUp_n (by omega), iUp_n (by omega), g _ (by omega)]
    have e : 0 ≤ (2 * mAc (mAb r heard logged (mAsc r)) (r 3) heard (12 + 4 * r 3 + 1) + gb heard) % 8 ∧ (2 * mAc (mAb r heard logged (mAsc r)) (r 3) heard (12 + 4 * r 3 + 1) + gb heard) % 8 < 8 := ⟨Int.emod_nonneg _ (by decide), Int.emod_lt_of_pos _ (by decide)⟩
    unfold mA1 mAe
    rw [iUp_n (by omega), iUp_n (by omega)]
    unfold mAd
    split
    · by_cases c : l = r 3
      · rw [c, iUp_s]; omega
      · rw [iUp_n (by omega), iUp_n (by omega), hc1 l l0 l1]; exact hC l l0 l1
    · rw [hc1 l l0 l1]; exact hC l l0 l1
def mAR2 (i a : Int → Int) (level : Int) : Int → Int :=
  if 2 ≤ mOnes (a (12 + 4 * level + 1)) ∨ (level = 0 ∧ a (12 + 4 * 0 + 3) = 2) then mCmR i a level
  else if level = 24 ∧ iW (a (12 + 4 * 24 + 2) - a (12 + 4 * 24 + 3)) = 2 then mCmR i a 25
  else if a 6 = 30 then mEndR i a 4 (-2) else a
def mAV2 (i a : Int → Int) (level : Int) : Int :=
  if 2 ≤ mOnes (a (12 + 4 * level + 1)) ∨ (level = 0 ∧ a (12 + 4 * 0 + 3) = 2) then mCmV i a level
  else if level = 24 ∧ iW (a (12 + 4 * 24 + 2) - a (12 + 4 * 24 + 3)) = 2 then mCmV i a 25
  else if a 6 = 30 then mEndV i a 4 (-2) else 0
def mAnsR (i r : Int → Int) (heard logged : Bool) : Int → Int := mAR2 i (mA1 r heard logged) (r 3)
def mAnsV (i r : Int → Int) (heard logged : Bool) : Int := mAV2 i (mA1 r heard logged) (r 3)
theorem mAR2_ok {i a : Int → Int} (h : mOk i a) (hon : a 1 ≠ -2) {level : Int} (hl : 0 ≤ level ∧ level ≤ 24) : mOk i (mAR2 i a level) := by
  unfold mAR2
  split
  · exact mCmR_ok h hon (by omega)
  · split
    · exact mCmR_ok h hon (by omega)
    · split
      · exact mEndR_ok h hon (by omega) (by omega) (by omega)
      · exact h
theorem mOnes_b (x : Int) : 0 ≤ mOnes x ∧ mOnes x ≤ 3 := by unfold mOnes; omega
theorem mAnsR_ok {i r : Int → Int} (h : mOk i r) (hon : r 1 ≠ -2) (h6 : r 6 ≤ 29) (hC : mCnt r) (heard logged : Bool) : mOk i (mAnsR i r heard logged) := by
  have a := mA1_ok h hon h6 hC heard logged
  exact mAR2_ok a.1 (by rw [a.2.1]; exact hon) h.2.2.2.2.2.1
/-! a slip; the listener's answer -/
def mSlip (i : Int → Int) (number : Int) : Bool := decide (mFind (fun k => decide (i (30 + k) = number)) (i 5 - 0).toNat 0 ≠ -2)
def mHd (i r : Int → Int) : Bool := decide (mHB i (r (112 + 11 * r 1 + 0)) (r (112 + 11 * r 1 + 1)) (r (112 + 11 * r 1 + 2)) (r 3) (r 5) ≠ 0)
def mLis (i r : Int → Int) (slips : Bool) : Bool := if (slips && mSlip i (iW (r 10 + 1))) = true then !mHd i r else mHd i r
