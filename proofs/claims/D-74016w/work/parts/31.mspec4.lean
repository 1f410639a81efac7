/-! THE REFERENCE in plain Lean, 4: what stays so; the loops of answers -/
set_option maxRecDepth 100000
/-- while something is on, a presentation is left -/
def mLv (r : Int → Int) : Prop := r 1 ≠ -2 → r 6 ≤ 29
def mInv (i r : Int → Int) : Prop := mOk i r ∧ mCnt r ∧ mLv r
theorem mCnt.eq {r q : Int → Int} (h : mCnt r) (e : ∀ j, 12 ≤ j → j < 112 → q j = r j) : mCnt q := fun l l0 l1 => by rw [e _ (by omega) (by omega)]; exact h l l0 l1
theorem mSrchs_c {r : Int → Int} {level noise : Int} (h1 : 0 ≤ r 1) : mCnt (mSrchs r level noise) := fun l l0 l1 => by
  unfold mSrchs
  rw [iUp_n (by omega)]
  unfold mZero
  rw [if_pos (by omega)]
  omega
theorem mSrchs_6 {r : Int → Int} {level noise : Int} (h1 : 0 ≤ r 1) : mSrchs r level noise 6 = 0 := by
  unfold mSrchs
  rw [iUp_n (by omega), mZero_n (by omega), iUp_s]
theorem mSrchs_5 {r : Int → Int} {level noise : Int} (h1 : 0 ≤ r 1) : mSrchs r level noise 5 = noise := by
  unfold mSrchs
  rw [iUp_n (by omega), mZero_n (by omega), iUp_n (by omega), iUp_s]
theorem mSrchs_1 {r : Int → Int} {level noise : Int} (h1 : 0 ≤ r 1) : mSrchs r level noise 1 = r 1 := mSrchs_n (by omega) (by omega)
theorem mBegR_c {i r : Int → Int} {k : Int} (hk : 0 ≤ k) (h : mCnt r) : mCnt (mBegR i r k) := by
  have e1 := mBeg0_1 r k hk
  have h0 : mCnt (mBeg0 r k) := h.eq fun j a b => mBeg0_n (by omega) (by omega) (by omega) (by omega)
  unfold mBegR
  split
  · exact mSrchs_c (by omega)
  · split
    · exact mSrchs_c (by omega)
    · exact h0.eq fun j a b => by rw [iUp_n (by omega), iUp_n (by omega)]
theorem mBegR_l {i r : Int → Int} {k : Int} (hk : 0 ≤ k) : mLv (mBegR i r k) := fun h => by
  cases hb : mBegB i r k
  · exact absurd (mBegR_off hb) h
  · rw [(mBegR_on hk hb).2]; decide
/-- the words below the tasks are kept -/
def mLow (r q : Int → Int) : Prop := ∀ j, 1 ≤ j → j < 112 → j ≠ 2 → q j = r j
theorem mAM1_low {i r0 r : Int → Int} {route tone ear : Int} (h : mAMi i route tone ear r) (hl : mLow r0 r) : mLow r0 (mAM1 i route tone ear r) := fun j a b c => by
  have h0 := h.1.1.1
  have hn := h.1.2.2.1
  unfold mAM1
  split
  · rw [mAdd_n (by omega) (by omega) (by omega)]; exact hl j a b c
  · exact hl j a b c
theorem mAM2_low {i r0 r : Int → Int} {route tone : Int} (h : mAMi i route tone 0 r) (hr : 0 ≤ route ∧ route ≤ 1) (ht : 0 ≤ tone ∧ tone < i 0) (hl : mLow r0 r) : mLow r0 (mAM2 i route tone r) :=
  (mFor_inv (F := mAM1 i route tone) (fun k r => 0 ≤ k ∧ mAMi i route tone k r ∧ mLow r0 r) (b := 2) (fun k r hk h => ⟨by omega, mAM1_i h.2.1 hr (by omega) ht, mAM1_low h.2.1 h.2.2⟩) (2 - 0 : Int).toNat 0 r (by decide) ⟨by omega, h, hl⟩).2.2
theorem mAM3_low {i r0 r : Int → Int} {route : Int} (h : mAMi i route 0 0 r) (hr : 0 ≤ route ∧ route ≤ 1) (hl : mLow r0 r) : mLow r0 (mAM3 i route r) := by
  have h0 := h.1.1.1
  exact (mFor_inv (F := mAM2 i route) (fun k r => 0 ≤ k ∧ mAMi i route k 0 r ∧ mLow r0 r) (b := i 0) (fun k r hk h => ⟨by omega, mAM2_i h.2.1 hr (by omega), mAM2_low h.2.1 hr (by omega) h.2.2⟩) (i 0 - 0).toNat 0 r (by omega) ⟨by omega, h, hl⟩).2.2
theorem mAM_low {i r : Int → Int} (h : mOk i r) (h4 : r 0 = 4 * i 0) : mLow r (mAM i r) :=
  (mFor_inv (F := mAM3 i) (fun k q => 0 ≤ k ∧ mAMi i k 0 0 q ∧ mLow r q) (b := 2) (fun k r hk h => ⟨by omega, mAM3_i h.2.1 (by omega), mAM3_low h.2.1 (by omega) h.2.2⟩) (2 - 0 : Int).toNat 0 _ (by decide) ⟨by omega, mAM_i0 h h4, fun j a b c => iUp_n c⟩).2.2
theorem mN0_low {i r : Int → Int} (h : mOk i r) (k : Int) : mLow (iUp r 1 (-2)) (mN0 i r k) := by
  have h1 := h.h1 (v := -2) (Or.inl rfl)
  unfold mN0
  split
  · have := h.2.2.1.2 (by omega)
    exact mAM_low h1 (by rw [iUp_n (by omega)]; exact this)
  · exact fun j _ _ _ => rfl
theorem mNL_l {i : Int → Int} : ∀ (n : Nat) (r : Int → Int) (k : Int), 0 ≤ k → mCnt r → r 1 = -2 → mCnt (mNL i n r k).1 ∧ mLv (mNL i n r k).1 ∧ ((mNL i n r k).1 1 = -2 ∨ k ≤ (mNL i n r k).1 1) := by
  intro n
  induction n with
  | zero => intro r k k0 hc h1; exact ⟨hc, fun z => absurd h1 z, Or.inl h1⟩
  | succ n ih =>
    intro r k k0 hc h1
    unfold mNL
    split
    · split
      · exact ⟨mBegR_c k0 hc, mBegR_l k0, Or.inr (Int.le_of_eq (mBegR_on k0 (by assumption)).1.symm)⟩
      · rename_i hb
        have := ih (mBegR i r k) (k + 1) (by omega) (mBegR_c k0 hc) (mBegR_off (by simpa using hb))
        exact ⟨this.1, this.2.1, by omega⟩
    · have := ih r (k + 1) (by omega) hc h1
      exact ⟨this.1, this.2.1, by omega⟩
theorem mNx_l {i r : Int → Int} (h : mOk i r) {k : Int} (hk : 0 ≤ k) (hc : mCnt r) : mCnt (mNx i r k).1 ∧ mLv (mNx i r k).1 ∧ ((mNx i r k).1 1 = -2 ∨ k + 1 ≤ (mNx i r k).1 1) := by
  have hl := mN0_low h k
  exact mNL_l _ _ _ (by omega) (hc.eq fun j a b => by rw [hl j (by omega) b (by omega), iUp_n (by omega)]) (by rw [hl 1 (by omega) (by omega) (by omega), iUp_s])
theorem mEndR_l {i r : Int → Int} (h : mOk i r) (hon : r 1 ≠ -2) (hc : mCnt r) {s t : Int} (hs : 0 ≤ s ∧ s ≤ 4) (ht : -2 ≤ t ∧ t ≤ 25) (h2 : s = 2 → 0 ≤ t) : mCnt (mEndR i r s t) ∧ mLv (mEndR i r s t) ∧ (mEndR i r s t 1 = -2 ∨ r 1 + 1 ≤ mEndR i r s t 1) := by
  have h0 := mEnd0_ok h hon hs ht h2
  exact mNx_l h0.1 (by omega) (hc.eq fun j a b => by unfold mEnd0; rw [iUp_n (by omega), iUp_n (by omega)])
/-- what is left to do: nothing, or tasks, noise, presentations -/
def mMu (r : Int → Int) : Int := if r 1 = -2 then 0 else ((48 - r 1) * 26 + (24 - r 5)) * 31 + (30 - r 6)
theorem mMu_b {i r : Int → Int} (h : mOk i r) : 0 ≤ mMu r ∧ (r 1 ≠ -2 → (48 - r 1) * 806 ≤ mMu r ∧ mMu r ≤ (48 - r 1) * 806 + 805) := by
  have hn := h.2.2.1
  obtain ⟨a1, a3, a4, a5, a6, a7, a8, a11, a2⟩ := h.2.2.2.2
  unfold mMu
  refine ⟨by split <;> omega, fun z => by rw [if_neg z]; omega⟩
theorem mMu_end {i r q : Int → Int} (h : mOk i r) (hon : r 1 ≠ -2) (hl : r 6 ≤ 29) (hq : mOk i q) (h1 : q 1 = -2 ∨ r 1 + 1 ≤ q 1) : mMu q < mMu r := by
  have hn := h.2.2.1
  obtain ⟨a1, a3, a4, a5, a6, a7, a8, a11, a2⟩ := h.2.2.2.2
  have hnq := hq.2.2.1
  obtain ⟨b1, b3, b4, b5, b6, b7, b8, b11, b2⟩ := hq.2.2.2.2
  unfold mMu
  rw [if_neg hon]
  split <;> omega
theorem mCmR_l {i r : Int → Int} (h : mOk i r) (hon : r 1 ≠ -2) (hc : mCnt r) {thr : Int} (ht : 0 ≤ thr ∧ thr ≤ 25) : mCnt (mCmR i r thr) ∧ mLv (mCmR i r thr) ∧ (mCmR i r thr 1 = -2 ∨ r 1 + 1 ≤ mCmR i r thr 1 ∨ (mCmR i r thr 1 = r 1 ∧ r 5 < mCmR i r thr 5 ∧ mCmR i r thr 6 = 0)) := by
  have hn := h.2.2.1
  have ho := h.2.2.2.2.1
  have h3 := h.1.2.2.2.1
  have e0 := mC0_n h hon (thr := thr) (j := 1) (by omega) (by omega)
  have e1 := mC1_n h hon (thr := thr) (j := 1) (by omega) (by omega) (by omega)
  have e2 : mC2 r thr 1 = r 1 := by unfold mC2; rw [iUp_n (by omega), e1]
  have c0 : mCnt (mC0 r thr) := hc.eq fun j a b => mC0_n h hon (by omega) (by omega)
  have c1 : mCnt (mC1 r thr) := hc.eq fun j a b => mC1_n h hon (by omega) (by omega) (by omega)
  have c2 : mCnt (mC2 r thr) := c1.eq fun j a b => by unfold mC2; rw [iUp_n (by omega)]
  unfold mCmR
  split
  · have := mEndR_l (mC0_i h hon thr).1 (by omega) c0 (s := 2) (t := thr) (by omega) (by omega) (by omega)
    exact ⟨this.1, this.2.1, by omega⟩
  · split
    · have := mEndR_l (mC2_ok h hon ht) (by omega) c2 (s := 2) (t := thr) (by omega) (by omega) (by omega)
      exact ⟨this.1, this.2.1, by omega⟩
    · split
      · have := mEndR_l (mC1_ok h hon ht) (by omega) c1 (s := 3) (t := -2) (by omega) (by omega) (by omega)
        exact ⟨this.1, this.2.1, by omega⟩
      · refine ⟨mSrchs_c (by omega), fun _ => by rw [mSrchs_6 (by omega)]; decide, Or.inr (Or.inr ⟨by rw [mSrchs_1 (by omega)]; exact e1, by rw [mSrchs_5 (by omega)]; omega, mSrchs_6 (by omega)⟩)⟩
theorem mCmR_mu {i r : Int → Int} (h : mOk i r) (hon : r 1 ≠ -2) (hc : mCnt r) {thr : Int} (ht : 0 ≤ thr ∧ thr ≤ 25) (hl : r 6 ≤ 30) : mMu (mCmR i r thr) < mMu r + 1 := by
  have hq := mCmR_ok h hon ht
  have e := (mCmR_l h hon hc ht).2.2
  have hn := h.2.2.1
  obtain ⟨a1, a3, a4, a5, a6, a7, a8, a11, a2⟩ := h.2.2.2.2
  have hnq := hq.2.2.1
  obtain ⟨b1, b3, b4, b5, b6, b7, b8, b11, b2⟩ := hq.2.2.2.2
  generalize mCmR i r thr = q at *
  unfold mMu
  rw [if_neg hon]
  split <;> omega
theorem mA1_5 {i r : Int → Int} (h : mOk i r) (hon : r 1 ≠ -2) (heard logged : Bool) : mA1 r heard logged 5 = r 5 := by
  have ho := h.2.2.2.2.1
  have hl := h.2.2.2.2.2.1
  unfold mA1 mAe
  rw [iUp_n (by omega), iUp_n (by omega)]
  unfold mAd
  split
  · rw [iUp_n (by omega), iUp_n (by omega)]; unfold mAc; rw [iUp_n (by omega), iUp_n (by omega)]; exact mAb_n h hon (by omega) (by omega) (by omega) (by omega) (by omega)
  · unfold mAc; rw [iUp_n (by omega), iUp_n (by omega)]; exact mAb_n h hon (by omega) (by omega) (by omega) (by omega) (by omega)
theorem mAnsR_l {i r : Int → Int} (h : mOk i r) (hon : r 1 ≠ -2) (h6 : r 6 ≤ 29) (hc : mCnt r) (heard logged : Bool) : mInv i (mAnsR i r heard logged) ∧ mMu (mAnsR i r heard logged) < mMu r := by
  have hok := mAnsR_ok h hon h6 hc heard logged
  obtain ⟨ho, h1, h61, hc1⟩ := mA1_ok h hon h6 hc heard logged
  have h5 := mA1_5 h hon heard logged
  have hl := h.2.2.2.2.2.1
  have a6 := h.2.2.2.2.2.2.2.2.1
  have hmu : mMu (mA1 r heard logged) + 1 = mMu r := by
    unfold mMu
    rw [h1, h5, h61, if_neg hon, if_neg hon]; omega
  have hon1 : mA1 r heard logged 1 ≠ -2 := by omega
  refine ⟨⟨hok, ?_⟩, ?_⟩
  · unfold mAnsR mAR2
    split
    · have := mCmR_l ho hon1 hc1 (thr := r 3) (by omega)
      exact ⟨this.1, this.2.1⟩
    · split
      · have := mCmR_l ho hon1 hc1 (thr := 25) (by omega)
        exact ⟨this.1, this.2.1⟩
      · split
        · have := mEndR_l ho hon1 hc1 (s := 4) (t := -2) (by omega) (by omega) (by omega)
          exact ⟨this.1, this.2.1⟩
        · exact ⟨hc1, fun _ => by omega⟩
  · unfold mAnsR mAR2
    split
    · have := mCmR_mu ho hon1 hc1 (thr := r 3) (by omega) (by omega); omega
    · split
      · have := mCmR_mu ho hon1 hc1 (thr := 25) (by omega) (by omega); omega
      · split
        · have e := (mEndR_l ho hon1 hc1 (s := 4) (t := -2) (by omega) (by omega) (by omega)).2.2
          have ok := mEndR_ok ho hon1 (s := 4) (t := -2) (by omega) (by omega) (by omega)
          have := mMu_end h hon h6 ok (by omega)
          exact this
        · omega
/-- answers by the listener, n of them at most -/
def mRunR (i : Int → Int) (s l : Bool) : Nat → (Int → Int) → (Int → Int)
  | 0, r => r
  | n + 1, r => if r 1 = -2 then r else mRunR i s l n (mAnsR i r (mLis i r s) l)
def mRunV (i : Int → Int) (s l : Bool) : Nat → (Int → Int) → Int
  | 0, _ => 0
  | n + 1, r => if r 1 = -2 then 0 else 1 + mRunV i s l n (mAnsR i r (mLis i r s) l)
theorem mRun_end {i r : Int → Int} {s l : Bool} {b k : Int} (h : b ≤ k) : mRunR i s l (b - k).toNat r = r ∧ mRunV i s l (b - k).toNat r = 0 := by
  rw [show (b - k).toNat = 0 by omega]; exact ⟨rfl, rfl⟩
theorem mRun_off {i r : Int → Int} {s l : Bool} (n : Nat) (h : r 1 = -2) : mRunR i s l n r = r ∧ mRunV i s l n r = 0 := by
  cases n
  · exact ⟨rfl, rfl⟩
  · simp [mRunR, mRunV, h]
theorem mRun_step {i r : Int → Int} {s l : Bool} {b k : Int} (h : k < b) (hon : r 1 ≠ -2) : mRunR i s l (b - k).toNat r = mRunR i s l (b - (k + 1)).toNat (mAnsR i r (mLis i r s) l) ∧ mRunV i s l (b - k).toNat r = 1 + mRunV i s l (b - (k + 1)).toNat (mAnsR i r (mLis i r s) l) := by
  rw [show (b - k).toNat = (b - (k + 1)).toNat + 1 by omega]
  simp [mRunR, mRunV, hon]
theorem mRunR_inv {i : Int → Int} {s l : Bool} : ∀ (n : Nat) (r : Int → Int), mInv i r → mInv i (mRunR i s l n r) ∧ 0 ≤ mRunV i s l n r ∧ mRunV i s l n r ≤ n := by
  intro n
  induction n with
  | zero => intro r h; exact ⟨h, by simp [mRunV], by simp [mRunV]⟩
  | succ n ih =>
    intro r h
    unfold mRunR mRunV
    split
    · exact ⟨h, by omega, by omega⟩
    · rename_i c
      have := ih _ (mAnsR_l h.1 c (h.2.2 c) h.2.1 (mLis i r s) l).1
      exact ⟨this.1, by omega, by omega⟩
/-- how often it would go on -/
def mLeft (i r : Int → Int) : Int := mRunV i false false (mMu r - 0).toNat r
theorem mOnW_0 {t : Int} {r : Int → Int} (h : mOnW t r = 0) : t = 1 ∧ r 1 ≠ -2 := by
  unfold mOnW mOnB at h
  by_cases c : t = 1
  · rw [if_pos c] at h
    by_cases d : r 1 = -2
    · simp [c, d] at h
    · exact ⟨c, d⟩
  · rw [if_neg c] at h; cases h
def mRunW (t : Int) (r : Int → Int) (n : Int) : Int := if t = 1 then (if mIn n 1 9999 = true then (if r 1 = -2 then 5 else 0) else 2) else 1
def mAgW (t : Int) (r : Int → Int) (k : Int) : Int := if t = 1 ∧ mIn k 0 (r 0 - 1) = true then (if r 1 = -2 then 0 else 5) else 1
def mAgR (i r : Int → Int) (k : Int) : Int → Int := mBegR i (mForget r k) k
theorem mForget_c {r : Int → Int} {k : Int} (hk : 0 ≤ k) (h : mCnt r) : mCnt (mForget r k) := h.eq fun j a b => mForget_n (by omega)
theorem mAgR_inv {i r : Int → Int} (h : mOk i r) (hc : mCnt r) {k : Int} (h0 : 0 ≤ k) (h1 : k < r 0) : mInv i (mAgR i r k) := by
  have hn := h.2.2.1
  have e : mForget r k 0 = r 0 := mForget_n (by omega)
  exact ⟨mBegR_ok (mForget_tok h h0 (by omega)) h0 (by omega), mBegR_c h0 (mForget_c h0 hc), mBegR_l h0⟩
/-- what is told, marked -/
def mMarkE (i r e : Int → Int) : Int → Int := fun k => if 0 ≤ k ∧ k < 4 * i 0 then mTold i r (mT r k 0) (mT r k 1) (mT r k 2) else e k
def mMarkP (i r : Int → Int) : Int → Bool := fun k => decide (0 ≤ mTold i r (mT r k 0) (mT r k 1) (mT r k 2))
def mMarkV (i r : Int → Int) : Int := mCount (mMarkP i r) (4 * i 0 - 0).toNat 0
theorem mMark_step {i r e ρ : Int → Int} {k : Int} (hz : ∀ j, ρ j = if 0 ≤ j ∧ j < k then mTold i r (mT r j 0) (mT r j 1) (mT r j 2) else e j) (ha : 0 ≤ k) {v : Int} (hv : v = mTold i r (mT r k 0) (mT r k 1) (mT r k 2)) (j : Int) : iUp ρ k v j = if 0 ≤ j ∧ j < k + 1 then mTold i r (mT r j 0) (mT r j 1) (mT r j 2) else e j := by
  unfold iUp
  by_cases c : j = k
  · rw [if_pos c, if_pos (by omega), hv, c]
  · rw [if_neg c, hz j]
    by_cases c2 : 0 ≤ j ∧ j < k
    · rw [if_pos c2, if_pos (by omega)]
    · rw [if_neg c2, if_neg (by omega)]
theorem mMark_end {i r e ρ : Int → Int} {k : Int} (hz : ∀ j, ρ j = if 0 ≤ j ∧ j < k then mTold i r (mT r j 0) (mT r j 1) (mT r j 2) else e j) (hk : k = 4 * i 0) : ρ = mMarkE i r e := by
  subst hk
  exact funext fun j => (hz j).trans rfl
theorem mOnW_b (t : Int) (r : Int → Int) : 0 ≤ mOnW t r ∧ mOnW t r ≤ 5 := by unfold mOnW; (repeat' split) <;> omega
/-! the row anew -/
def mRow0 : Int → Int := fun _ => 0
theorem mRow0_R : mR0 mRow0 := fun j => ⟨show (-2147483648 : Int) ≤ 0 by decide, show (0 : Int) ≤ 2147483647 by decide⟩
def mBA1 (route tone : Int) (r : Int → Int) : Int → Int := mAdd (mAdd r route 0 tone 0) route 1 tone 0
def mBA2 (i : Int → Int) (route : Int) : (Int → Int) → (Int → Int) := mFor (mBA1 route) (i 0 - 0).toNat 0
def mBA (i : Int → Int) : Int → Int := mFor (mBA2 i) (2 - 0 : Int).toNat 0 mRow0
/-- the plain tasks, as far as they are -/
def mBAi (i : Int → Int) (n : Int) (r : Int → Int) : Prop := mR0 r ∧ r 0 = n ∧ (∀ k, 0 ≤ k → k < n → mTOk i r k ∧ mT r k 3 = 0 ∧ mT r k 4 = 0 ∧ k = mPlain i (mT r k 0) (mT r k 1) (mT r k 2)) ∧ ∀ j, 1 ≤ j → j < 112 → r j = 0
theorem mAdd_R {r : Int → Int} (h : mR0 r) {ro e t m : Int} (a1 : gR ro) (a2 : gR e) (a3 : gR t) (a4 : gR m) (h0 : gR (r 0 + 1)) : mR0 (mAdd r ro e t m) :=
  (mForget_R ((((h.up a1).up a2).up a3).up a4) _).up h0
theorem mAdd_BAi {i r : Int → Int} {n ro e t : Int} (h : mBAi i n r) (hn : 0 ≤ n ∧ n < 48) (a1 : 0 ≤ ro ∧ ro ≤ 1) (a2 : 0 ≤ e ∧ e ≤ 1) (a3 : 0 ≤ t ∧ t < i 0) (hi : i 0 ≤ 6) (hp : n = mPlain i ro e t) : mBAi i (n + 1) (mAdd r ro e t 0) := by
  obtain ⟨h1, h2, h3, h4⟩ := h
  refine ⟨mAdd_R h1 ⟨by omega, by omega⟩ ⟨by omega, by omega⟩ ⟨by omega, by omega⟩ ⟨by omega, by omega⟩ ⟨by omega, by omega⟩, by rw [mAdd_0, h2], fun k k0 k1 => ?_, fun j j1 j2 => by rw [mAdd_n (by omega) (by omega) (by omega)]; exact h4 j j1 j2⟩
  by_cases c : k < n
  · have := h3 k k0 c
    unfold mTOk mT at *
    rw [mAdd_n (by omega) (by omega) (by omega), mAdd_n (by omega) (by omega) (by omega), mAdd_n (by omega) (by omega) (by omega), mAdd_n (by omega) (by omega) (by omega), mAdd_n (by omega) (by omega) (by omega), mAdd_n (by omega) (by omega) (by omega)]
    exact this
  · have T := mAdd_t (r := r) (ro := ro) (e := e) (t := t) (m := 0) (by omega)
    rw [h2] at T
    obtain ⟨t0, t1, t2, t3, t4, t5⟩ := T
    have hk : k = n := by omega
    subst hk
    unfold mTOk
    rw [t0, t1, t2, t3, t4, t5]
    exact ⟨⟨a1, a2, a3, by omega, by omega, by omega, by omega⟩, rfl, rfl, hp⟩
theorem mBA1_i {i r : Int → Int} {route tone n : Int} (hI : mIOk i) (h : mBAi i n r) (hr : 0 ≤ route ∧ route ≤ 1) (ht : 0 ≤ tone ∧ tone < i 0) (hn : n = 2 * (i 0 * route) + 2 * tone) : mBAi i (n + 1 + 1) (mBA1 route tone r) := by
  have h0 := hI.1
  have hb : 0 ≤ i 0 * route ∧ i 0 * route ≤ 6 := by rcases (show route = 0 ∨ route = 1 by omega) with rfl | rfl <;> omega
  have hb2 : 2 * (i 0 * route) + 2 * tone < 24 := by rcases (show route = 0 ∨ route = 1 by omega) with rfl | rfl <;> omega
  have h1 := mAdd_BAi h (by omega) hr (show 0 ≤ (0 : Int) ∧ (0 : Int) ≤ 1 by omega) ht (by omega) (by unfold mPlain; omega)
  exact mAdd_BAi h1 (by omega) hr (show 0 ≤ (1 : Int) ∧ (1 : Int) ≤ 1 by omega) ht (by omega) (by unfold mPlain; omega)
theorem mBA2_i {i r : Int → Int} {route n : Int} (hI : mIOk i) (h : mBAi i n r) (hr : 0 ≤ route ∧ route ≤ 1) (hn : n = 2 * (i 0 * route)) : mBAi i (n + 2 * i 0) (mBA2 i route r) := by
  have h0 := hI.1
  have := mFor_inv (F := mBA1 route) (fun k r => 0 ≤ k ∧ mBAi i (n + 2 * k) r) (b := i 0) (fun k r hk h => ⟨by omega, by
    have := mBA1_i hI h.2 hr ⟨h.1, hk⟩ (by omega)
    rw [show n + 2 * (k + 1) = n + 2 * k + 1 + 1 by omega]; exact this⟩) (i 0 - 0).toNat 0 r (by omega) ⟨by omega, by rw [show n + 2 * 0 = n by omega]; exact h⟩
  rw [show 0 + ((i 0 - 0).toNat : Int) = i 0 by omega] at this
  exact this.2
theorem mBA_i {i : Int → Int} (hI : mIOk i) : mBAi i (4 * i 0) (mBA i) := by
  have h0 : mBAi i 0 mRow0 := ⟨mRow0_R, rfl, fun k k0 k1 => by omega, fun j _ _ => rfl⟩
  have h1 := mBA2_i (route := 0) hI h0 (by omega) (by omega)
  have h2 := mBA2_i (route := 1) hI h1 (by omega) (by omega)
  rw [show 0 + 2 * i 0 + 2 * i 0 = 4 * i 0 by omega] at h2
  exact h2
theorem mBA_ok {i : Int → Int} (hI : mIOk i) : mOk i (mBA i) := by
  obtain ⟨h1, h2, h3, h4⟩ := mBA_i hI
  have h0 := hI.1
  refine ⟨hI, h1, ⟨by omega, fun _ => h2⟩, fun k k0 k1 => (h3 k k0 (by omega)).1, ?_⟩
  unfold mSOk
  rw [h4 1 (by omega) (by omega), h4 2 (by omega) (by omega), h4 3 (by omega) (by omega), h4 4 (by omega) (by omega), h4 5 (by omega) (by omega), h4 6 (by omega) (by omega), h4 7 (by omega) (by omega), h4 8 (by omega) (by omega), h4 11 (by omega) (by omega)]
  omega
def mBAR (i : Int → Int) : Int → Int := mBegR i (mBA i) 0
theorem mBAR_inv {i : Int → Int} (hI : mIOk i) : mInv i (mBAR i) := by
  have h0 := hI.1
  have hb := mBA_i hI
  refine ⟨mBegR_ok (mBA_ok hI) (by omega) (by rw [hb.2.1]; omega), mBegR_c (by omega) fun l l0 l1 => by rw [hb.2.2.2 _ (by omega) (by omega)]; omega, mBegR_l (by omega)⟩
theorem mSt.bk {G : gG} {h0 h : gH} {m : Nat} {ad : Nat → Nat} {f : Nat → Int} {g : Nat → Int → Int} {k l : Nat} {a : Int → Int} (hkl : l ≠ k) (M : mSt G h0 h m ad f (va_up (va_up g k a) l (g l))) : mSt G h0 h m ad f (va_up g k a) := by
  rw [show va_up (va_up g k a) l (g l) = va_up g k a from funext fun j => by unfold va_up; split <;> simp [*]] at M
  exact M
theorem mCp_step {ρ b c : Int → Int} {k : Int} (hz : ∀ j, ρ j = if 0 ≤ j ∧ j < k then c j else b j) (ha : 0 ≤ k) (j : Int) : iUp ρ k (c k) j = if 0 ≤ j ∧ j < k + 1 then c j else b j := by
  unfold iUp
  by_cases e : j = k
  · rw [if_pos e, if_pos (by omega), e]
  · rw [if_neg e, hz j]
    by_cases c2 : 0 ≤ j ∧ j < k
    · rw [if_pos c2, if_pos (by omega)]
    · rw [if_neg c2, if_neg (by omega)]
/-! the tape -/
def mLay (t : Int → Int) (n v : Int) : Int → Int := iUp (iUp (iUp (iUp t (n + 0) (v / 16777216 % 256)) (n + 1) (v / 65536 % 256)) (n + 2) (v / 256 % 256)) (n + 3) (v / 1 % 256)
def mFeed (t : Int → Int) (n a b c d e : Int) : Int → Int := mLay (mLay (mLay (mLay (mLay t n a) (n + 4) b) (n + 4 + 4) c) (n + 4 + 4 + 4) d) (n + 4 + 4 + 4 + 4) e
def mF0 : Nat → Int := fun k => if k = 3 then -1 else 0
def mG0 : Nat → Int → Int := fun _ => mRow0
