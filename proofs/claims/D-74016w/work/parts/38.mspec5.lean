/-! THE REFERENCE in plain Lean, 5: tasks keep their route, ear, tone; new ones are masked -/
set_option maxRecDepth 100000
def mExt (r q : Int → Int) : Prop := r 0 ≤ q 0 ∧ (∀ k j, 0 ≤ k → k < r 0 → 0 ≤ j → j ≤ 3 → mT q k j = mT r k j) ∧ ∀ k, r 0 ≤ k → k < q 0 → mT q k 3 = 1
theorem mExt.rf {r : Int → Int} : mExt r r := ⟨Int.le_refl _, fun _ _ _ _ _ _ => rfl, fun k a b => by omega⟩
theorem mExt.tr {r q s : Int → Int} (a : mExt r q) (b : mExt q s) (h0 : 0 ≤ r 0) : mExt r s := by
  refine ⟨by have := a.1; have := b.1; omega, fun k j k0 k1 j0 j1 => ?_, fun k k0 k1 => ?_⟩
  · rw [b.2.1 k j k0 (by have := a.1; omega) j0 j1, a.2.1 k j k0 k1 j0 j1]
  · by_cases c : k < q 0
    · rw [b.2.1 k 3 (by omega) c (by decide) (by decide)]; exact a.2.2 k k0 c
    · exact b.2.2 k (by omega) k1
theorem mExt.eq {r q : Int → Int} (e0 : q 0 = r 0) (e : ∀ k j, 0 ≤ k → 0 ≤ j → j ≤ 3 → q (112 + 11 * k + j) = r (112 + 11 * k + j)) : mExt r q :=
  ⟨by omega, fun k j k0 _ j0 j1 => e k j k0 j0 j1, fun k a b => by omega⟩
theorem mForget_x {r : Int → Int} {k : Int} (hk : 0 ≤ k) : mExt r (mForget r k) := mExt.eq (mForget_n (by omega)) fun q j q0 j0 j1 => by
  unfold mForget
  rw [iUp_n (by omega), iUp_n (by omega), iUp_n (by omega), iUp_n (by omega), iUp_n (by omega), iUp_n (by omega), iUp_n (by omega)]
theorem mBegR_x {i r : Int → Int} {k : Int} (hk : 0 ≤ k) : mExt r (mBegR i r k) := mExt.eq (mBegR_n hk (by omega) (by omega) (by omega)) fun q j q0 j0 j1 => mBegR_n hk (by omega) (by omega) (by omega)
theorem mAdd_x {r : Int → Int} {ro e t : Int} (h0 : 0 ≤ r 0) : mExt r (mAdd r ro e t 1) := by
  refine ⟨by rw [mAdd_0]; omega, fun k j k0 k1 j0 j1 => mAdd_n h0 (by omega) (by omega), fun k k0 k1 => ?_⟩
  rw [mAdd_0] at k1
  rw [show k = r 0 by omega]
  exact (mAdd_t h0).2.2.2.1
theorem mAM1_x {i r : Int → Int} {route tone ear : Int} (h0 : 0 ≤ r 0) : mExt r (mAM1 i route tone ear r) := by
  unfold mAM1
  split
  · exact mAdd_x h0
  · exact mExt.rf
theorem mFor_x {F : Int → (Int → Int) → (Int → Int)} (hF : ∀ k r, 0 ≤ r 0 → mExt r (F k r)) : ∀ (n : Nat) (k : Int) (r : Int → Int), 0 ≤ r 0 → mExt r (mFor F n k r) := by
  intro n
  induction n with
  | zero => intro k r _; exact mExt.rf
  | succ n ih =>
    intro k r h0
    have h1 := hF k r h0
    exact h1.tr (ih (k + 1) (F k r) (by have := h1.1; omega)) h0
theorem mAM_x {i r : Int → Int} (h0 : 0 ≤ r 0) : mExt r (mAM i r) := by
  have h1 : mExt r (iUp r 2 1) := mExt.eq (iUp_n (by omega)) fun k j _ _ _ => iUp_n (by omega)
  refine h1.tr (mFor_x (fun k r h => ?_) _ _ _ (by rw [iUp_n (by omega)]; exact h0)) h0
  exact mFor_x (fun k r h => mFor_x (fun k r h => mAM1_x h) _ _ _ h) _ _ _ h
theorem mN0_x {i r : Int → Int} (h0 : 0 ≤ r 0) (k : Int) : mExt r (mN0 i r k) := by
  have h1 : mExt r (iUp r 1 (-2)) := mExt.eq (iUp_n (by omega)) fun k j _ _ _ => iUp_n (by omega)
  unfold mN0
  split
  · exact h1.tr (mAM_x (by rw [iUp_n (by omega)]; exact h0)) h0
  · exact h1
theorem mNL_x {i : Int → Int} : ∀ (n : Nat) (r : Int → Int) (k : Int), 0 ≤ r 0 → 0 ≤ k → mExt r (mNL i n r k).1 := by
  intro n
  induction n with
  | zero => intro r k _ _; exact mExt.rf
  | succ n ih =>
    intro r k h0 k0
    have h1 := mBegR_x (i := i) (r := r) k0
    unfold mNL
    split
    · split
      · exact h1
      · exact h1.tr (ih _ _ (by have := h1.1; omega) (by omega)) h0
    · exact ih _ _ h0 (by omega)
theorem mNx_x {i r : Int → Int} (h0 : 0 ≤ r 0) {k : Int} (hk : 0 ≤ k) : mExt r (mNx i r k).1 := by
  have h1 := mN0_x (i := i) h0 k
  exact h1.tr (mNL_x _ _ _ (by have := h1.1; omega) (by omega)) h0
theorem mEndR_x {i r : Int → Int} {s t : Int} (h0 : 0 ≤ r 0) (h1 : 0 ≤ r 1) : mExt r (mEndR i r s t) := by
  have h2 : mExt r (mEnd0 r s t) := mExt.eq (by unfold mEnd0; rw [iUp_n (by omega), iUp_n (by omega)]) fun k j _ _ _ => by unfold mEnd0; rw [iUp_n (by omega), iUp_n (by omega)]
  exact h2.tr (mNx_x (by have := h2.1; omega) h1) h0
theorem mSrchs_x {r : Int → Int} {level noise : Int} (h1 : 0 ≤ r 1) : mExt r (mSrchs r level noise) := mExt.eq (mSrchs_n (by omega) (by omega)) fun k j _ _ _ => mSrchs_n (by omega) (by omega)
theorem mCmR_x {i r : Int → Int} (h : mOk i r) (hon : r 1 ≠ -2) {thr : Int} : mExt r (mCmR i r thr) := by
  have hn := h.2.2.1
  have hi := h.1.1
  have ho := h.2.2.2.2.1
  have x0 : mExt r (mC0 r thr) := mExt.eq (mC0_n h hon (by omega) (by omega)) fun k j _ _ _ => mC0_n h hon (by omega) (by omega)
  have x1 : mExt r (mC1 r thr) := mExt.eq (mC1_n h hon (by omega) (by omega) (by omega)) fun k j _ _ _ => mC1_n h hon (by omega) (by omega) (by omega)
  have x2 : mExt r (mC2 r thr) := x1.tr (mExt.eq (by unfold mC2; rw [iUp_n (by omega)]) fun k j _ _ _ => by unfold mC2; rw [iUp_n (by omega)]) (by omega)
  have e0 := mC0_n h hon (thr := thr) (j := 1) (by omega) (by omega)
  have e1 := mC1_n h hon (thr := thr) (j := 1) (by omega) (by omega) (by omega)
  have e2 : mC2 r thr 1 = r 1 := by unfold mC2; rw [iUp_n (by omega), e1]
  unfold mCmR
  split
  · exact x0.tr (mEndR_x (by have := x0.1; omega) (by omega)) (by omega)
  · split
    · exact x2.tr (mEndR_x (by have := x2.1; omega) (by omega)) (by omega)
    · split
      · exact x1.tr (mEndR_x (by have := x1.1; omega) (by omega)) (by omega)
      · exact x1.tr (mSrchs_x (by omega)) (by omega)
theorem mA1_x {i r : Int → Int} (h : mOk i r) (hon : r 1 ≠ -2) (heard logged : Bool) : mExt r (mA1 r heard logged) := by
  have ho := h.2.2.2.2.1
  have hl := h.2.2.2.2.2.1
  have hn := h.2.2.1
  have e : ∀ j, (j = 0 ∨ (112 ≤ j ∧ j < 640)) → j ≠ 112 + 11 * r 1 + 6 → mA1 r heard logged j = r j := fun j a b => by
    unfold mA1 mAe
    rw [iUp_n (by omega), iUp_n (by omega)]
    unfold mAd
    split
    · rw [iUp_n (by omega), iUp_n (by omega)]; unfold mAc; rw [iUp_n (by omega), iUp_n (by omega)]; exact mAb_n h hon (by omega) (by omega) (by omega) b (by omega)
    · unfold mAc; rw [iUp_n (by omega), iUp_n (by omega)]; exact mAb_n h hon (by omega) (by omega) (by omega) b (by omega)
  refine ⟨by rw [e 0 (by omega) (by omega)]; exact Int.le_refl _, fun k j k0 k1 j0 j1 => e _ (by omega) (by omega), fun k a b => by rw [e 0 (by omega) (by omega)] at b; omega⟩
theorem mAnsR_x {i r : Int → Int} (h : mOk i r) (hon : r 1 ≠ -2) (h6 : r 6 ≤ 29) (hc : mCnt r) (heard logged : Bool) : mExt r (mAnsR i r heard logged) := by
  obtain ⟨ho, h1, h61, hc1⟩ := mA1_ok h hon h6 hc heard logged
  have hn := h.2.2.1
  have hi := h.1.1
  have x := mA1_x h hon heard logged
  have hon1 : mA1 r heard logged 1 ≠ -2 := by omega
  have o1 := ho.2.2.2.2.1
  refine x.tr ?_ (by omega)
  unfold mAnsR mAR2
  split
  · exact mCmR_x ho hon1
  · split
    · exact mCmR_x ho hon1
    · split
      · exact mEndR_x (by have := x.1; omega) (by omega)
      · exact mExt.rf
theorem mRunR_x {i : Int → Int} {s l : Bool} : ∀ (n : Nat) (r : Int → Int), mInv i r → mExt r (mRunR i s l n r) := by
  intro n
  induction n with
  | zero => intro r _; exact mExt.rf
  | succ n ih =>
    intro r h
    have hn := h.1.2.2.1
    have hi := h.1.1.1
    unfold mRunR
    split
    · exact mExt.rf
    · rename_i c
      exact (mAnsR_x h.1 c (h.2.2 c) h.2.1 (mLis i r s) l).tr (ih _ (mAnsR_l h.1 c (h.2.2 c) h.2.1 (mLis i r s) l).1) (by omega)
/-- the plain tasks are the first, in order; behind them masked ones -/
def mPln (i r : Int → Int) : Prop := (∀ k, 0 ≤ k → k < 4 * i 0 → mT r k 3 = 0 ∧ k = mPlain i (mT r k 0) (mT r k 1) (mT r k 2)) ∧ ∀ k, 4 * i 0 ≤ k → k < r 0 → mT r k 3 = 1
theorem mPln.ext {i r q : Int → Int} (h : mPln i r) (x : mExt r q) (hi : 0 ≤ i 0) (h0 : 4 * i 0 ≤ r 0) : mPln i q := by
  refine ⟨fun k k0 k1 => ?_, fun k k0 k1 => ?_⟩
  · rw [x.2.1 k 3 k0 (by omega) (by decide) (by decide), x.2.1 k 0 k0 (by omega) (by decide) (by decide), x.2.1 k 1 k0 (by omega) (by decide) (by decide), x.2.1 k 2 k0 (by omega) (by decide) (by decide)]
    exact h.1 k k0 k1
  · by_cases c : k < r 0
    · rw [x.2.1 k 3 (by omega) c (by decide) (by decide)]; exact h.2 k k0 c
    · exact x.2.2 k (by omega) k1
theorem mBAR_pl {i : Int → Int} (hI : mIOk i) : mPln i (mBAR i) := by
  have h0 := hI.1
  have hb := mBA_i hI
  have h1 : mPln i (mBA i) := ⟨fun k k0 k1 => ⟨(hb.2.2.1 k k0 k1).2.1, (hb.2.2.1 k k0 k1).2.2.2⟩, fun k k0 k1 => by have := hb.2.1; omega⟩
  exact h1.ext (mBegR_x (by omega)) (by omega) (by have := hb.2.1; omega)
theorem mPlain_inj {i : Int → Int} (hI : mIOk i) {ro e t ro2 e2 t2 : Int} (a1 : 0 ≤ ro ∧ ro ≤ 1) (a2 : 0 ≤ e ∧ e ≤ 1) (a3 : 0 ≤ t ∧ t < i 0) (b1 : 0 ≤ ro2 ∧ ro2 ≤ 1) (b2 : 0 ≤ e2 ∧ e2 ≤ 1) (b3 : 0 ≤ t2 ∧ t2 < i 0) (h : mPlain i ro e t = mPlain i ro2 e2 t2) : ro = ro2 ∧ e = e2 ∧ t = t2 := by
  unfold mPlain at h
  rcases (show ro = 0 ∨ ro = 1 by omega) with rfl | rfl <;> rcases (show ro2 = 0 ∨ ro2 = 1 by omega) with rfl | rfl <;> omega
/-- the plain task of a place -/
theorem mPln.at {i r : Int → Int} (h : mPln i r) (hO : mOk i r) {ro e t : Int} (a1 : 0 ≤ ro ∧ ro ≤ 1) (a2 : 0 ≤ e ∧ e ≤ 1) (a3 : 0 ≤ t ∧ t < i 0) : mT r (mPlain i ro e t) 0 = ro ∧ mT r (mPlain i ro e t) 1 = e ∧ mT r (mPlain i ro e t) 2 = t := by
  have hp := mPlain_b hO.1 a1 a2 a3
  have hn := hO.2.2.1
  have h1 := (h.1 _ hp.1 hp.2).2
  obtain ⟨t0, t1, t2, -⟩ := hO.2.2.2.1 _ hp.1 (by omega)
  have := mPlain_inj hO.1 a1 a2 a3 t0 t1 t2 h1
  exact ⟨this.1.symm, this.2.1.symm, this.2.2.symm⟩
/-! redo -/
def mRedoW (t : Int) (i r : Int → Int) : Int := if t = 1 then (if r 1 ≠ -2 ∨ mDbMany i r = 0 then 5 else 0) else 1
/-- from task k - 1 down: the row, how many, the first -/
def mRd (p : Int → Bool) : Nat → (Int → Int) → Int → Int → (Int → Int) × Int × Int
  | 0, r, a, b => (r, a, b)
  | n + 1, r, a, b => if p (mT r n 2) = true then mRd p n (mForget r n) (a + 1) n else mRd p n r a b
def mRdA (i r : Int → Int) : (Int → Int) × Int × Int := mRd (mDbt i r) (r 0).toNat r 0 (-1)
def mRedoR (i r : Int → Int) : Int → Int := mBegR i (mRdA i r).1 (mRdA i r).2.2
def mRedoV (i r : Int → Int) : Int := (mRdA i r).2.1
theorem mRd_step {p : Int → Bool} {r : Int → Int} {k a b : Int} (h : 0 ≤ k) : mRd p (k + 1).toNat r a b = if p (mT r k 2) = true then mRd p k.toNat (mForget r k) (a + 1) k else mRd p k.toNat r a b := by
  obtain ⟨n, rfl⟩ := Int.eq_ofNat_of_zero_le h
  rw [show ((n : Int) + 1).toNat = n + 1 by omega, show (n : Int).toNat = n by omega]
  rfl
/-- what the way down keeps -/
theorem mRd_i {i r0 : Int → Int} {p : Int → Bool} : ∀ (n : Nat) (r : Int → Int) (a b : Int), mOk i r → mCnt r → mExt r0 r → r 0 = r0 0 → (n : Int) ≤ r 0 → r 1 = -2 → (b = -1 ∨ (0 ≤ b ∧ b < r 0)) → 0 ≤ a → a + n ≤ 48 → mOk i (mRd p n r a b).1 ∧ mCnt (mRd p n r a b).1 ∧ mExt r0 (mRd p n r a b).1 ∧ (mRd p n r a b).1 0 = r0 0 ∧ (mRd p n r a b).1 1 = -2 ∧ ((mRd p n r a b).2.2 = -1 ∨ (0 ≤ (mRd p n r a b).2.2 ∧ (mRd p n r a b).2.2 < r0 0)) ∧ 0 ≤ (mRd p n r a b).2.1 ∧ ((0 ≤ b ∨ ∃ k, 0 ≤ k ∧ k < (n : Int) ∧ p (mT r0 k 2) = true) → (mRd p n r a b).2.2 ≠ -1) := by
  intro n
  induction n with
  | zero => intro r a b h hc hx h0 hn h1 hb ha hs; exact ⟨h, hc, hx, h0, h1, by rw [← h0]; exact hb, ha, fun z => by
      rcases z with z | ⟨k, k0, k1, -⟩
      · show b ≠ -1
        omega
      · omega⟩
  | succ n ih =>
    intro r a b h hc hx h0 hn h1 hb ha hs
    have hi := h.1.1
    have hnn := h.2.2.1
    have e2 : mT r n 2 = mT r0 n 2 := hx.2.1 n 2 (by omega) (by omega) (by decide) (by decide)
    unfold mRd
    split
    · rename_i c
      have f0 : mForget r n 0 = r 0 := mForget_n (by omega)
      have := ih (mForget r n) (a + 1) n (mForget_tok h (by omega) (by omega)) (mForget_c (by omega) hc) (hx.tr (mForget_x (by omega)) (by omega)) (by omega) (by omega) (by rw [mForget_n (by omega)]; exact h1) (Or.inr ⟨by omega, by omega⟩) (by omega) (by omega)
      exact ⟨this.1, this.2.1, this.2.2.1, this.2.2.2.1, this.2.2.2.2.1, this.2.2.2.2.2.1, this.2.2.2.2.2.2.1, fun _ => this.2.2.2.2.2.2.2 (Or.inl (by omega))⟩
    · rename_i c
      have := ih r a b h hc hx h0 (by omega) h1 hb ha (by omega)
      refine ⟨this.1, this.2.1, this.2.2.1, this.2.2.2.1, this.2.2.2.2.1, this.2.2.2.2.2.1, this.2.2.2.2.2.2.1, fun z => this.2.2.2.2.2.2.2 ?_⟩
      rcases z with z | ⟨k, k0, k1, k2⟩
      · exact Or.inl z
      · by_cases d : k = n
        · subst d; rw [← e2] at k2; exact absurd k2 c
        · exact Or.inr ⟨k, k0, by omega, k2⟩
theorem mCount_ex {p : Int → Bool} : ∀ (n : Nat) (k : Int), mCount p n k ≠ 0 → ∃ j, k ≤ j ∧ j < k + n ∧ p j = true := by
  intro n
  induction n with
  | zero => intro k h; exact absurd rfl h
  | succ n ih =>
    intro k h
    by_cases c : p k = true
    · exact ⟨k, by omega, by omega, c⟩
    · unfold mCount at h
      rw [if_neg c] at h
      obtain ⟨j, j0, j1, j2⟩ := ih (k + 1) (by omega)
      exact ⟨j, by omega, by omega, j2⟩
theorem mRdA_i {i r : Int → Int} (h : mOk i r) (hc : mCnt r) (hp : mPln i r) (h1 : r 1 = -2) (hd : mDbMany i r ≠ 0) : mOk i (mRdA i r).1 ∧ mCnt (mRdA i r).1 ∧ mExt r (mRdA i r).1 ∧ (mRdA i r).1 0 = r 0 ∧ (mRdA i r).1 1 = -2 ∧ (0 ≤ (mRdA i r).2.2 ∧ (mRdA i r).2.2 < r 0) ∧ 0 ≤ (mRdA i r).2.1 := by
  have hi := h.1.1
  have hn := h.2.2.1
  have := mRd_i (i := i) (r0 := r) (p := mDbt i r) (r 0).toNat r 0 (-1) h hc mExt.rf rfl (by omega) h1 (Or.inl rfl) (by omega) (by omega)
  obtain ⟨a1, a2, a3, a4, a5, a6, a7, a8⟩ := this
  obtain ⟨t, t0, t1, t2⟩ := mCount_ex _ _ hd
  have hb := mPlain_b h.1 (route := 0) (ear := 0) (tone := t) (by omega) (by omega) (by omega)
  have hq := hp.at h (ro := 0) (e := 0) (t := t) (by omega) (by omega) (by omega)
  have := a8 (Or.inr ⟨mPlain i 0 0 t, hb.1, by omega, by rw [hq.2.2]; exact t2⟩)
  exact ⟨a1, a2, a3, a4, a5, by unfold mRdA; omega, a7⟩
theorem mRedoR_inv {i r : Int → Int} (h : mOk i r) (hc : mCnt r) (hp : mPln i r) (h1 : r 1 = -2) (hd : mDbMany i r ≠ 0) : mInv i (mRedoR i r) ∧ mExt r (mRedoR i r) := by
  obtain ⟨a1, a2, a3, a4, a5, a6, a7⟩ := mRdA_i h hc hp h1 hd
  have hi := h.1.1
  have hn := h.2.2.1
  exact ⟨⟨mBegR_ok a1 a6.1 (by omega), mBegR_c a6.1 a2, mBegR_l a6.1⟩, a3.tr (mBegR_x a6.1) (by omega)⟩
