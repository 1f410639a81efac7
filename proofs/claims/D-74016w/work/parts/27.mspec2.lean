/-! THE REFERENCE in plain Lean, 2: what changes the row -/
set_option maxRecDepth 100000
/-- a loop over k, n rounds from k on -/
def mFor (F : Int → (Int → Int) → (Int → Int)) : Nat → Int → (Int → Int) → (Int → Int)
  | 0, _, r => r
  | n + 1, k, r => mFor F n (k + 1) (F k r)
theorem mFor_end {F : Int → (Int → Int) → (Int → Int)} {b k : Int} {r : Int → Int} (h : b ≤ k) : mFor F (b - k).toNat k r = r := by
  rw [show (b - k).toNat = 0 by omega]; rfl
theorem mFor_step {F : Int → (Int → Int) → (Int → Int)} {b k : Int} {r : Int → Int} (h : k < b) : mFor F (b - k).toNat k r = mFor F (b - (k + 1)).toNat (k + 1) (F k r) := by
  rw [show (b - k).toNat = (b - (k + 1)).toNat + 1 by omega]; rfl
theorem mFor_inv {F : Int → (Int → Int) → (Int → Int)} (P : Int → (Int → Int) → Prop) {b : Int} (hs : ∀ k r, k < b → P k r → P (k + 1) (F k r)) : ∀ (n : Nat) (k : Int) (r : Int → Int), k + n ≤ b → P k r → P (k + n) (mFor F n k r) := by
  intro n
  induction n with
  | zero => intro k r _ h; simpa [mFor] using h
  | succ n ih =>
    intro k r hb h
    have := ih (k + 1) (F k r) (by omega) (hs k r (by omega) h)
    rw [show k + ((n + 1 : Nat) : Int) = k + 1 + (n : Int) by omega]
    exact this
theorem mZero_ok {i r : Int → Int} (h : mOk i r) : mOk i (mZero r 12 112) := by
  obtain ⟨h1, h2, h3, h4, h5⟩ := h
  refine ⟨h1, mZero_R h2 _ _, by rw [mZero_n (by omega), mZero_n (by omega)]; exact h3, fun k k0 k1 => ?_, ?_⟩
  · rw [mZero_n (by omega)] at k1
    have := h4 k k0 k1
    unfold mTOk mT at *
    rw [mZero_n (by omega), mZero_n (by omega), mZero_n (by omega), mZero_n (by omega), mZero_n (by omega), mZero_n (by omega)]
    exact this
  · unfold mSOk at *
    rw [mZero_n (by omega), mZero_n (by omega), mZero_n (by omega), mZero_n (by omega), mZero_n (by omega), mZero_n (by omega), mZero_n (by omega), mZero_n (by omega), mZero_n (by omega), mZero_n (by omega)]
    exact h5
/-- the head's words: a store in one of them -/
theorem mOk.h1 {i r : Int → Int} (h : mOk i r) {v : Int} (hv : v = -2 ∨ (0 ≤ v ∧ v < r 0)) : mOk i (iUp r 1 v) := by
  have hn := h.2.2.1
  refine h.head (by omega) ⟨by omega, by omega⟩ ?_
  obtain ⟨a1, a3, a4, a5, a6, a7, a8, a11, a2⟩ := h.2.2.2.2
  unfold mSOk
  (repeat (first | rw [iUp_s] | rw [iUp_n (by omega)]))
  exact ⟨hv, a3, a4, a5, a6, a7, a8, a11, a2⟩
theorem mOk.h3 {i r : Int → Int} (h : mOk i r) {v : Int} (hv : 0 ≤ v ∧ v ≤ 24) : mOk i (iUp r 3 v) := by
  refine h.head (by omega) ⟨by omega, by omega⟩ ?_
  obtain ⟨a1, a3, a4, a5, a6, a7, a8, a11, a2⟩ := h.2.2.2.2
  unfold mSOk
  (repeat (first | rw [iUp_s] | rw [iUp_n (by omega)]))
  exact ⟨a1, hv, a4, a5, a6, a7, a8, a11, a2⟩
theorem mOk.h4 {i r : Int → Int} (h : mOk i r) {v : Int} (hv : -1 ≤ v ∧ v ≤ 24) : mOk i (iUp r 4 v) := by
  refine h.head (by omega) ⟨by omega, by omega⟩ ?_
  obtain ⟨a1, a3, a4, a5, a6, a7, a8, a11, a2⟩ := h.2.2.2.2
  unfold mSOk
  (repeat (first | rw [iUp_s] | rw [iUp_n (by omega)]))
  exact ⟨a1, a3, hv, a5, a6, a7, a8, a11, a2⟩
theorem mOk.h5 {i r : Int → Int} (h : mOk i r) {v : Int} (hv : -1 ≤ v ∧ v ≤ 24) : mOk i (iUp r 5 v) := by
  refine h.head (by omega) ⟨by omega, by omega⟩ ?_
  obtain ⟨a1, a3, a4, a5, a6, a7, a8, a11, a2⟩ := h.2.2.2.2
  unfold mSOk
  (repeat (first | rw [iUp_s] | rw [iUp_n (by omega)]))
  exact ⟨a1, a3, a4, hv, a6, a7, a8, a11, a2⟩
theorem mOk.h6 {i r : Int → Int} (h : mOk i r) {v : Int} (hv : 0 ≤ v ∧ v ≤ 30) : mOk i (iUp r 6 v) := by
  refine h.head (by omega) ⟨by omega, by omega⟩ ?_
  obtain ⟨a1, a3, a4, a5, a6, a7, a8, a11, a2⟩ := h.2.2.2.2
  unfold mSOk
  (repeat (first | rw [iUp_s] | rw [iUp_n (by omega)]))
  exact ⟨a1, a3, a4, a5, hv, a7, a8, a11, a2⟩
theorem mOk.h7 {i r : Int → Int} (h : mOk i r) {v : Int} (hv : gR v) : mOk i (iUp r 7 v) := by
  refine h.head (by omega) hv ?_
  obtain ⟨a1, a3, a4, a5, a6, a7, a8, a11, a2⟩ := h.2.2.2.2
  unfold mSOk
  (repeat (first | rw [iUp_s] | rw [iUp_n (by omega)]))
  exact ⟨a1, a3, a4, a5, a6, hv, a8, a11, a2⟩
theorem mOk.h8 {i r : Int → Int} (h : mOk i r) {v : Int} (hv : -2 ≤ v ∧ v ≤ 25) : mOk i (iUp r 8 v) := by
  refine h.head (by omega) ⟨by omega, by omega⟩ ?_
  obtain ⟨a1, a3, a4, a5, a6, a7, a8, a11, a2⟩ := h.2.2.2.2
  unfold mSOk
  (repeat (first | rw [iUp_s] | rw [iUp_n (by omega)]))
  exact ⟨a1, a3, a4, a5, a6, a7, hv, a11, a2⟩
theorem mOk.h11 {i r : Int → Int} (h : mOk i r) {v : Int} (hv : 0 ≤ v ∧ v ≤ 200) : mOk i (iUp r 11 v) := by
  refine h.head (by omega) ⟨by omega, by omega⟩ ?_
  obtain ⟨a1, a3, a4, a5, a6, a7, a8, a11, a2⟩ := h.2.2.2.2
  unfold mSOk
  (repeat (first | rw [iUp_s] | rw [iUp_n (by omega)]))
  exact ⟨a1, a3, a4, a5, a6, a7, a8, hv, a2⟩
theorem mOk.h2 {i r : Int → Int} (h : mOk i r) : mOk i (iUp r 2 1) := by
  obtain ⟨h1, h2, h3, h4, h5⟩ := h
  refine ⟨h1, h2.up ⟨by decide, by decide⟩, by (repeat (first | rw [iUp_s] | rw [iUp_n (by omega)])); exact ⟨h3.1, fun q => absurd q (by decide)⟩, fun k k0 k1 => ?_, ?_⟩
  · rw [iUp_n (by omega)] at k1
    have := h4 k k0 k1
    unfold mTOk mT at *
    rw [iUp_n (by omega), iUp_n (by omega), iUp_n (by omega), iUp_n (by omega), iUp_n (by omega), iUp_n (by omega)]
    exact this
  · obtain ⟨a1, a3, a4, a5, a6, a7, a8, a11, a2⟩ := h5
    unfold mSOk
    (repeat (first | rw [iUp_s] | rw [iUp_n (by omega)]))
    exact ⟨a1, a3, a4, a5, a6, a7, a8, a11, Or.inr rfl⟩
/-- a store in a task's words 6 .. 10 -/
theorem mOk.t6 {i r : Int → Int} (h : mOk i r) {k j v : Int} (hk : 0 ≤ k) (hk2 : k < 48) (hj : 6 ≤ j ∧ j ≤ 10) (hv : gR v) : mOk i (iUp r (112 + 11 * k + j) v) :=
  h.task hk hk2 (by omega) hv (fun q => by
    have := h.2.2.2.1 k hk q
    unfold mTOk mT at *
    rw [iUp_n (by omega), iUp_n (by omega), iUp_n (by omega), iUp_n (by omega), iUp_n (by omega), iUp_n (by omega)]
    exact this)
theorem mOk.t4 {i r : Int → Int} (h : mOk i r) {k v : Int} (hk : 0 ≤ k) (hk2 : k < 48) (hv : 0 ≤ v ∧ v ≤ 4) (h2 : v = 2 → k < r 0 → 0 ≤ mT r k 5) : mOk i (iUp r (112 + 11 * k + 4) v) :=
  h.task hk hk2 (by omega) ⟨by omega, by omega⟩ (fun q => by
    have := h.2.2.2.1 k hk q
    unfold mTOk mT at *
    (repeat (first | rw [iUp_s] | rw [iUp_n (by omega)]))
    exact ⟨this.1, this.2.1, this.2.2.1, this.2.2.2.1, hv, this.2.2.2.2.2.1, fun z => h2 z q⟩)
theorem mOk.t5 {i r : Int → Int} (h : mOk i r) {k v : Int} (hk : 0 ≤ k) (hk2 : k < 48) (hv : -2 ≤ v ∧ v ≤ 25) (h2 : k < r 0 → mT r k 4 = 2 → 0 ≤ v) : mOk i (iUp r (112 + 11 * k + 5) v) :=
  h.task hk hk2 (by omega) ⟨by omega, by omega⟩ (fun q => by
    have := h.2.2.2.1 k hk q
    unfold mTOk mT at *
    (repeat (first | rw [iUp_s] | rw [iUp_n (by omega)]))
    exact ⟨this.1, this.2.1, this.2.2.1, this.2.2.2.1, this.2.2.2.2.1, hv, fun z => h2 q z⟩)
/-- a store in a task that isn't there -/
theorem mOk.tn {i r : Int → Int} (h : mOk i r) {k j v : Int} (hk : r 0 ≤ k) (hk2 : k < 48) (hj : 0 ≤ j ∧ j ≤ 10) (hv : gR v) : mOk i (iUp r (112 + 11 * k + j) v) := by
  have hn := h.2.2.1
  have h0 := h.1.1
  exact h.task (by omega) hk2 hj hv (fun q => by omega)
theorem mSrchs_ok {i r : Int → Int} (h : mOk i r) (hon : 0 ≤ r 1 ∧ r 1 < r 0) {level noise : Int} (hl : 0 ≤ level) (hno : -1 ≤ noise ∧ noise ≤ 24) : mOk i (mSrchs r level noise) := by
  have hn := h.2.2.1
  unfold mSrchs
  refine (mZero_ok ((((h.h3 (by omega)).h4 (by omega)).h5 hno).h6 (by omega))).t6 hon.1 (by omega) (by omega) ?_
  split
  · exact ⟨by omega, by omega⟩
  · exact h.2.1 _
theorem mSrchs_n {r : Int → Int} {level noise j : Int} (hj : j < 3 ∨ (6 < j ∧ j < 12) ∨ 112 ≤ j) (hj2 : j ≠ 112 + 11 * r 1 + 8) : mSrchs r level noise j = r j := by
  unfold mSrchs
  rw [iUp_n hj2, mZero_n (by omega)]
  (repeat (first | rw [iUp_s] | rw [iUp_n (by omega)]))
theorem mBeg0_1 (r : Int → Int) (k : Int) (hk : 0 ≤ k) : mBeg0 r k 1 = k := by
  unfold mBeg0
  (repeat (first | rw [iUp_s] | rw [iUp_n (by omega)]))
theorem mBegR_n {i r : Int → Int} {k j : Int} (hk : 0 ≤ k) (hj : j = 0 ∨ j = 2 ∨ (9 ≤ j ∧ j < 12) ∨ 112 ≤ j) (h4 : j ≠ 112 + 11 * k + 4) (h8 : j ≠ 112 + 11 * k + 8) : mBegR i r k j = r j := by
  have e1 := mBeg0_1 r k hk
  have e := mBeg0_n (r := r) (k := k) (j := j) (by omega) (by omega) (by omega) (by omega)
  unfold mBegR
  split
  · rw [mSrchs_n (by omega) (by rw [e1]; omega), e]
  · split
    · rw [mSrchs_n (by omega) (by rw [e1]; omega), e]
    · rw [iUp_n (by omega), iUp_n (by omega), e]
theorem mBegR_ok {i r : Int → Int} (h : mOk i r) {k : Int} (h0 : 0 ≤ k) (h1 : k < r 0) : mOk i (mBegR i r k) := by
  have hB := mBeg0_ok h h0 h1
  have e1 := mBeg0_1 r k h0
  have e0 := mBeg0_n (r := r) (k := k) (j := 0) (by omega) (by omega) (by omega) (by omega)
  have hn := h.2.2.1
  obtain ⟨t0, t1, t2, t3, t4, t5, t6⟩ := mOk_t h h0 h1
  unfold mBegR
  split
  · exact mSrchs_ok hB (by omega) (by omega) (by omega)
  · split
    · rename_i c1 c2
      have hb : mAreP i (mBeg0 r k) (r (112 + 11 * k + 2)) = true ∧ mFirst i (mBeg0 r k) (r (112 + 11 * k + 1)) (r (112 + 11 * k + 2)) ≤ mBound i (mBeg0 r k) (r (112 + 11 * k + 1)) (r (112 + 11 * k + 2)) := by
        unfold mBegB at c2
        simpa [c1] using c2
      have f1 := mFirst_b hB (ear := r (112 + 11 * k + 1)) (tone := r (112 + 11 * k + 2)) t1 t2
      have f2 := mBound_b hB (ear := r (112 + 11 * k + 1)) (tone := r (112 + 11 * k + 2)) t1 t2
      refine mSrchs_ok hB (by omega) ?_ (by omega)
      have f3 := hb.1
      unfold mAreP at f3
      simp only [Bool.and_eq_true, mProved, decide_eq_true_eq] at f3
      have p0 := mPlain_b h.1 t0 t1 t2
      have key : ∀ q, 0 ≤ q → q < r 0 → mT (mBeg0 r k) q 4 = 2 → 0 ≤ mT (mBeg0 r k) q 5 := fun q q0 q1 q2 => (hB.2.2.2.1 q q0 (by omega)).2.2.2.2.2.2 q2
      unfold mPT
      refine key _ p0.1 (by omega) ?_
      rcases (show r (112 + 11 * k + 0) = 0 ∨ r (112 + 11 * k + 0) = 1 by omega) with q0 | q0 <;> rcases (show r (112 + 11 * k + 1) = 0 ∨ r (112 + 11 * k + 1) = 1 by omega) with q1 | q1 <;> rw [q0, q1] <;> simp [f3]
    · have := (hB.t4 (k := k) (v := if mAreP i (mBeg0 r k) (r (112 + 11 * k + 2)) = true then 3 else 4) h0 (by omega) (by split <;> omega) (fun z => by split at z <;> omega))
      exact this.h1 (Or.inl rfl)
theorem mBegR_on {i r : Int → Int} {k : Int} (h0 : 0 ≤ k) (hb : mBegB i r k = true) : mBegR i r k 1 = k ∧ mBegR i r k 6 = 0 := by
  have e1 := mBeg0_1 r k h0
  have s1 : ∀ level noise, mSrchs (mBeg0 r k) level noise 1 = k ∧ mSrchs (mBeg0 r k) level noise 6 = 0 := fun level noise => by
    refine ⟨?_, ?_⟩
    · rw [mSrchs_n (by omega) (by omega), e1]
    · unfold mSrchs
      rw [iUp_n (by omega), mZero_n (by omega), iUp_s]
  unfold mBegR
  rw [hb]
  split
  · exact s1 _ _
  · exact s1 _ _
theorem mBegR_off {i r : Int → Int} {k : Int} (hb : mBegB i r k = false) : mBegR i r k 1 = -2 := by
  have : r (112 + 11 * k + 3) ≠ 0 := fun c => by unfold mBegB at hb; rw [decide_eq_true c] at hb; cases hb
  unfold mBegR
  rw [hb, if_neg this, if_neg (by decide)]
  exact iUp_s _ _ _
/-! masked tasks -/
theorem mForget_tn {i r : Int → Int} (h : mOk i r) {k : Int} (hk : r 0 ≤ k) (hk2 : k < 48) : mOk i (mForget r k) := by
  have hn := h.2.2.1
  have h0 := h.1.1
  have R : ∀ v : Int, (-2 ≤ v ∧ v ≤ 0) → gR v := fun v hv => ⟨by omega, by omega⟩
  have st : ∀ {r' : Int → Int} {j v : Int}, (mOk i r' ∧ r' 0 = r 0) → (0 ≤ j ∧ j ≤ 10) → (-2 ≤ v ∧ v ≤ 0) → (mOk i (iUp r' (112 + 11 * k + j) v) ∧ iUp r' (112 + 11 * k + j) v 0 = r 0) := fun hr hj hv =>
    ⟨hr.1.tn (by omega) hk2 hj (R _ hv), by rw [iUp_n (by omega)]; exact hr.2⟩
  unfold mForget
  exact (st (st (st (st (st (st (st ⟨h, rfl⟩ (by omega) (by omega)) (by omega) (by omega)) (by omega) (by omega)) (by omega) (by omega)) (by omega) (by omega)) (by omega) (by omega)) (by omega) (by omega)).1
theorem mForget_tok {i r : Int → Int} (h : mOk i r) {k : Int} (hk : 0 ≤ k) (hk2 : k < 48) : mOk i (mForget r k) := by
  have st : ∀ {r' : Int → Int} {j v : Int}, mOk i r' → (6 ≤ j ∧ j ≤ 10) → (-2 ≤ v ∧ v ≤ 0) → mOk i (iUp r' (112 + 11 * k + j) v) := fun hr hj hv => hr.t6 hk hk2 hj ⟨by omega, by omega⟩
  unfold mForget
  refine st (st (st (st (st (mOk.t5 (h.t4 hk hk2 (by omega) (by omega)) hk hk2 (by omega) (fun _ z => ?_)) (by omega) (by omega)) (by omega) (by omega)) (by omega) (by omega)) (by omega) (by omega)) (by omega) (by omega)
  unfold mT at z
  rw [iUp_s] at z
  omega
theorem mOk.more {i r : Int → Int} (h : mOk i r) (h2 : r 2 ≠ 0) (hk : r 0 < 48) (ht : mTOk i r (r 0)) : mOk i (iUp r 0 (r 0 + 1)) := by
  have hn := h.2.2.1
  have h0 := h.1.1
  have hR := h.2.1 0
  obtain ⟨h1, hR, h3, h4, h5⟩ := h
  have ht2 : ∀ k, mTOk i r k → 0 ≤ k → mTOk i (iUp r 0 (r 0 + 1)) k := fun k hk k0 => by
    unfold mTOk mT at *
    rw [iUp_n (by omega), iUp_n (by omega), iUp_n (by omega), iUp_n (by omega), iUp_n (by omega), iUp_n (by omega)]
    exact hk
  refine ⟨h1, hR.up ⟨by omega, by omega⟩, ?_, fun k k0 k1 => ?_, ?_⟩
  · rw [iUp_s, iUp_n (by omega)]
    exact ⟨by omega, fun q => absurd q h2⟩
  · rw [iUp_s] at k1
    by_cases c : k < r 0
    · exact ht2 k (h4 k k0 c) k0
    · rw [show k = r 0 by omega]; exact ht2 _ ht (by omega)
  · obtain ⟨a1, a3, a4, a5, a6, a7, a8, a11, a2⟩ := h5
    unfold mSOk
    (repeat (first | rw [iUp_s] | rw [iUp_n (by omega)]))
    exact ⟨by omega, a3, a4, a5, a6, a7, a8, a11, a2⟩
theorem mAdd_n {r : Int → Int} {ro e t m j : Int} (h0 : 0 ≤ r 0) (h : j ≠ 0) (hj : j < 112 + 11 * r 0 ∨ 112 + 11 * r 0 + 10 < j) : mAdd r ro e t m j = r j := by
  unfold mAdd
  rw [iUp_n h, mForget_n (by omega)]
  (repeat (first | rw [iUp_s] | rw [iUp_n (by omega)]))
theorem mAdd_0 (r : Int → Int) (ro e t m : Int) : mAdd r ro e t m 0 = r 0 + 1 := iUp_s _ _ _
theorem mAdd_t {r : Int → Int} {ro e t m : Int} (h0 : 0 ≤ r 0) : mT (mAdd r ro e t m) (r 0) 0 = ro ∧ mT (mAdd r ro e t m) (r 0) 1 = e ∧ mT (mAdd r ro e t m) (r 0) 2 = t ∧ mT (mAdd r ro e t m) (r 0) 3 = m ∧ mT (mAdd r ro e t m) (r 0) 4 = 0 ∧ mT (mAdd r ro e t m) (r 0) 5 = -2 := by
  unfold mAdd mT
  refine ⟨?_, ?_, ?_, ?_, ?_, ?_⟩
  · rw [iUp_n (by omega), mForget_n (by omega)]; (repeat (first | rw [iUp_s] | rw [iUp_n (by omega)]))
  · rw [iUp_n (by omega), mForget_n (by omega)]; (repeat (first | rw [iUp_s] | rw [iUp_n (by omega)]))
  · rw [iUp_n (by omega), mForget_n (by omega)]; (repeat (first | rw [iUp_s] | rw [iUp_n (by omega)]))
  · rw [iUp_n (by omega), mForget_n (by omega)]; (repeat (first | rw [iUp_s] | rw [iUp_n (by omega)]))
  · rw [iUp_n (by omega)]; unfold mForget; (repeat (first | rw [iUp_s] | rw [iUp_n (by omega)]))
  · rw [iUp_n (by omega)]; unfold mForget; (repeat (first | rw [iUp_s] | rw [iUp_n (by omega)]))
theorem mAdd_ok {i r : Int → Int} (h : mOk i r) (h2 : r 2 ≠ 0) (hk : r 0 < 48) {ro e t m : Int} (a1 : 0 ≤ ro ∧ ro ≤ 1) (a2 : 0 ≤ e ∧ e ≤ 1) (a3 : 0 ≤ t ∧ t < i 0) (a4 : 0 ≤ m ∧ m ≤ 1) : mOk i (mAdd r ro e t m) := by
  have hn := h.2.2.1
  have h0 := h.1.1
  have b1 : mOk i (iUp (iUp (iUp (iUp r (112 + 11 * r 0 + 0) ro) (112 + 11 * r 0 + 1) e) (112 + 11 * r 0 + 2) t) (112 + 11 * r 0 + 3) m) := by
    refine (((h.tn (Int.le_refl _) hk (by omega) ⟨by omega, by omega⟩).tn ?_ hk (by omega) ⟨by omega, by omega⟩).tn ?_ hk (by omega) ⟨by omega, by omega⟩).tn ?_ hk (by omega) ⟨by omega, by omega⟩ <;> (repeat (first | rw [iUp_s] | rw [iUp_n (by omega)])) <;> exact Int.le_refl _
  have b0 : (iUp (iUp (iUp (iUp r (112 + 11 * r 0 + 0) ro) (112 + 11 * r 0 + 1) e) (112 + 11 * r 0 + 2) t) (112 + 11 * r 0 + 3) m) 0 = r 0 := by (repeat (first | rw [iUp_s] | rw [iUp_n (by omega)]))
  have b2 := mForget_tn b1 (k := r 0) (by omega) hk
  have b3 : mForget (iUp (iUp (iUp (iUp r (112 + 11 * r 0 + 0) ro) (112 + 11 * r 0 + 1) e) (112 + 11 * r 0 + 2) t) (112 + 11 * r 0 + 3) m) (r 0) 0 = r 0 := by rw [mForget_n (by omega), b0]
  have b4 : mForget (iUp (iUp (iUp (iUp r (112 + 11 * r 0 + 0) ro) (112 + 11 * r 0 + 1) e) (112 + 11 * r 0 + 2) t) (112 + 11 * r 0 + 3) m) (r 0) 2 = r 2 := by rw [mForget_n (by omega)]; (repeat (first | rw [iUp_s] | rw [iUp_n (by omega)]))
  have b5 := b2.more (by rw [b4]; exact h2) (by rw [b3]; exact hk) (by
    rw [b3]
    have T := mAdd_t (r := r) (ro := ro) (e := e) (t := t) (m := m) (by omega)
    unfold mAdd mT at T
    rw [iUp_n (by omega), iUp_n (by omega), iUp_n (by omega), iUp_n (by omega), iUp_n (by omega), iUp_n (by omega)] at T
    obtain ⟨t0, t1, t2, t3, t4, t5⟩ := T
    unfold mTOk mT
    rw [t0, t1, t2, t3, t4, t5]
    exact ⟨a1, a2, a3, a4, by omega, by omega, by omega⟩)
  rw [b3] at b5
  exact b5
def mAM1 (i : Int → Int) (route tone ear : Int) (r : Int → Int) : Int → Int := if mNeed i r route ear tone = true then mAdd r route ear tone 1 else r
def mAM2 (i : Int → Int) (route tone : Int) : (Int → Int) → (Int → Int) := mFor (mAM1 i route tone) (2 - 0 : Int).toNat 0
def mAM3 (i : Int → Int) (route : Int) : (Int → Int) → (Int → Int) := mFor (mAM2 i route) (i 0 - 0).toNat 0
def mAM (i r : Int → Int) : Int → Int := mFor (mAM3 i) (2 - 0 : Int).toNat 0 (iUp r 2 1)
/-- what a masked task's adding keeps -/
def mAMi (i : Int → Int) (route tone ear : Int) (r : Int → Int) : Prop := mOk i r ∧ r 2 = 1 ∧ r 0 ≤ 4 * i 0 + 12 * route + 2 * tone + ear
theorem mAM1_i {i r : Int → Int} {route tone ear : Int} (h : mAMi i route tone ear r) (hr : 0 ≤ route ∧ route ≤ 1) (he : 0 ≤ ear ∧ ear ≤ 1) (ht : 0 ≤ tone ∧ tone < i 0) : mAMi i route tone (ear + 1) (mAM1 i route tone ear r) := by
  have h0 := h.1.1.1
  have hn := h.1.2.2.1
  obtain ⟨a, b, c⟩ := h
  unfold mAM1
  split
  · exact ⟨mAdd_ok a (by omega) (by omega) hr he ht (by omega), by rw [mAdd_n (by omega) (by omega) (by omega)]; exact b, by rw [mAdd_0]; omega⟩
  · exact ⟨a, b, by omega⟩
theorem mAM2_i {i r : Int → Int} {route tone : Int} (h : mAMi i route tone 0 r) (hr : 0 ≤ route ∧ route ≤ 1) (ht : 0 ≤ tone ∧ tone < i 0) : mAMi i route (tone + 1) 0 (mAM2 i route tone r) := by
  have := mFor_inv (F := mAM1 i route tone) (fun k r => 0 ≤ k ∧ mAMi i route tone k r) (b := 2) (fun k r hk h => ⟨by omega, mAM1_i h.2 hr (by omega) ht⟩) (2 - 0 : Int).toNat 0 r (by decide) ⟨by omega, h⟩
  obtain ⟨-, a, b, c⟩ := this
  refine ⟨a, b, ?_⟩
  have c2 : mAM2 i route tone r 0 ≤ 4 * i 0 + 12 * route + 2 * tone + (0 + ((2 - 0 : Int).toNat : Int)) := c
  have : (0 + ((2 - 0 : Int).toNat : Int)) = 2 := rfl
  omega
theorem mAM3_i {i r : Int → Int} {route : Int} (h : mAMi i route 0 0 r) (hr : 0 ≤ route ∧ route ≤ 1) : mAMi i (route + 1) 0 0 (mAM3 i route r) := by
  have h0 := h.1.1.1
  have := mFor_inv (F := mAM2 i route) (fun k r => 0 ≤ k ∧ mAMi i route k 0 r) (b := i 0) (fun k r hk h => ⟨by omega, mAM2_i h.2 hr (by omega)⟩) (i 0 - 0).toNat 0 r (by omega) ⟨by omega, h⟩
  obtain ⟨-, a, b, c⟩ := this
  refine ⟨a, b, ?_⟩
  have c2 : mAM3 i route r 0 ≤ 4 * i 0 + 12 * route + 2 * (0 + ((i 0 - 0).toNat : Int)) + 0 := c
  omega
theorem mAM_i0 {i r : Int → Int} (h : mOk i r) (h4 : r 0 = 4 * i 0) : mAMi i 0 0 0 (iUp r 2 1) :=
  ⟨h.h2, iUp_s _ _ _, by rw [iUp_n (by omega)]; omega⟩
theorem mAM_i {i r : Int → Int} (h : mOk i r) (h4 : r 0 = 4 * i 0) : mAMi i 2 0 0 (mAM i r) := by
  have := mFor_inv (F := mAM3 i) (fun k r => 0 ≤ k ∧ mAMi i k 0 0 r) (b := 2) (fun k r hk h => ⟨by omega, mAM3_i h.2 (by omega)⟩) (2 - 0 : Int).toNat 0 _ (by decide) ⟨by omega, mAM_i0 h h4⟩
  exact this.2
theorem mAM_ok {i r : Int → Int} (h : mOk i r) (h4 : r 0 = 4 * i 0) : mOk i (mAM i r) := (mAM_i h h4).1
/-! the next task -/
def mNL (i : Int → Int) : Nat → (Int → Int) → Int → (Int → Int) × Int
  | 0, r, k => (r, k)
  | n + 1, r, k => if mT r k 4 = 0 then (if mBegB i r k = true then (mBegR i r k, k) else mNL i n (mBegR i r k) (k + 1)) else mNL i n r (k + 1)
theorem mNL_end {i r : Int → Int} {b k : Int} (h : b ≤ k) : mNL i (b - k).toNat r k = (r, k) := by
  rw [show (b - k).toNat = 0 by omega]; rfl
theorem mNL_step {i r : Int → Int} {b k : Int} (h : k < b) : mNL i (b - k).toNat r k = if mT r k 4 = 0 then (if mBegB i r k = true then (mBegR i r k, k) else mNL i (b - (k + 1)).toNat (mBegR i r k) (k + 1)) else mNL i (b - (k + 1)).toNat r (k + 1) := by
  rw [show (b - k).toNat = (b - (k + 1)).toNat + 1 by omega]; rfl
theorem mNL_skip {i r : Int → Int} {b k : Int} (h : k < b) (c : r (112 + 11 * k + 4) ≠ 0) : mNL i (b - (k + 1)).toNat r (k + 1) = mNL i (b - k).toNat r k := by
  rw [mNL_step h, if_neg c]
theorem mNL_hit {i r : Int → Int} {b k : Int} (h : k < b) (c : r (112 + 11 * k + 4) = 0) (hb : mBegB i r k = true) : mNL i (b - k).toNat r k = (mBegR i r k, k) := by
  rw [mNL_step h, if_pos c, if_pos hb]
theorem mNL_miss {i r : Int → Int} {b k : Int} (h : k < b) (c : r (112 + 11 * k + 4) = 0) (hb : mBegB i r k = false) : mNL i (b - (k + 1)).toNat (mBegR i r k) (k + 1) = mNL i (b - k).toNat r k := by
  rw [mNL_step h, if_pos c, if_neg (by rw [hb]; decide)]
def mN0 (i r : Int → Int) (k : Int) : Int → Int := if r 2 = 0 ∧ k + 1 = r 0 then mAM i (iUp r 1 (-2)) else iUp r 1 (-2)
def mNx (i r : Int → Int) (k : Int) : (Int → Int) × Int := mNL i (mN0 i r k 0 - (k + 1)).toNat (mN0 i r k) (k + 1)
def mNxV (i r : Int → Int) (k : Int) : Int := if (mNx i r k).2 < mN0 i r k 0 then 2 else 3
theorem mN0_ok {i r : Int → Int} (h : mOk i r) (k : Int) : mOk i (mN0 i r k) := by
  have h1 := h.h1 (v := -2) (Or.inl rfl)
  unfold mN0
  split
  · have := h.2.2.1.2 (by omega)
    exact mAM_ok h1 (by rw [iUp_n (by omega)]; exact this)
  · exact h1
theorem mNL_ok {i : Int → Int} {b : Int} : ∀ (n : Nat) (r : Int → Int) (k : Int), mOk i r → r 0 = b → 0 ≤ k → k + n ≤ b → mOk i (mNL i n r k).1 ∧ (mNL i n r k).1 0 = b ∧ k ≤ (mNL i n r k).2 ∧ (mNL i n r k).2 ≤ k + n := by
  intro n
  induction n with
  | zero => intro r k h hb k0 k1; exact ⟨h, hb, Int.le_refl _, by simp [mNL]⟩
  | succ n ih =>
    intro r k h hb k0 k1
    unfold mNL
    have e0 := mBegR_n (i := i) (r := r) (k := k) (j := 0) k0 (by omega) (by omega) (by omega)
    have hk := mBegR_ok h k0 (by omega)
    split
    · split
      · exact ⟨hk, e0.trans hb, Int.le_refl _, by simp; omega⟩
      · have := ih (mBegR i r k) (k + 1) hk (by rw [e0, hb]) (by omega) (by omega)
        exact ⟨this.1, this.2.1, by omega, by omega⟩
    · have := ih r (k + 1) h hb (by omega) (by omega)
      exact ⟨this.1, this.2.1, by omega, by omega⟩
theorem mNx_ok {i r : Int → Int} (h : mOk i r) {k : Int} (hk : 0 ≤ k ∧ k < r 0) : mOk i (mNx i r k).1 ∧ (mNx i r k).1 0 = mN0 i r k 0 ∧ r 0 ≤ mN0 i r k 0 := by
  have h0 := mN0_ok h k
  have h1 : r 0 ≤ mN0 i r k 0 := by
    unfold mN0
    split
    · have := h.2.2.1.2 (by omega)
      have := (mAM_ok (h.h1 (v := -2) (Or.inl rfl)) (by rw [iUp_n (by omega)]; exact this)).2.2.1
      omega
    · rw [iUp_n (by omega)]; exact Int.le_refl _
  have := mNL_ok (i := i) (b := mN0 i r k 0) (mN0 i r k 0 - (k + 1)).toNat (mN0 i r k) (k + 1) h0 rfl (by omega) (by omega)
  exact ⟨this.1, this.2.1, h1⟩
/-! a task ends -/
def mEnd0 (r : Int → Int) (s t : Int) : Int → Int := iUp (iUp r (112 + 11 * r 1 + 4) s) (112 + 11 * r 1 + 5) t
def mEndR (i r : Int → Int) (s t : Int) : Int → Int := (mNx i (mEnd0 r s t) (r 1)).1
def mEndV (i r : Int → Int) (s t : Int) : Int := mNxV i (mEnd0 r s t) (r 1)
theorem mEnd0_ok {i r : Int → Int} (h : mOk i r) (hon : r 1 ≠ -2) {s t : Int} (hs : 0 ≤ s ∧ s ≤ 4) (ht : -2 ≤ t ∧ t ≤ 25) (h2 : s = 2 → 0 ≤ t) : mOk i (mEnd0 r s t) ∧ (0 ≤ r 1 ∧ r 1 < mEnd0 r s t 0) := by
  have hn := h.2.2.1
  have ho := h.2.2.2.2.1
  have e0 : mEnd0 r s t 0 = r 0 := by unfold mEnd0; (repeat (first | rw [iUp_s] | rw [iUp_n (by omega)]))
  refine ⟨?_, by omega⟩
  obtain ⟨h1, h2', h3, h9, h5⟩ := h
  refine ⟨h1, (h2'.up ⟨by omega, by omega⟩).up ⟨by omega, by omega⟩, ?_, fun q q0 q1 => ?_, ?_⟩
  · rw [e0]; unfold mEnd0; rw [iUp_n (by omega), iUp_n (by omega)]; exact h3
  · rw [e0] at q1
    have := h9 q q0 q1
    unfold mTOk mT mEnd0 at *
    by_cases c : q = r 1
    · subst c
      (repeat (first | rw [iUp_s] | rw [iUp_n (by omega)]))
      exact ⟨this.1, this.2.1, this.2.2.1, this.2.2.2.1, hs, ht, h2⟩
    · (repeat (first | rw [iUp_s] | rw [iUp_n (by omega)]))
      exact this
  · unfold mSOk mEnd0 at *
    (repeat (first | rw [iUp_s] | rw [iUp_n (by omega)]))
    exact h5
theorem mEndR_ok {i r : Int → Int} (h : mOk i r) (hon : r 1 ≠ -2) {s t : Int} (hs : 0 ≤ s ∧ s ≤ 4) (ht : -2 ≤ t ∧ t ≤ 25) (h2 : s = 2 → 0 ≤ t) : mOk i (mEndR i r s t) := by
  have := mEnd0_ok h hon hs ht h2
  exact (mNx_ok this.1 this.2).1
