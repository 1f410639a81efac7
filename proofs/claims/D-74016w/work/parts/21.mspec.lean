/-! THE REFERENCE, in plain Lean: functions of its arrays (i: what is told, r: the row) -/
theorem rI {a b : Int} (h : a = b) : (some (Value.int (iI a)) : Option Value) = some (.int (iI b)) := by rw [h]
theorem rB {a b : Bool} (h : a = b) : (some (Value.int (iI (gb a))) : Option Value) = some (.int (iI (gb b))) := by rw [h]
def mIn (v lo hi : Int) : Bool := decide (lo ≤ v) && decide (v ≤ hi)
theorem mIn_t {v lo hi : Int} : mIn v lo hi = true ↔ lo ≤ v ∧ v ≤ hi := by simp [mIn]
theorem mIn_f {v lo hi : Int} : mIn v lo hi = false ↔ (v < lo ∨ hi < v) := by simp [mIn]; omega
abbrev mR0 (r : Int → Int) : Prop := ∀ j, gR (r j)
theorem mR0.up {r : Int → Int} (h : mR0 r) {k v : Int} (hv : gR v) : mR0 (iUp r k v) := fun j => by
  unfold iUp
  split
  · exact hv
  · exact h j
/-- a task's word -/
abbrev mT (r : Int → Int) (k j : Int) : Int := r (112 + 11 * k + j)
def mPlain (i : Int → Int) (route ear tone : Int) : Int := 2 * (i 0 * route + tone) + ear
def mPT (i r : Int → Int) (route ear tone : Int) : Int := mT r (mPlain i route ear tone) 5
def mProved (r : Int → Int) (k : Int) : Bool := decide (mT r k 4 = 2)
def mAreP (i r : Int → Int) (tone : Int) : Bool := mProved r (mPlain i 0 0 tone) && mProved r (mPlain i 0 1 tone) && mProved r (mPlain i 1 0 tone) && mProved r (mPlain i 1 1 tone)
def mNeed (i r : Int → Int) (route ear tone : Int) : Bool := mAreP i r tone && (if route = 1 then decide (i 2 ≤ mPT i r 0 ear tone - mPT i r 1 ear tone) else decide (min (mPT i r 1 0 tone) (mPT i r 1 1 tone) ≤ mPT i r 0 ear tone - i 1))
def mFirst (i r : Int → Int) (ear tone : Int) : Int := mPT i r 0 (1 - ear) tone + 2
def mBound (i r : Int → Int) (ear tone : Int) : Int := min 24 (mPT i r 1 ear tone + i 1 - 1)
/-- what is told is well-formed -/
def mIOk (i : Int → Int) : Prop := (1 ≤ i 0 ∧ i 0 ≤ 6) ∧ (4 ≤ i 1 ∧ i 1 ≤ 16) ∧ (1 ≤ i 2 ∧ i 2 ≤ 6) ∧ (1 ≤ i 3 ∧ i 3 ≤ 4) ∧ (2 ≤ i 4 ∧ i 4 ≤ 4) ∧ (0 ≤ i 5 ∧ i 5 ≤ 12) ∧ (∀ j, 6 ≤ j → j < 30 → 0 ≤ i j ∧ i j ≤ 24) ∧ ∀ j, gR (i j)
def mTOk (i r : Int → Int) (k : Int) : Prop := (0 ≤ mT r k 0 ∧ mT r k 0 ≤ 1) ∧ (0 ≤ mT r k 1 ∧ mT r k 1 ≤ 1) ∧ (0 ≤ mT r k 2 ∧ mT r k 2 < i 0) ∧ (0 ≤ mT r k 3 ∧ mT r k 3 ≤ 1) ∧ (0 ≤ mT r k 4 ∧ mT r k 4 ≤ 4) ∧ (-2 ≤ mT r k 5 ∧ mT r k 5 ≤ 25) ∧ (mT r k 4 = 2 → 0 ≤ mT r k 5)
/-- the row's head -/
def mSOk (r : Int → Int) : Prop := (r 1 = -2 ∨ (0 ≤ r 1 ∧ r 1 < r 0)) ∧ (0 ≤ r 3 ∧ r 3 ≤ 24) ∧ (-1 ≤ r 4 ∧ r 4 ≤ 24) ∧ (-1 ≤ r 5 ∧ r 5 ≤ 24) ∧ (0 ≤ r 6 ∧ r 6 ≤ 30) ∧ (-2147483648 ≤ r 7 ∧ r 7 ≤ 2147483647) ∧ (-2 ≤ r 8 ∧ r 8 ≤ 25) ∧ (0 ≤ r 11 ∧ r 11 ≤ 200) ∧ (r 2 = 0 ∨ r 2 = 1)
def mOk (i r : Int → Int) : Prop := mIOk i ∧ mR0 r ∧ ((4 * i 0 ≤ r 0 ∧ r 0 ≤ 48) ∧ (r 2 = 0 → r 0 = 4 * i 0)) ∧ (∀ k, 0 ≤ k → k < r 0 → mTOk i r k) ∧ mSOk r
theorem mPlain_b {i : Int → Int} (h : mIOk i) {route ear tone : Int} (hr : 0 ≤ route ∧ route ≤ 1) (he : 0 ≤ ear ∧ ear ≤ 1) (ht : 0 ≤ tone ∧ tone < i 0) : 0 ≤ mPlain i route ear tone ∧ mPlain i route ear tone < 4 * i 0 := by
  have h1 := h.1
  unfold mPlain
  rcases (show route = 0 ∨ route = 1 by omega) with rfl | rfl <;> omega
theorem mPT_b {i r : Int → Int} (h : mOk i r) {route ear tone : Int} (hr : 0 ≤ route ∧ route ≤ 1) (he : 0 ≤ ear ∧ ear ≤ 1) (ht : 0 ≤ tone ∧ tone < i 0) : -2 ≤ mPT i r route ear tone ∧ mPT i r route ear tone ≤ 25 := by
  have h1 := mPlain_b h.1 hr he ht
  have h2 := h.2.2.1
  exact (h.2.2.2.1 _ h1.1 (by omega)).2.2.2.2.2.1
/-- whether an ear hears a tone, with noise in the ear that isn't tested -/
def mHear (i : Int → Int) (route ear tone level noise inEar : Int) : Bool :=
  let w := fun (r e v : Int) => if r = 1 then v else if e = inEar then v - (i (6 + 6 * e + tone) - i (18 + 6 * e + tone)) else v - i 1
  decide (i (18 + 6 * inEar + tone) ≤ w route ear level) && (decide (noise < 0) || decide (w 0 (1 - ear) noise ≤ w route ear level))
def mHB (i : Int → Int) (route ear tone level noise : Int) : Int := gb (mHear i route ear tone level noise 0) + 2 * gb (mHear i route ear tone level noise 1)
/-- trouble, where, thrown behind an ask -/
def mRef (f : Nat → Int) (w : Int) : Nat → Int := va_up (va_up (va_up f 0 0) 3 (-1)) 1 w
def mW1 (b : Bool) : Int := if b then 0 else 1
def mW2 (b c : Bool) : Int := if b then (if c then 0 else 2) else 1
def mAns (w v : Int) : Int := if w = 0 then v else -1
def mOne (t : Int) (i : Int → Int) (route ear tone : Int) : Bool := decide (t = 1) && (mIn route 0 1 && (mIn ear 0 1 && mIn tone 0 (i 0 - 1)))
theorem mOne_t {t : Int} {i : Int → Int} {route ear tone : Int} (h : mOne t i route ear tone = true) : t = 1 ∧ (0 ≤ route ∧ route ≤ 1) ∧ (0 ≤ ear ∧ ear ≤ 1) ∧ (0 ≤ tone ∧ tone < i 0) := by
  simp [mOne, mIn] at h
  omega
def mWhile (p : Int → Bool) : Nat → Int → Int
  | 0, k => k
  | n + 1, k => if p k then mWhile p n (k + 1) else k
theorem mWhile_end {p : Int → Bool} {b k : Int} (h : b ≤ k) : mWhile p (b - k).toNat k = k := by
  rw [show (b - k).toNat = 0 by omega]; rfl
theorem mWhile_stop {p : Int → Bool} {n : Nat} {k : Int} (h : p k = false) : mWhile p n k = k := by
  cases n
  · rfl
  · simp [mWhile, h]
theorem mWhile_step {p : Int → Bool} {b k : Int} (h : k < b) (hp : p k = true) : mWhile p (b - (k + 1)).toNat (k + 1) = mWhile p (b - k).toNat k := by
  rw [show (b - k).toNat = (b - (k + 1)).toNat + 1 by omega]
  simp [mWhile, hp]
/-- the first k with p, or -2 -/
def mFind (p : Int → Bool) : Nat → Int → Int
  | 0, _ => -2
  | n + 1, k => if p k then k else mFind p n (k + 1)
theorem mFind_end {p : Int → Bool} {b k : Int} (h : b ≤ k) : mFind p (b - k).toNat k = -2 := by
  rw [show (b - k).toNat = 0 by omega]; rfl
theorem mFind_hit {p : Int → Bool} {b k : Int} (h : k < b) (hp : p k = true) : mFind p (b - k).toNat k = k := by
  rw [show (b - k).toNat = (b - (k + 1)).toNat + 1 by omega]
  simp [mFind, hp]
theorem mFind_step {p : Int → Bool} {b k : Int} (h : k < b) (hp : p k = false) : mFind p (b - (k + 1)).toNat (k + 1) = mFind p (b - k).toNat k := by
  rw [show (b - k).toNat = (b - (k + 1)).toNat + 1 by omega]
  simp [mFind, hp]
theorem mFind_b (p : Int → Bool) : ∀ (n : Nat) (k : Int), mFind p n k = -2 ∨ (k ≤ mFind p n k ∧ mFind p n k < k + n) := by
  intro n
  induction n with
  | zero => intro k; exact Or.inl rfl
  | succ n ih =>
    intro k
    unfold mFind
    split
    · exact Or.inr ⟨by omega, by omega⟩
    · rcases ih (k + 1) with h | h
      · exact Or.inl h
      · exact Or.inr ⟨by omega, by omega⟩
theorem mHB_b (i : Int → Int) (route ear tone level noise : Int) : 0 ≤ mHB i route ear tone level noise ∧ mHB i route ear tone level noise ≤ 3 := by
  unfold mHB
  cases mHear i route ear tone level noise 0 <;> cases mHear i route ear tone level noise 1 <;> decide
def mLeast (i : Int → Int) (route ear tone noise : Int) : Int := mWhile (fun v => decide (mHB i route ear tone v noise = 0)) 25 0
/-- the bit of an ear in heardBy's answer -/
def mEarB (i : Int → Int) (route ear tone level noise who : Int) : Int := gb (mHear i route ear tone level noise who)
def mSil (i : Int → Int) (who route ear tone level : Int) : Int := mFind (fun n => !mHear i route ear tone level n who) 25 0
theorem a3t {a b c : Bool} (h1 : a = true) (h2 : b = true) (h3 : c = true) : (a && (b && c)) = true := by simp [h1, h2, h3]
theorem a3f1 {a b c : Bool} (h1 : a = false) : (a && (b && c)) = false := by simp [h1]
theorem a3f2 {a b c : Bool} (h1 : b = false) : (a && (b && c)) = false := by simp [h1]
theorem a3f3 {a b c : Bool} (h1 : c = false) : (a && (b && c)) = false := by simp [h1]
def mMkP (r : Int → Int) (route ear tone : Int) : Int → Bool := fun k => decide (mT r k 0 = route) && (decide (mT r k 1 = ear) && decide (mT r k 2 = tone))
def mMk (i r : Int → Int) (route ear tone : Int) : Int := mFind (mMkP r route ear tone) (r 0 - 4 * i 0).toNat (4 * i 0)
theorem mMk_b {i r : Int → Int} (h : mOk i r) (route ear tone : Int) : mMk i r route ear tone = -2 ∨ (4 * i 0 ≤ mMk i r route ear tone ∧ mMk i r route ear tone < r 0) := by
  have h2 := h.2.2.1
  rcases mFind_b (mMkP r route ear tone) (r 0 - 4 * i 0).toNat (4 * i 0) with q | q
  · exact Or.inl q
  · exact Or.inr ⟨q.1, by have := q.2; unfold mMk; omega⟩
def mMkOr (i r : Int → Int) (route ear tone : Int) : Int := if mMk i r route ear tone = -2 then mPlain i route ear tone else mMk i r route ear tone
theorem mMkOr_b {i r : Int → Int} (h : mOk i r) {route ear tone : Int} (hr : 0 ≤ route ∧ route ≤ 1) (he : 0 ≤ ear ∧ ear ≤ 1) (ht : 0 ≤ tone ∧ tone < i 0) : 0 ≤ mMkOr i r route ear tone ∧ mMkOr i r route ear tone < r 0 := by
  have h1 := mPlain_b h.1 hr he ht
  have h2 := h.2.2.1
  have h3 := h.1.1
  unfold mMkOr
  rcases mMk_b h route ear tone with q | q
  · rw [if_pos q]; omega
  · rw [if_neg (by omega)]; omega
def mTold (i r : Int → Int) (route ear tone : Int) : Int := if mT r (mMkOr i r route ear tone) 4 = 2 then mT r (mMkOr i r route ear tone) 5 else if mT r (mMkOr i r route ear tone) 4 < 2 then -2 else -3
theorem mTold_b {i r : Int → Int} (h : mOk i r) {route ear tone : Int} (hr : 0 ≤ route ∧ route ≤ 1) (he : 0 ≤ ear ∧ ear ≤ 1) (ht : 0 ≤ tone ∧ tone < i 0) : -3 ≤ mTold i r route ear tone ∧ mTold i r route ear tone ≤ 25 := by
  have h1 := mMkOr_b h hr he ht
  have h2 := (h.2.2.2.1 _ h1.1 h1.2).2.2.2.2.2.1
  unfold mTold
  split
  · omega
  · split <;> omega
def mThr (i r : Int → Int) (tone : Int) : Bool := decide (2 ≤ mT r (mPlain i 0 0 tone) 4) && (decide (2 ≤ mT r (mPlain i 0 1 tone) 4) && (decide (2 ≤ mT r (mPlain i 1 0 tone) 4) && decide (2 ≤ mT r (mPlain i 1 1 tone) 4)))
def mLacks (a b : Int) : Int := if a = -2 ∨ b = -2 then -2 else if a = -3 ∨ b = -3 then -3 else 0
def mPON (i r : Int → Int) (route ear tone : Int) : Int := if mProved r (mPlain i route ear tone) = true then mT r (mPlain i route ear tone) 5 else -2
theorem mPON_b {i r : Int → Int} (h : mOk i r) {route ear tone : Int} (hr : 0 ≤ route ∧ route ≤ 1) (he : 0 ≤ ear ∧ ear ≤ 1) (ht : 0 ≤ tone ∧ tone < i 0) : -2 ≤ mPON i r route ear tone ∧ mPON i r route ear tone ≤ 25 := by
  have := mPT_b h hr he ht
  unfold mPON
  unfold mPT at this
  split <;> omega
def mHelp (i r : Int → Int) (route ear tone : Int) : Bool := decide (mMk i r route ear tone ≠ -2) && (mProved r (mMk i r route ear tone) && (decide (mPON i r route ear tone ≠ -2) && decide (mT r (mMk i r route ear tone) 5 < mPON i r route ear tone)))
def mD1 (i r : Int → Int) (ear tone : Int) : Int := if mPON i r 1 ear tone = -2 then 0 else if mPON i r 1 (1 - ear) tone = -2 then 0 else if mPON i r 1 ear tone = mPON i r 1 (1 - ear) tone then 0 else 1
def mD2 (i r : Int → Int) (ear tone : Int) : Int := if mPON i r 0 ear tone = -2 then 0 else if mPON i r 1 (1 - ear) tone = -2 then 0 else if mPON i r 0 ear tone ≤ mPON i r 1 (1 - ear) tone + i 1 then 0 else 2
def mD3 (i r : Int → Int) (ear tone : Int) : Int := if mTold i r 0 ear tone < 0 then 0 else if mTold i r 1 ear tone ≤ mTold i r 0 ear tone then 0 else 4
def mD4 (i r : Int → Int) (ear tone : Int) : Int := if mHelp i r 0 ear tone = true then 8 else if mHelp i r 1 ear tone = true then 8 else 0
theorem mD1_b (i r : Int → Int) (ear tone : Int) : mD1 i r ear tone = 0 ∨ mD1 i r ear tone = 1 := by unfold mD1; (repeat' split) <;> simp
theorem mD2_b (i r : Int → Int) (ear tone : Int) : mD2 i r ear tone = 0 ∨ mD2 i r ear tone = 2 := by unfold mD2; (repeat' split) <;> simp
theorem mD3_b (i r : Int → Int) (ear tone : Int) : mD3 i r ear tone = 0 ∨ mD3 i r ear tone = 4 := by unfold mD3; (repeat' split) <;> simp
def mDb (i r : Int → Int) (ear tone : Int) : Int := mD1 i r ear tone + mD2 i r ear tone + mD3 i r ear tone + mD4 i r ear tone
theorem mDb_b (i r : Int → Int) (ear tone : Int) : 0 ≤ mDb i r ear tone ∧ mDb i r ear tone ≤ 15 := by
  have h1 := mD1_b i r ear tone
  have h2 := mD2_b i r ear tone
  have h3 := mD3_b i r ear tone
  have h4 : mD4 i r ear tone = 0 ∨ mD4 i r ear tone = 8 := by unfold mD4; (repeat' split) <;> simp
  unfold mDb
  omega
theorem or2 {x y : Int} (hx : x = 0 ∨ x = 1) (hy : y = 0 ∨ y = 2) : iI x ||| iI y = iI (x + y) := by rcases hx with rfl | rfl <;> rcases hy with rfl | rfl <;> decide
theorem or4 {x y : Int} (hx : 0 ≤ x ∧ x ≤ 3) (hy : y = 0 ∨ y = 4) : iI x ||| iI y = iI (x + y) := by
  rcases (show x = 0 ∨ x = 1 ∨ x = 2 ∨ x = 3 by omega) with rfl | rfl | rfl | rfl <;> rcases hy with rfl | rfl <;> decide
theorem or8 {x : Int} (hx : 0 ≤ x ∧ x ≤ 7) : iI x ||| iI 8 = iI (x + 8) := by
  rcases (show x = 0 ∨ x = 1 ∨ x = 2 ∨ x = 3 ∨ x = 4 ∨ x = 5 ∨ x = 6 ∨ x = 7 by omega) with rfl | rfl | rfl | rfl | rfl | rfl | rfl | rfl <;> decide
def mDbt (i r : Int → Int) (tone : Int) : Bool := decide (mDb i r 0 tone ≠ 0) || decide (mDb i r 1 tone ≠ 0)
/-- how many k from k on, n of them, have p -/
def mCount (p : Int → Bool) : Nat → Int → Int
  | 0, _ => 0
  | n + 1, k => (if p k then 1 else 0) + mCount p n (k + 1)
theorem mCount_end {p : Int → Bool} {b k : Int} (h : b ≤ k) : mCount p (b - k).toNat k = 0 := by
  rw [show (b - k).toNat = 0 by omega]; rfl
theorem mCount_step {p : Int → Bool} {b k : Int} (h : k < b) : mCount p (b - k).toNat k = (if p k then 1 else 0) + mCount p (b - (k + 1)).toNat (k + 1) := by
  rw [show (b - k).toNat = (b - (k + 1)).toNat + 1 by omega]
  simp [mCount]
theorem mCount_t {p : Int → Bool} {b k : Int} (h : k < b) (hp : p k = true) : mCount p (b - k).toNat k = 1 + mCount p (b - (k + 1)).toNat (k + 1) := by rw [mCount_step h, if_pos hp]
theorem mCount_f {p : Int → Bool} {b k : Int} (h : k < b) (hp : p k = false) : mCount p (b - k).toNat k = mCount p (b - (k + 1)).toNat (k + 1) := by rw [mCount_step h, hp]; simp
theorem mCount_b (p : Int → Bool) : ∀ (n : Nat) (k : Int), 0 ≤ mCount p n k ∧ mCount p n k ≤ n := by
  intro n
  induction n with
  | zero => intro k; simp [mCount]
  | succ n ih => intro k; have := ih (k + 1); unfold mCount; split <;> omega
def mHBs (i : Int → Int) (route ear tone level noise who : Int) : Int := if who = 0 then mHB i route ear tone level noise else gb (mHear i route ear tone level noise 1)
theorem mHB_sh {i : Int → Int} {route ear tone level noise who : Int} (h : 0 ≤ who ∧ who ≤ 1) : iI (mHB i route ear tone level noise) >>> (iI who &&& 31) = iI (mHBs i route ear tone level noise who) := by
  unfold mHBs mHB
  rcases (show who = 0 ∨ who = 1 by omega) with rfl | rfl <;> cases mHear i route ear tone level noise 0 <;> cases mHear i route ear tone level noise 1 <;> decide
theorem mHB_an {i : Int → Int} {route ear tone level noise who : Int} (h : 0 ≤ who ∧ who ≤ 1) : iI (mHBs i route ear tone level noise who) &&& iI 1 = iI (gb (mHear i route ear tone level noise who)) := by
  unfold mHBs mHB
  rcases (show who = 0 ∨ who = 1 by omega) with rfl | rfl <;> cases mHear i route ear tone level noise 0 <;> cases mHear i route ear tone level noise 1 <;> decide
theorem mLeast_b (i : Int → Int) (route ear tone noise : Int) : 0 ≤ mLeast i route ear tone noise ∧ mLeast i route ear tone noise ≤ 25 := by
  have h : ∀ (p : Int → Bool) (n : Nat) (k : Int), k ≤ mWhile p n k ∧ mWhile p n k ≤ k + n := by
    intro p n
    induction n with
    | zero => intro k; exact ⟨Int.le_refl _, by simp [mWhile]⟩
    | succ n ih => intro k; have := ih (k + 1); unfold mWhile; split <;> omega
  have := h (fun v => decide (mHB i route ear tone v noise = 0)) 25 0
  unfold mLeast
  omega
theorem mSil_b (i : Int → Int) (who route ear tone level : Int) : -2 ≤ mSil i who route ear tone level ∧ mSil i who route ear tone level ≤ 25 := by
  rcases mFind_b (fun n => !mHear i route ear tone level n who) 25 0 with h | h <;> unfold mSil <;> omega
theorem mLacks_b (a b : Int) : -3 ≤ mLacks a b ∧ mLacks a b ≤ 0 := by unfold mLacks; (repeat' split) <;> omega
def mApart (a b : Int) : Int := if mLacks a b = 0 then 100 + a - b else mLacks a b
def mLoss (gap a b : Int) : Int := if mLacks a b = 0 then (if a ≤ 5 then 0 else if a - b < gap then 2 else if b ≤ 5 then 1 else 3) else mLacks a b
theorem mTold_n {i r : Int → Int} (h : mOk i r) {route ear tone : Int} (hr : 0 ≤ route ∧ route ≤ 1) (he : 0 ≤ ear ∧ ear ≤ 1) (ht : 0 ≤ tone ∧ tone < i 0) : mTold i r route ear tone = -3 ∨ mTold i r route ear tone = -2 ∨ (0 ≤ mTold i r route ear tone ∧ mTold i r route ear tone ≤ 25) := by
  have h1 := mMkOr_b h hr he ht
  have h2 := (h.2.2.2.1 _ h1.1 h1.2).2.2.2.2.2
  unfold mTold
  split
  · exact Or.inr (Or.inr ⟨h2.2 (by assumption), h2.1.2⟩)
  · split
    · exact Or.inr (Or.inl rfl)
    · exact Or.inl rfl
def mOnB (t : Int) (r : Int → Int) : Bool := decide (t = 1) && decide (r 1 ≠ -2)
theorem mOnB_t {t : Int} {r : Int → Int} (h : mOnB t r = true) : t = 1 ∧ r 1 ≠ -2 := by simpa [mOnB] using h
def mOnW (t : Int) (r : Int → Int) : Int := if t = 1 then (if mOnB t r = true then 0 else 5) else 1
def mThMany (r : Int → Int) : Int := mCount (fun k => decide (2 ≤ mT r k 4)) (r 0 - 0).toNat 0
def mAbout (i r : Int → Int) (what : Int) : Int := if what = 5 then r 10 else if what = 6 then r 0 else if what = 7 then mThMany r else if what = 8 then i 5 else i what
def mDbMany (i r : Int → Int) : Int := mCount (mDbt i r) (i 0 - 0).toNat 0
/-- the mean's sum and what lacks -/
def mMeanL (q : Int → Int) : Nat → Int → Int → Int → Int × Int
  | 0, _, s, l => (s, l)
  | n + 1, k, s, l => mMeanL q n (k + 1) (s + q k) (if l = -2 ∨ q k = -2 then -2 else if q k = -3 then -3 else l)
theorem mMeanL_end {q : Int → Int} {b k s l : Int} (h : b ≤ k) : mMeanL q (b - k).toNat k s l = (s, l) := by
  rw [show (b - k).toNat = 0 by omega]; rfl
theorem mMeanL_step {q : Int → Int} {b k s l : Int} (h : k < b) : mMeanL q (b - k).toNat k s l = mMeanL q (b - (k + 1)).toNat (k + 1) (s + q k) (if l = -2 ∨ q k = -2 then -2 else if q k = -3 then -3 else l) := by
  rw [show (b - k).toNat = (b - (k + 1)).toNat + 1 by omega]; rfl
def mMean2 (i r : Int → Int) (route ear : Int) : Int × Int := mMeanL (fun tone => mTold i r route ear tone) (i 0 - 0).toNat 0 0 0
def mMean (i r : Int → Int) (route ear : Int) : Int := if (mMean2 i r route ear).2 = 0 then (mMean2 i r route ear).1 / i 0 else (mMean2 i r route ear).2
theorem mMean_bL {q : Int → Int} (hq : ∀ k, 0 ≤ k → k < 6 → q k = -3 ∨ q k = -2 ∨ (0 ≤ q k ∧ q k ≤ 25)) : ∀ (n : Nat) (k s l : Int), 0 ≤ k → k + n ≤ 6 → (l = 0 ∨ l = -2 ∨ l = -3) → (l = 0 → 0 ≤ s ∧ s ≤ 25 * k) → ((mMeanL q n k s l).2 = 0 ∨ (mMeanL q n k s l).2 = -2 ∨ (mMeanL q n k s l).2 = -3) ∧ ((mMeanL q n k s l).2 = 0 → 0 ≤ (mMeanL q n k s l).1 ∧ (mMeanL q n k s l).1 ≤ 25 * (k + n)) := by
  intro n
  induction n with
  | zero => intro k s l h0 h1 h2 h3; simpa [mMeanL] using ⟨h2, h3⟩
  | succ n ih =>
    intro k s l h0 h1 h2 h3
    have hk := hq k h0 (by omega)
    have := ih (k + 1) (s + q k) (if l = -2 ∨ q k = -2 then -2 else if q k = -3 then -3 else l) (by omega) (by omega) (by split <;> (try split) <;> omega) (by split <;> (try split) <;> omega)
    unfold mMeanL
    refine ⟨this.1, fun z => ?_⟩
    have := this.2 z
    omega
theorem mMean_b {i r : Int → Int} (h : mOk i r) {route ear : Int} (hr : 0 ≤ route ∧ route ≤ 1) (he : 0 ≤ ear ∧ ear ≤ 1) : -3 ≤ mMean i r route ear ∧ mMean i r route ear ≤ 25 := by
  have h0 := h.1.1
  have hb := mMean_bL (q := fun tone => if tone < i 0 then mTold i r route ear tone else 0) (fun k k1 k2 => by
    by_cases c : k < i 0
    · simp only [c, if_true]; exact mTold_n h hr he ⟨k1, c⟩
    · simp only [c, if_false]; omega) (i 0 - 0).toNat 0 0 0 (by omega) (by omega) (Or.inl rfl) (fun _ => by omega)
  have e : ∀ (n : Nat) (k s l : Int), k + n ≤ i 0 → mMeanL (fun tone => if tone < i 0 then mTold i r route ear tone else 0) n k s l = mMeanL (fun tone => mTold i r route ear tone) n k s l := by
    intro n
    induction n with
    | zero => intro k s l _; rfl
    | succ n ih =>
      intro k s l hk
      unfold mMeanL
      rw [ih _ _ _ (by omega)]
      have c : k < i 0 := by omega
      simp only [c, if_true]
  rw [e _ _ _ _ (by omega)] at hb
  unfold mMean mMean2
  generalize mMeanL (fun tone => mTold i r route ear tone) (i 0 - 0).toNat 0 0 0 = z at hb
  split
  · have h2 := hb.2 (by assumption)
    have h3 : z.1 ≤ 25 * i 0 := by omega
    have h4 : 0 ≤ z.1 / i 0 := Int.ediv_nonneg h2.1 (by omega)
    have h5 : z.1 / i 0 ≤ 25 := by
      rw [show (25 : Int) = 25 * i 0 / i 0 from (Int.mul_ediv_cancel 25 (by omega)).symm]
      exact Int.ediv_le_ediv (by omega) h3
    omega
  · omega
def mGrade (m : Int) : Int := if m < 0 then m else if m ≤ 5 then 0 else if m ≤ 9 then 1 else if m ≤ 13 then 2 else if m ≤ 17 then 3 else 4
def mWorse (a b : Int) : Int := if mLacks a b = 0 then (if a < b then 1 else 0) else mLacks a b
/-- how a told threshold stands beside what is due -/
def mStand (its due : Int) : Int := if its = -2 then 3 else if its = -3 then 2 else if its = due then 0 else 1
def mRightP (i r : Int → Int) (what : Int) : Int → Bool := fun k => decide (mStand (mTold i r (mT r k 0) (mT r k 1) (mT r k 2)) (i (6 + 12 * mT r k 0 + 6 * mT r k 1 + mT r k 2)) = what)
def mRight (i r : Int → Int) (what : Int) : Int := mCount (mRightP i r what) (4 * i 0 - 0).toNat 0
def mSign (i r : Int → Int) (ear level tone : Int) : Int :=
  if mTold i r 0 ear tone = level ∧ mTold i r 1 ear tone = level then 42
  else if mTold i r 0 ear tone = level then (if mMk i r 0 ear tone = -2 then 111 else 79)
  else if mTold i r 1 ear tone = level then (if mMk i r 1 ear tone = -2 then 99 else 67)
  else if level = 25 ∧ (mTold i r 0 ear tone = -3 ∨ mTold i r 1 ear tone = -3) then 63 else 46
def mChart (i r : Int → Int) (ear k : Int) : Int := if (i 0 + 1) * 26 ≤ k then -1 else if k % (i 0 + 1) = i 0 then 10 else mSign i r ear (k / (i 0 + 1)) (k % (i 0 + 1))
def mShift (i r e : Int → Int) (t route ear tone : Int) : Int := if mTold i r route ear tone < 0 ∨ (if t = 0 then -2 else e (mPlain i route ear tone)) < 0 then -2 else 100 + mTold i r route ear tone - (if t = 0 then -2 else e (mPlain i route ear tone))
/-- bits of the tones from k on -/
def mWs (p : Int → Bool) : Nat → Int → Int → Int
  | 0, _, a => a
  | n + 1, k, a => mWs p n (k + 1) (a + if p k then 2 ^ k.toNat else 0)
theorem mWs_end {p : Int → Bool} {b k a : Int} (h : b ≤ k) : mWs p (b - k).toNat k a = a := by
  rw [show (b - k).toNat = 0 by omega]; rfl
theorem mWs_step {p : Int → Bool} {b k a : Int} (h : k < b) : mWs p (b - k).toNat k a = mWs p (b - (k + 1)).toNat (k + 1) (a + if p k then 2 ^ k.toNat else 0) := by
  rw [show (b - k).toNat = (b - (k + 1)).toNat + 1 by omega]; rfl
def mSteep (q : Int → Int) : Nat → Int → Int → Int
  | 0, _, a => a
  | n + 1, k, a => mSteep q n (k + 1) (max a (if q k - q (k - 1) < 0 then -(q k - q (k - 1)) else q k - q (k - 1)))
theorem mSteep_end {q : Int → Int} {b k a : Int} (h : b ≤ k) : mSteep q (b - k).toNat k a = a := by
  rw [show (b - k).toNat = 0 by omega]; rfl
theorem mSteep_step {q : Int → Int} {b k a : Int} (h : k < b) : mSteep q (b - k).toNat k a = mSteep q (b - (k + 1)).toNat (k + 1) (max a (if q k - q (k - 1) < 0 then -(q k - q (k - 1)) else q k - q (k - 1))) := by
  rw [show (b - k).toNat = (b - (k + 1)).toNat + 1 by omega]; rfl
/-- the n-th unproved task from k on, seen c before; -1: none -/
def mUnp (p : Int → Bool) (w : Int) : Nat → Int → Int → Int
  | 0, _, _ => -1
  | n + 1, k, c => if p k then (if c = w then k else mUnp p w n (k + 1) (c + 1)) else mUnp p w n (k + 1) c
theorem mUnp_end {p : Int → Bool} {w b k c : Int} (h : b ≤ k) : mUnp p w (b - k).toNat k c = -1 := by
  rw [show (b - k).toNat = 0 by omega]; rfl
theorem mUnp_step {p : Int → Bool} {w b k c : Int} (h : k < b) : mUnp p w (b - k).toNat k c = if p k then (if c = w then k else mUnp p w (b - (k + 1)).toNat (k + 1) (c + 1)) else mUnp p w (b - (k + 1)).toNat (k + 1) c := by
  rw [show (b - k).toNat = (b - (k + 1)).toNat + 1 by omega]; rfl
def mUnpP (r : Int → Int) : Int → Bool := fun k => decide (2 < mT r k 4)
def mNow (r : Int → Int) (what : Int) : Int := if r 1 = -2 then -2 else if what = 0 then r 1 else if what = 5 then r 3 else if what = 6 then r 5 else if what = 7 then r 6 else if what = 8 then mT r (r 1) 7 else if what = 9 then r 7 else mT r (r 1) (what - 1)
def mOnes (x : Int) : Int := x % 2 + x / 2 % 2 + x / 4 % 2
def mTried (r : Int → Int) (level what : Int) : Int := if r 1 = -2 then -2 else if what = 1 then mOnes (r (12 + 4 * level + 1)) else r (12 + 4 * level + what)
def mPl (p : Int → Bool) : Nat → Int → Int → Int → Int → Int × Int × Int
  | 0, _, a, b, c => (a, b, c)
  | n + 1, k, a, b, c => if p k then mPl p n (k + 1) (if a = -2 then k else a) k (c + 1) else mPl p n (k + 1) a b c
theorem mPl_end {p : Int → Bool} {e k a b c : Int} (h : e ≤ k) : mPl p (e - k).toNat k a b c = (a, b, c) := by
  rw [show (e - k).toNat = 0 by omega]; rfl
theorem mPl_step {p : Int → Bool} {e k a b c : Int} (h : k < e) : mPl p (e - k).toNat k a b c = if p k then mPl p (e - (k + 1)).toNat (k + 1) (if a = -2 then k else a) k (c + 1) else mPl p (e - (k + 1)).toNat (k + 1) a b c := by
  rw [show (e - k).toNat = (e - (k + 1)).toNat + 1 by omega]; rfl
def mPlP (i : Int → Int) (route ear tone : Int) : Int → Bool := fun n => decide (mLeast i route ear tone n = i (6 + 12 * route + 6 * ear + tone))
def mPlat (i : Int → Int) (route ear tone what : Int) : Int :=
  if what = 0 then (mPl (mPlP i route ear tone) 25 0 (-2) (-2) 0).1 else if what = 1 then (mPl (mPlP i route ear tone) 25 0 (-2) (-2) 0).2.1 else (mPl (mPlP i route ear tone) 25 0 (-2) (-2) 0).2.2
def mZone (i : Int → Int) (route ear tone level noise : Int) : Int :=
  gb (mHear i route ear tone level noise ear) + 2 * gb (mHear i route ear tone level noise (1 - ear)) + if mHear i route ear tone level (-1) ear = true ∧ mHear i route ear tone level noise ear = false then 4 else 0
def mPv (q : Int → Int) (most fl rise : Int) : Nat → Int → Int → Int → Int → Int × Int × Int
  | 0, _, like, last, many => (like, last, many)
  | n + 1, nz, like, last, many => if nz ≤ most ∧ like < fl then mPv q most fl rise n (nz + rise) (if q nz = last then like + 1 else 1) (q nz) (many + 1) else (like, last, many)
def mPv3 (i : Int → Int) (route ear tone : Int) : Int × Int × Int := mPv (fun n => mLeast i route ear tone n) (min 24 (mLeast i 1 ear tone (-1) + i 1 - 1)) (i 4) (i 3) 27 (mLeast i 0 (1 - ear) tone (-1) + 2) 0 (-2) 0
def mProv (i : Int → Int) (route ear tone what : Int) : Int :=
  if what = 2 then (mPv3 i route ear tone).2.2 else if what = 1 then (if (mPv3 i route ear tone).1 = i 4 then (mPv3 i route ear tone).2.1 else -2) else (if (mPv3 i route ear tone).1 = i 4 then 2 else 3)
theorem mOk_t {i r : Int → Int} (h : mOk i r) {k : Int} (h0 : 0 ≤ k) (h1 : k < r 0) : (0 ≤ r (112 + 11 * k + 0) ∧ r (112 + 11 * k + 0) ≤ 1) ∧ (0 ≤ r (112 + 11 * k + 1) ∧ r (112 + 11 * k + 1) ≤ 1) ∧ (0 ≤ r (112 + 11 * k + 2) ∧ r (112 + 11 * k + 2) < i 0) ∧ (0 ≤ r (112 + 11 * k + 3) ∧ r (112 + 11 * k + 3) ≤ 1) ∧ (0 ≤ r (112 + 11 * k + 4) ∧ r (112 + 11 * k + 4) ≤ 4) ∧ (-2 ≤ r (112 + 11 * k + 5) ∧ r (112 + 11 * k + 5) ≤ 25) ∧ (r (112 + 11 * k + 4) = 2 → 0 ≤ r (112 + 11 * k + 5)) := h.2.2.2.1 k h0 h1
theorem divw {k w : Int} (hw : 0 < w) (h0 : 0 ≤ k) (h1 : k < w * 26) : (0 ≤ k % w ∧ k % w < w) ∧ 0 ≤ k / w ∧ k / w < 26 :=
  ⟨⟨Int.emod_nonneg _ (by omega), Int.emod_lt_of_pos _ hw⟩, Int.ediv_nonneg h0 (by omega), Int.ediv_lt_of_lt_mul hw (by rw [Int.mul_comm]; exact h1)⟩
theorem mStand_b (a b : Int) : 0 ≤ mStand a b ∧ mStand a b ≤ 3 := by unfold mStand; (repeat' split) <;> omega
theorem mOnB_f {t : Int} {r : Int → Int} (h : mOnB t r = false) (ht : t = 1) : r 1 = -2 := by simpa [mOnB, ht] using h
def mEOk (e : Int → Int) : Prop := ∀ j, -3 ≤ e j ∧ e j ≤ 25
theorem mE_R {e : Int → Int} (h : mEOk e) : mR0 e := fun j => ⟨by have := (h j).1; omega, by have := (h j).2; omega⟩
theorem mShift_b {i r e : Int → Int} (h : mOk i r) (he24 : mEOk e) (t : Int) {route ear tone : Int} (hr : 0 ≤ route ∧ route ≤ 1) (he : 0 ≤ ear ∧ ear ≤ 1) (ht : 0 ≤ tone ∧ tone < i 0) : -2 ≤ mShift i r e t route ear tone ∧ mShift i r e t route ear tone ≤ 200 := by
  have h1 := mTold_b h hr he ht
  have h2 := he24 (mPlain i route ear tone)
  unfold mShift
  (repeat' split) <;> omega
theorem or_0 (a : Int) : iI a ||| iI 0 = iI a := by
  show iI a ||| (0 : Int32) = iI a
  simp
theorem or_pow {a k : Int} (hk : 0 ≤ k ∧ k < 6) (ha : 0 ≤ a) (h : a < 2 ^ k.toNat) : iI a ||| iI (2 ^ k.toNat) = iI (a + 2 ^ k.toNat) := by
  obtain ⟨n, rfl⟩ := Int.eq_ofNat_of_zero_le ha
  have d : ∀ j, j < 6 → ∀ x, x < 2 ^ j → nI x ||| nI (2 ^ j) = nI (x + 2 ^ j) := by decide
  have hj := d k.toNat (by omega) n (by
    have e : ((2 ^ k.toNat : Nat) : Int) = 2 ^ k.toNat := by simp
    omega)
  rw [show iI (2 ^ k.toNat) = nI (2 ^ k.toNat) by rw [← iI_nat]; congr 1]
  rw [iI_nat, hj, ← iI_nat]
  congr 1
theorem shl_pow {k : Int} (hk : 0 ≤ k ∧ k < 6) : iI 1 <<< (iI k &&& 31) = iI (2 ^ k.toNat) := by
  rcases (show k = 0 ∨ k = 1 ∨ k = 2 ∨ k = 3 ∨ k = 4 ∨ k = 5 by omega) with rfl | rfl | rfl | rfl | rfl | rfl <;> decide
def mUnpV (t : Int) (r : Int → Int) (w : Int) : Int := if t = 1 then mUnp (mUnpP r) w (r 0 - 0).toNat 0 0 else -1
theorem mPv_step {q : Int → Int} {most fl rise nz like last many : Int} (h : many < 27) (h1 : nz ≤ most) (h2 : like < fl) : mPv q most fl rise (27 - many).toNat nz like last many = mPv q most fl rise (27 - (many + 1)).toNat (nz + rise) (if q nz = last then like + 1 else 1) (q nz) (many + 1) := by
  rw [show (27 - many).toNat = (27 - (many + 1)).toNat + 1 by omega]
  simp [mPv, h1, h2]
theorem mPv_stop {q : Int → Int} {most fl rise nz like last many : Int} {n : Nat} (h : ¬ (nz ≤ most ∧ like < fl)) : mPv q most fl rise n nz like last many = (like, last, many) := by
  cases n
  · rfl
  · simp only [mPv, if_neg h]
/-! what changes the row -/
def mForget (r : Int → Int) (k : Int) : Int → Int :=
  iUp (iUp (iUp (iUp (iUp (iUp (iUp r (112 + 11 * k + 4) 0) (112 + 11 * k + 5) (-2)) (112 + 11 * k + 6) 0) (112 + 11 * k + 7) 0) (112 + 11 * k + 8) (-1)) (112 + 11 * k + 9) (-1)) (112 + 11 * k + 10) 0
theorem mForget_n {r : Int → Int} {k j : Int} (h : j < 112 + 11 * k + 4 ∨ 112 + 11 * k + 10 < j) : mForget r k j = r j := by
  unfold mForget iUp
  simp only [show ¬ j = 112 + 11 * k + 4 by omega, show ¬ j = 112 + 11 * k + 5 by omega, show ¬ j = 112 + 11 * k + 6 by omega, show ¬ j = 112 + 11 * k + 7 by omega, show ¬ j = 112 + 11 * k + 8 by omega, show ¬ j = 112 + 11 * k + 9 by omega, show ¬ j = 112 + 11 * k + 10 by omega, if_false]
theorem mForget_R {r : Int → Int} (h : mR0 r) (k : Int) : mR0 (mForget r k) := by
  unfold mForget
  exact ((((((h.up ⟨by decide, by decide⟩).up ⟨by decide, by decide⟩).up ⟨by decide, by decide⟩).up ⟨by decide, by decide⟩).up ⟨by decide, by decide⟩).up ⟨by decide, by decide⟩).up ⟨by decide, by decide⟩
def mAdd (r : Int → Int) (ro e t m : Int) : Int → Int :=
  iUp (mForget (iUp (iUp (iUp (iUp r (112 + 11 * r 0 + 0) ro) (112 + 11 * r 0 + 1) e) (112 + 11 * r 0 + 2) t) (112 + 11 * r 0 + 3) m) (r 0)) 0 (r 0 + 1)
def mZero (r : Int → Int) (a b : Int) : Int → Int := fun j => if a ≤ j ∧ j < b then 0 else r j
theorem mZero_n {r : Int → Int} {a b j : Int} (h : j < a ∨ b ≤ j) : mZero r a b j = r j := if_neg (by omega)
theorem mZero_R {r : Int → Int} (h : mR0 r) (a b : Int) : mR0 (mZero r a b) := fun j => by unfold mZero; split; exact ⟨by decide, by decide⟩; exact h j
/-- a new search: level, noise -/
def mSrchs (r : Int → Int) (level noise : Int) : Int → Int :=
  iUp (mZero (iUp (iUp (iUp (iUp r 3 (min level 24)) 4 (-1)) 5 noise) 6 0) 12 112) (112 + 11 * r 1 + 8) (if r (112 + 11 * r 1 + 8) < noise then noise else r (112 + 11 * r 1 + 8))
def mBeg0 (r : Int → Int) (k : Int) : Int → Int := iUp (iUp (iUp (iUp r 1 k) 7 0) 8 (-2)) (112 + 11 * k + 4) 1
/-- a task is begun: whether it is on -/
def mBegB (i r : Int → Int) (k : Int) : Bool := decide (r (112 + 11 * k + 3) = 0) || (mAreP i (mBeg0 r k) (r (112 + 11 * k + 2)) && decide (mFirst i (mBeg0 r k) (r (112 + 11 * k + 1)) (r (112 + 11 * k + 2)) ≤ mBound i (mBeg0 r k) (r (112 + 11 * k + 1)) (r (112 + 11 * k + 2))))
def mBegR (i r : Int → Int) (k : Int) : Int → Int :=
  if r (112 + 11 * k + 3) = 0 then mSrchs (mBeg0 r k) 8 (-1)
  else if mBegB i r k = true then mSrchs (mBeg0 r k) (mPT i (mBeg0 r k) (r (112 + 11 * k + 0)) (r (112 + 11 * k + 1)) (r (112 + 11 * k + 2))) (mFirst i (mBeg0 r k) (r (112 + 11 * k + 1)) (r (112 + 11 * k + 2)))
  else iUp (iUp (mBeg0 r k) (112 + 11 * k + 4) (if mAreP i (mBeg0 r k) (r (112 + 11 * k + 2)) = true then 3 else 4)) 1 (-2)
/-! what a store keeps of mOk -/
theorem mOk.free {i r : Int → Int} (h : mOk i r) {j v : Int} (hv : gR v) (hj : j = 9 ∨ j = 10 ∨ (12 ≤ j ∧ j < 112) ∨ 640 ≤ j) : mOk i (iUp r j v) := by
  obtain ⟨h1, h2, h3, h4, h5⟩ := h
  refine ⟨h1, h2.up hv, by rw [iUp_n (by omega), iUp_n (by omega)]; exact h3, fun k k0 k1 => ?_, ?_⟩
  · rw [iUp_n (by omega)] at k1
    have := h4 k k0 k1
    unfold mTOk mT at *
    rw [iUp_n (by omega), iUp_n (by omega), iUp_n (by omega), iUp_n (by omega), iUp_n (by omega), iUp_n (by omega)]
    exact this
  · unfold mSOk at *
    rw [iUp_n (by omega), iUp_n (by omega), iUp_n (by omega), iUp_n (by omega), iUp_n (by omega), iUp_n (by omega), iUp_n (by omega), iUp_n (by omega), iUp_n (by omega), iUp_n (by omega)]
    exact h5
/-- a store in the head -/
theorem mOk.head {i r : Int → Int} (h : mOk i r) {j v : Int} (hj : 1 ≤ j ∧ j < 12 ∧ j ≠ 2) (hv : gR v) (h5 : mSOk (iUp r j v)) : mOk i (iUp r j v) := by
  obtain ⟨h1, h2, h3, h4, -⟩ := h
  refine ⟨h1, h2.up hv, by rw [iUp_n (by omega), iUp_n (by omega)]; exact h3, fun k k0 k1 => ?_, h5⟩
  rw [iUp_n (by omega)] at k1
  have := h4 k k0 k1
  unfold mTOk mT at *
  rw [iUp_n (by omega), iUp_n (by omega), iUp_n (by omega), iUp_n (by omega), iUp_n (by omega), iUp_n (by omega)]
  exact this
/-- a store in a task -/
theorem mOk.task {i r : Int → Int} (h : mOk i r) {k j v : Int} (hk : 0 ≤ k) (hk2 : k < 48) (hj : 0 ≤ j ∧ j ≤ 10) (hv : gR v) (h4 : k < r 0 → mTOk i (iUp r (112 + 11 * k + j) v) k) : mOk i (iUp r (112 + 11 * k + j) v) := by
  obtain ⟨h1, h2, h3, h9, h5⟩ := h
  refine ⟨h1, h2.up hv, by rw [iUp_n (by omega), iUp_n (by omega)]; exact h3, fun q q0 q1 => ?_, ?_⟩
  · rw [iUp_n (by omega)] at q1
    by_cases c : q = k
    · subst c; exact h4 q1
    · have := h9 q q0 q1
      unfold mTOk mT at *
      rw [iUp_n (by omega), iUp_n (by omega), iUp_n (by omega), iUp_n (by omega), iUp_n (by omega), iUp_n (by omega)]
      exact this
  · unfold mSOk at *
    rw [iUp_n (by omega), iUp_n (by omega), iUp_n (by omega), iUp_n (by omega), iUp_n (by omega), iUp_n (by omega), iUp_n (by omega), iUp_n (by omega), iUp_n (by omega), iUp_n (by omega)]
    exact h5
theorem mZ_step {ρ b : Int → Int} {a k : Int} (hz : ∀ j, ρ j = if a ≤ j ∧ j < k then 0 else b j) (ha : a ≤ k) (j : Int) : iUp ρ k 0 j = if a ≤ j ∧ j < k + 1 then 0 else b j := by
  unfold iUp
  by_cases c : j = k
  · rw [if_pos c, if_pos (by omega)]
  · rw [if_neg c, hz j]
    by_cases c2 : a ≤ j ∧ j < k
    · rw [if_pos c2, if_pos (by omega)]
    · rw [if_neg c2, if_neg (by omega)]
theorem mZ_end {ρ b : Int → Int} {a k e : Int} (hz : ∀ j, ρ j = if a ≤ j ∧ j < k then 0 else b j) (hk : k = e) : ρ = mZero b a e := by
  subst hk
  exact funext fun j => (hz j).trans rfl
theorem mTOk_4 {i ρ : Int → Int} {k v : Int} (h : mTOk i ρ k) (hv : 0 ≤ v ∧ v ≤ 4) (h2 : v ≠ 2) : mTOk i (iUp ρ (112 + 11 * k + 4) v) k := by
  unfold mTOk mT at *
  rw [iUp_s, iUp_n (by omega), iUp_n (by omega), iUp_n (by omega), iUp_n (by omega), iUp_n (by omega)]
  exact ⟨h.1, h.2.1, h.2.2.1, h.2.2.2.1, hv, h.2.2.2.2.2.1, fun q => absurd q h2⟩
theorem mBeg0_n {r : Int → Int} {k j : Int} (h1 : j ≠ 1) (h7 : j ≠ 7) (h8 : j ≠ 8) (h : j ≠ 112 + 11 * k + 4) : mBeg0 r k j = r j := by
  unfold mBeg0
  rw [iUp_n h, iUp_n h8, iUp_n h7, iUp_n h1]
theorem mBeg0_ok {i r : Int → Int} (h : mOk i r) {k : Int} (h0 : 0 ≤ k) (h1 : k < r 0) : mOk i (mBeg0 r k) := by
  have hs := h.2.2.2.2
  have hn := h.2.2.1
  have a1 : mOk i (iUp r 1 k) := h.head (by omega) ⟨by omega, by omega⟩ (by
    unfold mSOk at *
    rw [iUp_s, iUp_n (show (0 : Int) ≠ 1 by decide), iUp_n (show (3 : Int) ≠ 1 by decide), iUp_n (show (4 : Int) ≠ 1 by decide), iUp_n (show (5 : Int) ≠ 1 by decide), iUp_n (show (6 : Int) ≠ 1 by decide), iUp_n (show (7 : Int) ≠ 1 by decide), iUp_n (show (8 : Int) ≠ 1 by decide), iUp_n (show (11 : Int) ≠ 1 by decide), iUp_n (show (2 : Int) ≠ 1 by decide)]
    exact ⟨Or.inr ⟨h0, h1⟩, hs.2⟩)
  have a2 : mOk i (iUp (iUp r 1 k) 7 0) := a1.head (by omega) ⟨by decide, by decide⟩ (by
    have hs := a1.2.2.2.2
    unfold mSOk at *
    rw [iUp_s, iUp_n (show (0 : Int) ≠ 7 by decide), iUp_n (show (3 : Int) ≠ 7 by decide), iUp_n (show (4 : Int) ≠ 7 by decide), iUp_n (show (5 : Int) ≠ 7 by decide), iUp_n (show (6 : Int) ≠ 7 by decide), iUp_n (show (1 : Int) ≠ 7 by decide), iUp_n (show (8 : Int) ≠ 7 by decide), iUp_n (show (11 : Int) ≠ 7 by decide), iUp_n (show (2 : Int) ≠ 7 by decide)]
    exact ⟨hs.1, hs.2.1, hs.2.2.1, hs.2.2.2.1, hs.2.2.2.2.1, ⟨by decide, by decide⟩, hs.2.2.2.2.2.2⟩)
  have a3 : mOk i (iUp (iUp (iUp r 1 k) 7 0) 8 (-2)) := a2.head (by omega) ⟨by decide, by decide⟩ (by
    have hs := a2.2.2.2.2
    unfold mSOk at *
    rw [iUp_s, iUp_n (show (0 : Int) ≠ 8 by decide), iUp_n (show (3 : Int) ≠ 8 by decide), iUp_n (show (4 : Int) ≠ 8 by decide), iUp_n (show (5 : Int) ≠ 8 by decide), iUp_n (show (6 : Int) ≠ 8 by decide), iUp_n (show (7 : Int) ≠ 8 by decide), iUp_n (show (1 : Int) ≠ 8 by decide), iUp_n (show (11 : Int) ≠ 8 by decide), iUp_n (show (2 : Int) ≠ 8 by decide)]
    exact ⟨hs.1, hs.2.1, hs.2.2.1, hs.2.2.2.1, hs.2.2.2.2.1, hs.2.2.2.2.2.1, ⟨by decide, by decide⟩, hs.2.2.2.2.2.2.2⟩)
  exact a3.task h0 (by omega) (by omega) ⟨by decide, by decide⟩ (fun hk => mTOk_4 (a3.2.2.2.1 k h0 hk) (by decide) (by decide))
theorem mFirst_b {i r : Int → Int} (h : mOk i r) {ear tone : Int} (he : 0 ≤ ear ∧ ear ≤ 1) (ht : 0 ≤ tone ∧ tone < i 0) : 0 ≤ mFirst i r ear tone ∧ mFirst i r ear tone ≤ 27 := by
  have := mPT_b h (route := 0) (ear := 1 - ear) (tone := tone) (by omega) (by omega) ht
  unfold mFirst; omega
theorem mBound_b {i r : Int → Int} (h : mOk i r) {ear tone : Int} (he : 0 ≤ ear ∧ ear ≤ 1) (ht : 0 ≤ tone ∧ tone < i 0) : 0 ≤ mBound i r ear tone ∧ mBound i r ear tone ≤ 24 := by
  have := mPT_b h (route := 1) (ear := ear) (tone := tone) (by omega) (by omega) ht
  have := h.1.2.1
  unfold mBound; omega
