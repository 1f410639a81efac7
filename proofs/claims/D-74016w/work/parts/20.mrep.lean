/-! THE REFERENCE's cells: one object, nine arrays (printed by tools/gen_m.py) -/
set_option maxRecDepth 100000
def mFs (ad : Nat → Nat) (f : Nat → Int) : List Value := [.int (iI (f 0)), .int (iI (f 1)), .int (iI (f 2)), .int (iI (f 3)), .ref (ad 4), .int (iI (f 5)), .ref (ad 6), .ref (ad 7), .int (iI (f 8)), .int (iI (f 9)), .int (iI (f 10)), .int (iI (f 11)), .int (iI (f 12)), .int (iI (f 13)), .int (iI (f 14)), .int (iI (f 15)), .int (iI (f 16)), .int (iI (f 17)), .ref (ad 18), .ref (ad 19), .ref (ad 20), .ref (ad 21), .ref (ad 22), .int (iI (f 23)), .ref (ad 24), .int (iI (f 25))]
def mRep (G : gG) (h : gH) (m : Nat) (ad : Nat → Nat) (f : Nat → Int) (g : Nat → Int → Int) : Prop := h m = some ((40, 0), .inr (2, mFs ad f)) ∧ h (ad 4) = some ((40, 4), gAI G 700 (g 4)) ∧ h (ad 6) = some ((40, 6), gAI G 42 (g 6)) ∧ h (ad 7) = some ((40, 7), gAI G 42 (g 7)) ∧ h (ad 18) = some ((40, 18), gAI G 1840 (g 18)) ∧ h (ad 19) = some ((40, 19), gAI G 1840 (g 19)) ∧ h (ad 20) = some ((40, 20), gAI G 25 (g 20)) ∧ h (ad 21) = some ((40, 21), gAI G 25 (g 21)) ∧ h (ad 22) = some ((40, 22), gAI G 25 (g 22)) ∧ h (ad 24) = some ((40, 24), gAI G 24 (g 24))
abbrev mR : Nat → Prop := fun r => r = 40 ∨ r = 41
def mSt (G : gG) (h0 h : gH) (m : Nat) (ad : Nat → Nat) (f : Nat → Int) (g : Nat → Int → Int) : Prop := mRep G h m ad f g ∧ gAgr mR h0 h
section MS
variable {G : gG} {h0 h h1 : gH} {m : Nat} {ad : Nat → Nat} {f : Nat → Int} {g : Nat → Int → Int}
theorem mSt.o (M : mSt G h0 h m ad f g) : h m = some ((40, 0), .inr (2, mFs ad f)) := M.1.1
theorem mSt.a4 (M : mSt G h0 h m ad f g) : h (ad 4) = some ((40, 4), gAI G 700 (g 4)) := M.1.2.1
theorem mSt.a6 (M : mSt G h0 h m ad f g) : h (ad 6) = some ((40, 6), gAI G 42 (g 6)) := M.1.2.2.1
theorem mSt.a7 (M : mSt G h0 h m ad f g) : h (ad 7) = some ((40, 7), gAI G 42 (g 7)) := M.1.2.2.2.1
theorem mSt.a18 (M : mSt G h0 h m ad f g) : h (ad 18) = some ((40, 18), gAI G 1840 (g 18)) := M.1.2.2.2.2.1
theorem mSt.a19 (M : mSt G h0 h m ad f g) : h (ad 19) = some ((40, 19), gAI G 1840 (g 19)) := M.1.2.2.2.2.2.1
theorem mSt.a20 (M : mSt G h0 h m ad f g) : h (ad 20) = some ((40, 20), gAI G 25 (g 20)) := M.1.2.2.2.2.2.2.1
theorem mSt.a21 (M : mSt G h0 h m ad f g) : h (ad 21) = some ((40, 21), gAI G 25 (g 21)) := M.1.2.2.2.2.2.2.2.1
theorem mSt.a22 (M : mSt G h0 h m ad f g) : h (ad 22) = some ((40, 22), gAI G 25 (g 22)) := M.1.2.2.2.2.2.2.2.2.1
theorem mSt.a24 (M : mSt G h0 h m ad f g) : h (ad 24) = some ((40, 24), gAI G 24 (g 24)) := M.1.2.2.2.2.2.2.2.2.2
theorem mSt.put (M : mSt G h0 h m ad f g) {fs2 : List Value} (hh : h1 = gUp h m ((40, 0), .inr (2, fs2))) {k : Nat} {v : Int} (e : fs2 = mFs ad (va_up f k v)) : mSt G h0 h1 m ad (va_up f k v) g :=
  ⟨⟨by rw [gUp_s1 hh, e], gUp_t1 hh M.o M.a4 (by decide), gUp_t1 hh M.o M.a6 (by decide), gUp_t1 hh M.o M.a7 (by decide), gUp_t1 hh M.o M.a18 (by decide), gUp_t1 hh M.o M.a19 (by decide), gUp_t1 hh M.o M.a20 (by decide), gUp_t1 hh M.o M.a21 (by decide), gUp_t1 hh M.o M.a22 (by decide), gUp_t1 hh M.o M.a24 (by decide)⟩, M.2.trans (gAgr.up hh M.o (Or.inl rfl))⟩
theorem mSt.st4 (M : mSt G h0 h m ad f g) {r : Int → Int} (hh : h1 = gUp h (ad 4) ((40, 4), gAI G 700 r)) : mSt G h0 h1 m ad f (va_up g 4 r) :=
  ⟨⟨gUp_t1 hh M.a4 M.o (by decide), gUp_s1 hh, gUp_t1 hh M.a4 M.a6 (by decide), gUp_t1 hh M.a4 M.a7 (by decide), gUp_t1 hh M.a4 M.a18 (by decide), gUp_t1 hh M.a4 M.a19 (by decide), gUp_t1 hh M.a4 M.a20 (by decide), gUp_t1 hh M.a4 M.a21 (by decide), gUp_t1 hh M.a4 M.a22 (by decide), gUp_t1 hh M.a4 M.a24 (by decide)⟩, M.2.trans (gAgr.up hh M.a4 (Or.inl rfl))⟩
theorem mSt.st6 (M : mSt G h0 h m ad f g) {r : Int → Int} (hh : h1 = gUp h (ad 6) ((40, 6), gAI G 42 r)) : mSt G h0 h1 m ad f (va_up g 6 r) :=
  ⟨⟨gUp_t1 hh M.a6 M.o (by decide), gUp_t1 hh M.a6 M.a4 (by decide), gUp_s1 hh, gUp_t1 hh M.a6 M.a7 (by decide), gUp_t1 hh M.a6 M.a18 (by decide), gUp_t1 hh M.a6 M.a19 (by decide), gUp_t1 hh M.a6 M.a20 (by decide), gUp_t1 hh M.a6 M.a21 (by decide), gUp_t1 hh M.a6 M.a22 (by decide), gUp_t1 hh M.a6 M.a24 (by decide)⟩, M.2.trans (gAgr.up hh M.a6 (Or.inl rfl))⟩
theorem mSt.st7 (M : mSt G h0 h m ad f g) {r : Int → Int} (hh : h1 = gUp h (ad 7) ((40, 7), gAI G 42 r)) : mSt G h0 h1 m ad f (va_up g 7 r) :=
  ⟨⟨gUp_t1 hh M.a7 M.o (by decide), gUp_t1 hh M.a7 M.a4 (by decide), gUp_t1 hh M.a7 M.a6 (by decide), gUp_s1 hh, gUp_t1 hh M.a7 M.a18 (by decide), gUp_t1 hh M.a7 M.a19 (by decide), gUp_t1 hh M.a7 M.a20 (by decide), gUp_t1 hh M.a7 M.a21 (by decide), gUp_t1 hh M.a7 M.a22 (by decide), gUp_t1 hh M.a7 M.a24 (by decide)⟩, M.2.trans (gAgr.up hh M.a7 (Or.inl rfl))⟩
theorem mSt.st18 (M : mSt G h0 h m ad f g) {r : Int → Int} (hh : h1 = gUp h (ad 18) ((40, 18), gAI G 1840 r)) : mSt G h0 h1 m ad f (va_up g 18 r) :=
  ⟨⟨gUp_t1 hh M.a18 M.o (by decide), gUp_t1 hh M.a18 M.a4 (by decide), gUp_t1 hh M.a18 M.a6 (by decide), gUp_t1 hh M.a18 M.a7 (by decide), gUp_s1 hh, gUp_t1 hh M.a18 M.a19 (by decide), gUp_t1 hh M.a18 M.a20 (by decide), gUp_t1 hh M.a18 M.a21 (by decide), gUp_t1 hh M.a18 M.a22 (by decide), gUp_t1 hh M.a18 M.a24 (by decide)⟩, M.2.trans (gAgr.up hh M.a18 (Or.inl rfl))⟩
theorem mSt.st19 (M : mSt G h0 h m ad f g) {r : Int → Int} (hh : h1 = gUp h (ad 19) ((40, 19), gAI G 1840 r)) : mSt G h0 h1 m ad f (va_up g 19 r) :=
  ⟨⟨gUp_t1 hh M.a19 M.o (by decide), gUp_t1 hh M.a19 M.a4 (by decide), gUp_t1 hh M.a19 M.a6 (by decide), gUp_t1 hh M.a19 M.a7 (by decide), gUp_t1 hh M.a19 M.a18 (by decide), gUp_s1 hh, gUp_t1 hh M.a19 M.a20 (by decide), gUp_t1 hh M.a19 M.a21 (by decide), gUp_t1 hh M.a19 M.a22 (by decide), gUp_t1 hh M.a19 M.a24 (by decide)⟩, M.2.trans (gAgr.up hh M.a19 (Or.inl rfl))⟩
theorem mSt.st20 (M : mSt G h0 h m ad f g) {r : Int → Int} (hh : h1 = gUp h (ad 20) ((40, 20), gAI G 25 r)) : mSt G h0 h1 m ad f (va_up g 20 r) :=
  ⟨⟨gUp_t1 hh M.a20 M.o (by decide), gUp_t1 hh M.a20 M.a4 (by decide), gUp_t1 hh M.a20 M.a6 (by decide), gUp_t1 hh M.a20 M.a7 (by decide), gUp_t1 hh M.a20 M.a18 (by decide), gUp_t1 hh M.a20 M.a19 (by decide), gUp_s1 hh, gUp_t1 hh M.a20 M.a21 (by decide), gUp_t1 hh M.a20 M.a22 (by decide), gUp_t1 hh M.a20 M.a24 (by decide)⟩, M.2.trans (gAgr.up hh M.a20 (Or.inl rfl))⟩
theorem mSt.st21 (M : mSt G h0 h m ad f g) {r : Int → Int} (hh : h1 = gUp h (ad 21) ((40, 21), gAI G 25 r)) : mSt G h0 h1 m ad f (va_up g 21 r) :=
  ⟨⟨gUp_t1 hh M.a21 M.o (by decide), gUp_t1 hh M.a21 M.a4 (by decide), gUp_t1 hh M.a21 M.a6 (by decide), gUp_t1 hh M.a21 M.a7 (by decide), gUp_t1 hh M.a21 M.a18 (by decide), gUp_t1 hh M.a21 M.a19 (by decide), gUp_t1 hh M.a21 M.a20 (by decide), gUp_s1 hh, gUp_t1 hh M.a21 M.a22 (by decide), gUp_t1 hh M.a21 M.a24 (by decide)⟩, M.2.trans (gAgr.up hh M.a21 (Or.inl rfl))⟩
theorem mSt.st22 (M : mSt G h0 h m ad f g) {r : Int → Int} (hh : h1 = gUp h (ad 22) ((40, 22), gAI G 25 r)) : mSt G h0 h1 m ad f (va_up g 22 r) :=
  ⟨⟨gUp_t1 hh M.a22 M.o (by decide), gUp_t1 hh M.a22 M.a4 (by decide), gUp_t1 hh M.a22 M.a6 (by decide), gUp_t1 hh M.a22 M.a7 (by decide), gUp_t1 hh M.a22 M.a18 (by decide), gUp_t1 hh M.a22 M.a19 (by decide), gUp_t1 hh M.a22 M.a20 (by decide), gUp_t1 hh M.a22 M.a21 (by decide), gUp_s1 hh, gUp_t1 hh M.a22 M.a24 (by decide)⟩, M.2.trans (gAgr.up hh M.a22 (Or.inl rfl))⟩
theorem mSt.st24 (M : mSt G h0 h m ad f g) {r : Int → Int} (hh : h1 = gUp h (ad 24) ((40, 24), gAI G 24 r)) : mSt G h0 h1 m ad f (va_up g 24 r) :=
  ⟨⟨gUp_t1 hh M.a24 M.o (by decide), gUp_t1 hh M.a24 M.a4 (by decide), gUp_t1 hh M.a24 M.a6 (by decide), gUp_t1 hh M.a24 M.a7 (by decide), gUp_t1 hh M.a24 M.a18 (by decide), gUp_t1 hh M.a24 M.a19 (by decide), gUp_t1 hh M.a24 M.a20 (by decide), gUp_t1 hh M.a24 M.a21 (by decide), gUp_t1 hh M.a24 M.a22 (by decide), gUp_s1 hh⟩, M.2.trans (gAgr.up hh M.a24 (Or.inl rfl))⟩
theorem mSt.kept (M : mSt G h0 h m ad f g) (hA : gAgr (fun r => r ≠ 40) h h1) : mRep G h1 m ad f g :=
  ⟨hA.1 _ _ _ M.o (fun q => q rfl), hA.1 _ _ _ M.a4 (fun q => q rfl), hA.1 _ _ _ M.a6 (fun q => q rfl), hA.1 _ _ _ M.a7 (fun q => q rfl), hA.1 _ _ _ M.a18 (fun q => q rfl), hA.1 _ _ _ M.a19 (fun q => q rfl), hA.1 _ _ _ M.a20 (fun q => q rfl), hA.1 _ _ _ M.a21 (fun q => q rfl), hA.1 _ _ _ M.a22 (fun q => q rfl), hA.1 _ _ _ M.a24 (fun q => q rfl)⟩
theorem mSt.u1 {k : Nat} {b c : Int → Int} (M : mSt G h0 h m ad f (va_up g k b)) (e : b = c) : mSt G h0 h m ad f (va_up g k c) := e ▸ M
theorem mSt.u0 {k : Nat} (M : mSt G h0 h m ad f g) : mSt G h0 h m ad f (va_up g k (g k)) := by
  rw [show va_up g k (g k) = g from funext fun j => by unfold va_up; split <;> simp [*]]
  exact M
theorem mSt.uu {k : Nat} {a b c : Int → Int} (M : mSt G h0 h m ad f (va_up (va_up g k a) k b)) (e : b = c) : mSt G h0 h m ad f (va_up g k c) := by
  rw [bx_uu] at M
  exact e ▸ M
/-- a cell of its own beside: made, changed -/
theorem mSt.nw (M : mSt G h0 h m ad f g) {a : Nat} {x : gT × va_E} (hn : h a = none) (hh : h1 = gUp h a x) : mSt G h0 h1 m ad f g :=
  ⟨⟨gUp_f1 hh hn M.o, gUp_f1 hh hn M.a4, gUp_f1 hh hn M.a6, gUp_f1 hh hn M.a7, gUp_f1 hh hn M.a18, gUp_f1 hh hn M.a19, gUp_f1 hh hn M.a20, gUp_f1 hh hn M.a21, gUp_f1 hh hn M.a22, gUp_f1 hh hn M.a24⟩, M.2.trans (gAgr.new hh hn)⟩
theorem mSt.kp (M : mSt G h0 h m ad f g) {a j : Nat} {e e2 : va_E} (hn0 : h0 a = none) (ha : h a = some ((42, j), e)) (hh : h1 = gUp h a ((42, j), e2)) : mSt G h0 h1 m ad f g :=
  ⟨⟨gUp_t1 hh ha M.o (fun z => absurd (show (40 : Nat) = 42 from congrArg Prod.fst z) (by decide)), gUp_t1 hh ha M.a4 (fun z => absurd (show (40 : Nat) = 42 from congrArg Prod.fst z) (by decide)), gUp_t1 hh ha M.a6 (fun z => absurd (show (40 : Nat) = 42 from congrArg Prod.fst z) (by decide)), gUp_t1 hh ha M.a7 (fun z => absurd (show (40 : Nat) = 42 from congrArg Prod.fst z) (by decide)), gUp_t1 hh ha M.a18 (fun z => absurd (show (40 : Nat) = 42 from congrArg Prod.fst z) (by decide)), gUp_t1 hh ha M.a19 (fun z => absurd (show (40 : Nat) = 42 from congrArg Prod.fst z) (by decide)), gUp_t1 hh ha M.a20 (fun z => absurd (show (40 : Nat) = 42 from congrArg Prod.fst z) (by decide)), gUp_t1 hh ha M.a21 (fun z => absurd (show (40 : Nat) = 42 from congrArg Prod.fst z) (by decide)), gUp_t1 hh ha M.a22 (fun z => absurd (show (40 : Nat) = 42 from congrArg Prod.fst z) (by decide)), gUp_t1 hh ha M.a24 (fun z => absurd (show (40 : Nat) = 42 from congrArg Prod.fst z) (by decide))⟩, M.2.upn hn0 hh⟩
theorem mSt.here (M : mSt G h0 h m ad f g) : mSt G h h m ad f g := ⟨M.1, gAgr.rf⟩
theorem mSt.since {f' : Nat → Int} {g' : Nat → Int → Int} (M : mSt G h0 h m ad f g) (N : mSt G h h1 m ad f' g') : mSt G h0 h1 m ad f' g' := ⟨N.1, M.2.trans N.2⟩
theorem mSt.cell42 {f' : Nat → Int} {g' : Nat → Int → Int} (N : mSt G h h1 m ad f' g') {a j : Nat} {e : va_E} (ha : h a = some ((42, j), e)) : h1 a = some ((42, j), e) :=
  N.2.1 _ _ _ ha (fun q => by rcases q with q | q <;> exact absurd (show (42 : Nat) = _ from q) (by decide))
end MS
