/-! THE g LAYER, 6: an array's content, seen on its own range -/
theorem arrV_same {cA : ClassId} {n : Nat} {f f' : Nat → Value} (e : ∀ j, j < n → f j = f' j) : arrV cA n f = arrV cA n f' := by
  unfold arrV
  simp [e]
theorem gV.arr {G : gG} {h : gH} {H : Heap} {a n : Nat} {t : gT} {r r' : Int → Int} (hV : gV G h H) (ha : h a = some (t, gAI G n r)) (e : ∀ j : Int, 0 ≤ j → j < n → r j = r' j) : gV G (gUp h a (t, gAI G n r')) H := by
  intro b x hb
  by_cases c : b = a
  · subst c
    rw [gUp_s] at hb
    cases hb
    refine ⟨(hV b _ ha).1, ?_⟩
    have h1 : H[b]? = some (arrV (gc G 0) n (fun j => .int (iI (r j)))) := (hV b _ ha).2
    show H[b]? = some (arrV (gc G 0) n (fun j => .int (iI (r' j))))
    rw [h1, arrV_same (fun j hj => by rw [e j (by omega) (by omega)])]
  · rw [gUp_n c] at hb
    exact hV b x hb
/-- an int array's content may be named anew, the same on its range -/
theorem gW.arr {G : gG} {X : gE} {cc : ByteArray} {nL : Nat} {own : String} {fr : Nat} {ret : Option FieldType} {h : gH} {kc ks pc : Nat} {lv : List (Nat × Value)} {st : List Value} (C : gCtx G X cc nL own fr ret) {a n : Nat} {t : gT} {r : Int → Int} (r' : Int → Int) (ha : h a = some (t, gAI G n r)) (e : ∀ j : Int, 0 ≤ j → j < n → r j = r' j) (k : ∀ h1 : gH, h1 = gUp h a (t, gAI G n r') → gW X h1 kc ks pc lv st) : gW X h kc ks pc lv st := by
  obtain ⟨G9, p, e9, R, s, m, args, below, meth, c, Q⟩ := X
  obtain ⟨rfl, -⟩ := C
  intro H locs cells slots ls hV hS h1 h2 hl
  exact k _ rfl H locs cells slots ls (hV.arr ha e) hS h1 h2 hl
