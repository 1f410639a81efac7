/-! THE g LAYER, 1: ints as Int, an abstract heap of tagged cells, the judgement gW -/
set_option maxRecDepth 100000
def iI (a : Int) : Int32 := Int32.ofInt a
def gR (a : Int) : Prop := -2147483648 ≤ a ∧ a ≤ 2147483647
def gb (b : Bool) : Int := if b then 1 else 0
theorem iI_toInt {a : Int} (h : gR a) : (iI a).toInt = a := Int32.toInt_ofInt_of_le (by unfold gR at h; omega) (by unfold gR at h; omega)
theorem iI_of (x : Int32) : x = iI x.toInt := (Int32.ofInt_toInt x).symm
theorem gR_toInt (x : Int32) : gR x.toInt := ⟨by have := x.le_toInt; omega, by have := x.toInt_lt; omega⟩
theorem iI_inj {a b : Int} (ha : gR a) (hb : gR b) : iI a = iI b ↔ a = b := ⟨fun h => by rw [← iI_toInt ha, ← iI_toInt hb, h], fun h => by rw [h]⟩
theorem iI_le {a b : Int} (ha : gR a) (hb : gR b) : iI a ≤ iI b ↔ a ≤ b := by rw [Int32.le_iff_toInt_le, iI_toInt ha, iI_toInt hb]
theorem iI_lt {a b : Int} (ha : gR a) (hb : gR b) : iI a < iI b ↔ a < b := by rw [Int32.lt_iff_toInt_lt, iI_toInt ha, iI_toInt hb]
theorem iI_add (a b : Int) : iI a + iI b = iI (a + b) := (Int32.ofInt_add a b).symm
theorem iI_sub (a b : Int) : iI a - iI b = iI (a - b) := (Int32.ofInt_sub a b).symm
theorem iI_mul (a b : Int) : iI a * iI b = iI (a * b) := (Int32.ofInt_mul a b).symm
theorem iI_neg (a : Int) : -(iI a) = iI (-a) := (Int32.ofInt_neg a).symm
theorem iI_0 : iI 0 = 0 := rfl
theorem iI_div {a b : Int} (ha : gR a) (hb : gR b) : iI a / iI b = iI (a.tdiv b) := (Int32.ofInt_tdiv (by show (-2147483648 : Int) ≤ a; exact ha.1) (by show a ≤ (2147483647 : Int); exact ha.2) (by show (-2147483648 : Int) ≤ b; exact hb.1) (by show b ≤ (2147483647 : Int); exact hb.2)).symm
theorem iI_mod {a b : Int} (ha : gR a) (hb : gR b) : iI a % iI b = iI (a.tmod b) := (Int32.ofInt_tmod (by show (-2147483648 : Int) ≤ a; exact ha.1) (by show a ≤ (2147483647 : Int); exact ha.2) (by show (-2147483648 : Int) ≤ b; exact hb.1) (by show b ≤ (2147483647 : Int); exact hb.2)).symm
theorem iI_nat (n : Nat) : iI (n : Int) = nI n := rfl
theorem iI_clamp {a : Int} (h : gR a) (h0 : 0 ≤ a) : (iI a).toNatClampNeg = a.toNat := by
  obtain ⟨n, rfl⟩ := Int.eq_ofNat_of_zero_le h0
  exact nI_clamp (n := n) (by have := h.2; omega)
theorem iI_in {a : Int} {n : Nat} (h0 : 0 ≤ a) (h1 : a < n) (hn : n < 2 ^ 31) : vp_in (iI a) n := by
  obtain ⟨k, rfl⟩ := Int.eq_ofNat_of_zero_le h0
  exact vp_in_nI (by omega) hn
theorem gb_t : gb true = 1 := rfl
theorem gb_f : gb false = 0 := rfl
theorem gb_R (b : Bool) : gR (gb b) := by cases b <;> exact ⟨by decide, by decide⟩
/-- an array's contents after a store -/
def iUp (r : Int → Int) (k v : Int) : Int → Int := fun j => if j = k then v else r j
theorem iUp_s (r : Int → Int) (k v : Int) : iUp r k v k = v := if_pos rfl
theorem iUp_n {r : Int → Int} {k v j : Int} (h : j ≠ k) : iUp r k v j = r j := if_neg h
abbrev gT : Type := Nat × Nat
abbrev gH : Type := Nat → Option (gT × va_E)
abbrev gG : Type := Launch × State × Array Value × va_G × (Nat → ClassId)
abbrev gl (G : gG) : Launch := G.1
abbrev gs0 (G : gG) : State := G.2.1
abbrev ga0 (G : gG) : Array Value := G.2.2.1
abbrev gD (G : gG) : va_G := G.2.2.2.1
abbrev gc (G : gG) : Nat → ClassId := G.2.2.2.2
abbrev gz (G : gG) : Nat := (gs0 G).heap.size
def gUp (h : gH) (a : Nat) (x : gT × va_E) : gH := fun b => if b = a then some x else h b
theorem gUp_s (h : gH) (a : Nat) (x : gT × va_E) : gUp h a x a = some x := if_pos rfl
theorem gUp_n {h : gH} {a b : Nat} {x : gT × va_E} (n : b ≠ a) : gUp h a x b = h b := if_neg n
/-- another cell, by its tag -/
theorem gUp_t {h : gH} {a b : Nat} {x y : gT × va_E} {t : gT} {e : va_E} (ha : h a = some (t, e)) (hb : h b = some y) (n : y.1 ≠ t) : gUp h a x b = some y := by
  rw [gUp_n, hb]
  rintro rfl
  rw [ha] at hb
  exact n (by rw [← Option.some.inj hb])
theorem gUp_f {h : gH} {a b : Nat} {x y : gT × va_E} (ha : h a = none) (hb : h b = some y) : gUp h a x b = some y := by
  rw [gUp_n, hb]
  rintro rfl
  rw [ha] at hb
  cases hb
def gAI (G : gG) (n : Nat) (r : Int → Int) : va_E := .inl (gc G 0, n, .inl (fun j => iI (r j)))
def gAB (G : gG) (n : Nat) (r : Int → Int) : va_E := .inl (gc G 1, n, .inl (fun j => iI (r j)))
def gAZ (G : gG) (n : Nat) (r : Int → Int) : va_E := .inl (gc G 2, n, .inl (fun j => iI (r j)))
def gAL (G : gG) (n : Nat) (r : Nat → Int64) : va_E := .inl (gc G 3, n, .inr (.inl r))
def gAO (G : gG) (n : Nat) (r : Nat → Option Nat) : va_E := .inl (gc G 4, n, .inr (.inr (.inr (.inr r))))
def gcl : List vw_C := [(RX1, TX1, 10), (RX2, TX2, 2), (RX3, TX3, 26), (RX4, TX4, 9), (RX5, TX5, 7), (RX6, TX6, 8), (RX7, TX7, 5), (RX8, TX8, 15), (RX9, TX9, 7), (RX10, TX10, 6), (RX11, TX11, 6), (RX12, TX12, 6), (RX13, TX13, 6), (RJ2, TJ2, 3), (RJ11, TJ11, 1), (RJ15, TJ15, 4), (RJ17, TJ17, 6)]
def gtys (G : gG) : List (ClassId × FieldType) := [(gc G 0, .int), (gc G 1, .byte), (gc G 2, .boolean), (gc G 3, .long), (gc G 4, .object "java/lang/Object")]
/-- the abstract heap h describes H -/
def gV (G : gG) (h : gH) (H : Heap) : Prop := ∀ a x, h a = some x → gz G ≤ a ∧ va_at (gD G) gcl (a, x.2) H
abbrev gA (G : gG) : Nat → Prop := fun q => gz G ≤ q
theorem gV.ws {G : gG} {h : gH} {H : Heap} (hV : gV G h H) : ∃ ws : va_W, va_P (gD G) gcl ws H ∧ va_D (gA G) ws ∧ ∀ b x, h b = some x → ∃ j : Nat, ws[j]? = some (b, x.2) := by
  refine ⟨(List.range H.size).filterMap (fun b => (h b).map fun x => (b, x.2)), ?_, ⟨?_, ?_⟩, ?_⟩
  · intro k q hk
    obtain ⟨b, -, hb⟩ := List.mem_filterMap.mp (List.mem_of_getElem? hk)
    obtain ⟨x, hx, rfl⟩ := Option.map_eq_some_iff.mp hb
    exact (hV b x hx).2
  · intro i j p q hi hj hpq
    have hpw : List.Pairwise (fun (p q : Nat × va_E) => p.1 < q.1) ((List.range H.size).filterMap (fun b => (h b).map fun x => (b, x.2))) := by
      refine List.Pairwise.filterMap _ ?_ List.pairwise_lt_range
      intro a a' haa b hb b' hb'
      obtain ⟨x, -, rfl⟩ := Option.map_eq_some_iff.mp hb
      obtain ⟨x', -, rfl⟩ := Option.map_eq_some_iff.mp hb'
      exact haa
    rw [List.pairwise_iff_getElem] at hpw
    obtain ⟨hi1, hi2⟩ := List.getElem?_eq_some_iff.mp hi
    obtain ⟨hj1, hj2⟩ := List.getElem?_eq_some_iff.mp hj
    rcases Nat.lt_trichotomy i j with c | c | c
    · have := hpw i j hi1 hj1 c
      rw [hi2, hj2] at this
      omega
    · exact c
    · have := hpw j i hj1 hi1 c
      rw [hi2, hj2] at this
      omega
  · intro k q hk
    obtain ⟨b, -, hb⟩ := List.mem_filterMap.mp (List.mem_of_getElem? hk)
    obtain ⟨x, hx, rfl⟩ := Option.map_eq_some_iff.mp hb
    exact (hV b x hx).1
  · intro b x hx
    have hlt : b < H.size := va_at.lt (hV b x hx).2
    exact List.mem_iff_getElem?.mp (List.mem_filterMap.mpr ⟨b, List.mem_range.mpr hlt, by rw [hx]; rfl⟩)
theorem gV.set {G : gG} {h : gH} {ws : va_W} {a q0 : Nat} {e0 e : va_E} {t : gT} {H1 : Heap} (hD : va_D (gA G) ws) (hw : ∀ b x, h b = some x → ∃ j : Nat, ws[j]? = some (b, x.2)) (h0 : ws[q0]? = some (a, e0)) (hP : va_P (gD G) gcl (ws.set q0 (a, e)) H1) : gV G (gUp h a (t, e)) H1 := by
  intro b x hb
  have hl : q0 < ws.length := (List.getElem?_eq_some_iff.mp h0).1
  by_cases c : b = a
  · subst c
    rw [gUp_s] at hb
    cases hb
    exact ⟨hD.2 q0 _ h0, hP q0 (b, e) (by rw [List.getElem?_set_self hl])⟩
  · rw [gUp_n c] at hb
    obtain ⟨j, hj⟩ := hw b x hb
    refine ⟨hD.2 j _ hj, hP j (b, x.2) ?_⟩
    rw [List.getElem?_set_ne, hj]
    rintro rfl
    rw [h0] at hj
    exact c (congrArg Prod.fst (Option.some.inj hj)).symm
theorem gV.push {G : gG} {h : gH} {ws : va_W} {a : Nat} {e : va_E} {H1 : Heap} (hw : ∀ b x, h b = some x → ∃ j : Nat, ws[j]? = some (b, x.2)) (hD : va_D (gA G) (ws ++ [(a, e)])) (hP : va_P (gD G) gcl (ws ++ [(a, e)]) H1) : h a = none ∧ ∀ t : gT, gV G (gUp h a (t, e)) H1 := by
  have hl : (ws ++ [(a, e)])[ws.length]? = some (a, e) := by simp
  have hn : h a = none := by
    cases hc : h a with
    | none => rfl
    | some x =>
      obtain ⟨j, hj⟩ := hw a x hc
      have hjl : j < ws.length := (List.getElem?_eq_some_iff.mp hj).1
      have := hD.1 j ws.length (a, x.2) (a, e) (by rw [List.getElem?_append_left hjl]; exact hj) hl rfl
      omega
  refine ⟨hn, fun t b x hb => ?_⟩
  by_cases c : b = a
  · subst c
    rw [gUp_s] at hb
    cases hb
    exact ⟨hD.2 _ _ hl, hP _ _ hl⟩
  · rw [gUp_n c] at hb
    obtain ⟨j, hj⟩ := hw b x hb
    have hjl : j < ws.length := (List.getElem?_eq_some_iff.mp hj).1
    have hj2 : (ws ++ [(a, e)])[j]? = some (b, x.2) := by rw [List.getElem?_append_left hjl]; exact hj
    exact ⟨hD.2 j _ hj2, hP j _ hj2⟩
/-- a cell is forgotten, or a heap seen as smaller -/
theorem gV.mono {G : gG} {h h' : gH} {H : Heap} (hV : gV G h H) (hs : ∀ a x, h' a = some x → h a = some x) : gV G h' H := fun a x hx => hV a x (hs a x hx)
