/-! THE g LAYER, 3: rows with heap (printed by tools/gen_heap.py) -/
set_option maxRecDepth 100000
/-- a class of the list gcl: its number, its words, its fields' types -/
def gCls (ci : Nat) (R : String) (T : u_T) (N : Nat) (ty : Nat → FieldType) : Prop := gcl[ci]? = some (R, T, N) ∧ (∀ w ∈ u_ws R T N, w ∈ lw_all) ∧ (∀ k, k < N → parseFieldDescriptor (T k).2.2.1 = some (ty k)) ∧ ∀ a, a < N → ∀ b, b < N → a ≠ b → (T a).2.1 ≠ (T b).2.1
/-- a field word of a nest mate, or another word that doesn't ride -/
theorem gB.fN {G : gG} {U : State} (h : gB G U) {a : String} {i : Nat} {b n d x : String} (hw : Cond.fieldLinkNest a i b n d x ∈ lw_tbl) (A : Array Value) : (Cond.fieldLinkNest a i b n d x).before A U = true :=
  va_Nw.use rfl (va_Nw.warmF h.2.1 (va_Nw.of rfl (h.1.1 _ hw)))
section GH
variable {G : gG} {X : gE} {cc : ByteArray} {nL : Nat} {own : String} {fr : Nat} {ret : Option FieldType} {h : gH} {kc ks pc : Nat} {lv lv' : List (Nat × Value)} {st : List Value} {i v : Int} {a : Nat} {t : gT}
theorem gP1 {H : Heap} {x : gT × va_E} (hV : gV G h H) (hx : h a = some x) : va_P (gD G) gcl [(a, x.2)] H := by
  intro k q hk
  have hz : k < 1 := (List.getElem?_eq_some_iff.mp hk).1
  rw [show k = 0 by omega] at hk
  cases hk
  exact (hV a x hx).2
def gIni (X : gE) : Prop := match X with | (_, _, _, _, _, _, _, _, meth, _, _) => meth.name = "<init>"
theorem g_get (C : gCtx G X cc nL own fr ret) {index : Nat} (d : decode cc pc = .ok (.getfield index, 3)) {ci : Nat} {CR : String} {T : u_T} {N : Nat} {ty : Nat → FieldType} (Kc : gCls ci CR T N ty) {ref : String} {fs : List Value} (k : Nat) (hlink : Cond.fieldLink own index ref (T k).2.1 (T k).2.2.1 ∈ lw_all) (hsame : ∀ (s : State) (args : Array Value), (∀ w ∈ lw_all, w.before args s = true) → ∀ x, s.fieldFound? (T k).1 (T k).2.1 (T k).2.2.1 = some x → s.fieldFound? ref (T k).2.1 (T k).2.2.1 = some x) (ha : h a = some (t, .inr (ci, fs))) (hk : k < N) {w : Value} (hw : fs[k]? = some w) (kk : gW X h kc ks (pc + 3) lv (w :: st)) : gW X h kc ks pc lv (.ref a :: st) := by
  obtain ⟨G9, p, e, R, s, m, args, below, meth, c, Q⟩ := X
  obtain ⟨rfl, hx, hb, hml, hown, hlk, hrt, hfr, hlo, hB⟩ := C
  intro H locs cells slots ls hV hS h1 h2 hl
  have hts : ∀ w ∈ lw_all, w.before args s = true := fun w hw => hB.w hw args
  exact va_get hx hb hts Kc.2.1 hown hB.K (gP1 hV ha) 0 rfl Kc.1 k hk (hts _ hlink) (hsame s args hts) hw d (kk H locs cells slots ls hV hS h1 h2 hl)
theorem g_getN (C : gCtx G X cc nL own fr ret) {index : Nat} {host : String} (d : decode cc pc = .ok (.getfield index, 3)) {ci : Nat} {CR : String} {T : u_T} {N : Nat} {ty : Nat → FieldType} (Kc : gCls ci CR T N ty) {ref : String} {fs : List Value} (k : Nat) (hlink : Cond.fieldLinkNest own index ref (T k).2.1 (T k).2.2.1 host ∈ lw_tbl) (hsame : ∀ (s : State) (args : Array Value), (∀ w ∈ lw_all, w.before args s = true) → ∀ x, s.fieldFound? (T k).1 (T k).2.1 (T k).2.2.1 = some x → s.fieldFound? ref (T k).2.1 (T k).2.2.1 = some x) (ha : h a = some (t, .inr (ci, fs))) (hk : k < N) {w : Value} (hw : fs[k]? = some w) (kk : gW X h kc ks (pc + 3) lv (w :: st)) : gW X h kc ks pc lv (.ref a :: st) := by
  obtain ⟨G9, p, e, R, s, m, args, below, meth, c, Q⟩ := X
  obtain ⟨rfl, hx, hb, hml, hown, hlk, hrt, hfr, hlo, hB⟩ := C
  intro H locs cells slots ls hV hS h1 h2 hl
  have hts : ∀ w ∈ lw_all, w.before args s = true := fun w hw => hB.w hw args
  exact va_getN hx hb hts Kc.2.1 hown hB.K (gP1 hV ha) 0 rfl Kc.1 k hk (hB.fN hlink args) (hsame s args hts) hw d (kk H locs cells slots ls hV hS h1 h2 hl)
theorem g_put (C : gCtx G X cc nL own fr ret) {index : Nat} (d : decode cc pc = .ok (.putfield index, 3)) {ci : Nat} {CR : String} {T : u_T} {N : Nat} {ty : Nat → FieldType} (Kc : gCls ci CR T N ty) {ref : String} {fs fs2 : List Value} (k : Nat) (hlink : Cond.fieldLink own index ref (T k).2.1 (T k).2.2.1 ∈ lw_all) (hsame : ∀ (s : State) (args : Array Value), (∀ w ∈ lw_all, w.before args s = true) → ∀ x, s.fieldFound? (T k).1 (T k).2.1 (T k).2.2.1 = some x → s.fieldFound? ref (T k).2.1 (T k).2.2.1 = some x) (ha : h a = some (t, .inr (ci, fs))) (hfin : (T k).2.2.2 = false) (hk : k < N) {w : Value} (hn : narrow (ty k) w = w) (hfit : fits (ty k) w = true) (hlen : k < fs.length) (hs2 : fs.set k w = fs2) (kk : ∀ h1 : gH, h1 = gUp h a (t, .inr (ci, fs2)) → gW X h1 kc ks (pc + 3) lv st) : gW X h kc ks pc lv (w :: .ref a :: st) := by
  obtain ⟨G9, p, e, R, s, m, args, below, meth, c, Q⟩ := X
  obtain ⟨rfl, hx, hb, hml, hown, hlk, hrt, hfr, hlo, hB⟩ := C
  intro H locs cells slots ls hV hS h1 h2 hl
  have hts : ∀ w ∈ lw_all, w.before args s = true := fun w hw => hB.w hw args
  obtain ⟨ws, hP, hD, hw9⟩ := hV.ws
  obtain ⟨q0, h0⟩ := hw9 _ _ ha
  exact va_put hx hb hts Kc.2.1 ty Kc.2.2.1 Kc.2.2.2 hown hB.K hP hD hS q0 h0 Kc.1 k hk (hts _ hlink) (hsame s args hts) hfin (Kc.2.2.1 k hk) hn hfit hlen d (fun H1 locs1 hP1 _ hS1 => kk _ rfl H1 locs1 cells slots ls (gV.set hD hw9 h0 (by rw [← hs2]; exact hP1)) hS1 h1 h2 hl)
theorem g_putN (C : gCtx G X cc nL own fr ret) {index : Nat} {host : String} (d : decode cc pc = .ok (.putfield index, 3)) {ci : Nat} {CR : String} {T : u_T} {N : Nat} {ty : Nat → FieldType} (Kc : gCls ci CR T N ty) {ref : String} {fs fs2 : List Value} (k : Nat) (hlink : Cond.fieldLinkNest own index ref (T k).2.1 (T k).2.2.1 host ∈ lw_tbl) (hsame : ∀ (s : State) (args : Array Value), (∀ w ∈ lw_all, w.before args s = true) → ∀ x, s.fieldFound? (T k).1 (T k).2.1 (T k).2.2.1 = some x → s.fieldFound? ref (T k).2.1 (T k).2.2.1 = some x) (ha : h a = some (t, .inr (ci, fs))) (hfin : (T k).2.2.2 = false) (hk : k < N) {w : Value} (hn : narrow (ty k) w = w) (hfit : fits (ty k) w = true) (hlen : k < fs.length) (hs2 : fs.set k w = fs2) (kk : ∀ h1 : gH, h1 = gUp h a (t, .inr (ci, fs2)) → gW X h1 kc ks (pc + 3) lv st) : gW X h kc ks pc lv (w :: .ref a :: st) := by
  obtain ⟨G9, p, e, R, s, m, args, below, meth, c, Q⟩ := X
  obtain ⟨rfl, hx, hb, hml, hown, hlk, hrt, hfr, hlo, hB⟩ := C
  intro H locs cells slots ls hV hS h1 h2 hl
  have hts : ∀ w ∈ lw_all, w.before args s = true := fun w hw => hB.w hw args
  obtain ⟨ws, hP, hD, hw9⟩ := hV.ws
  obtain ⟨q0, h0⟩ := hw9 _ _ ha
  exact va_putN hx hb hts Kc.2.1 ty Kc.2.2.1 Kc.2.2.2 hown hB.K hP hD hS q0 h0 Kc.1 k hk (hB.fN hlink args) (hsame s args hts) hfin (Kc.2.2.1 k hk) hn hfit hlen d (fun H1 locs1 hP1 _ hS1 => kk _ rfl H1 locs1 cells slots ls (gV.set hD hw9 h0 (by rw [← hs2]; exact hP1)) hS1 h1 h2 hl)
theorem g_putF (C : gCtx G X cc nL own fr ret) {index : Nat} (hini : gIni X) (d : decode cc pc = .ok (.putfield index, 3)) {ci : Nat} {CR : String} {T : u_T} {N : Nat} {ty : Nat → FieldType} (Kc : gCls ci CR T N ty) {ref : String} {fs fs2 : List Value} (k : Nat) (hlink : Cond.fieldLink own index ref (T k).2.1 (T k).2.2.1 ∈ lw_all) (hsame : ∀ (s : State) (args : Array Value), (∀ w ∈ lw_all, w.before args s = true) → ∀ x, s.fieldFound? (T k).1 (T k).2.1 (T k).2.2.1 = some x → s.fieldFound? ref (T k).2.1 (T k).2.2.1 = some x) (ha : h a = some (t, .inr (ci, fs))) (hfin : (T k).2.2.2 = true) (hdecl : (T k).1 = own) (hk : k < N) {w : Value} (hn : narrow (ty k) w = w) (hfit : fits (ty k) w = true) (hlen : k < fs.length) (hs2 : fs.set k w = fs2) (kk : ∀ h1 : gH, h1 = gUp h a (t, .inr (ci, fs2)) → gW X h1 kc ks (pc + 3) lv st) : gW X h kc ks pc lv (w :: .ref a :: st) := by
  obtain ⟨G9, p, e, R, s, m, args, below, meth, c, Q⟩ := X
  obtain ⟨rfl, hx, hb, hml, hown, hlk, hrt, hfr, hlo, hB⟩ := C
  intro H locs cells slots ls hV hS h1 h2 hl
  have hts : ∀ w ∈ lw_all, w.before args s = true := fun w hw => hB.w hw args
  obtain ⟨ws, hP, hD, hw9⟩ := hV.ws
  obtain ⟨q0, h0⟩ := hw9 _ _ ha
  exact va_putF hx hb hts Kc.2.1 ty Kc.2.2.1 Kc.2.2.2 hown hB.K hP hD hS q0 h0 Kc.1 k hk (hts _ hlink) (hsame s args hts) hfin hini hdecl (Kc.2.2.1 k hk) hn hfit hlen d (fun H1 locs1 hP1 _ hS1 => kk _ rfl H1 locs1 cells slots ls (gV.set hD hw9 h0 (by rw [← hs2]; exact hP1)) hS1 h1 h2 hl)
theorem g_iald (C : gCtx G X cc nL own fr ret) (d : decode cc pc = .ok (.iaload, 1)) {n : Nat} {r : Int → Int} (ha : h a = some (t, (gAI G n r))) (hn : n < 2147483648) (h0 : 0 ≤ i) (hi : i < n) (hv : r i = v) (kk : gW X h kc ks (pc + 1) lv (.int (iI v) :: st)) : gW X h kc ks pc lv (.int (iI i) :: .ref a :: st) := by
  obtain ⟨G9, p, e, R, s, m, args, below, meth, c, Q⟩ := X
  obtain ⟨rfl, hx, hb, hml, hown, hlk, hrt, hfr, hlo, hB⟩ := C
  intro H locs cells slots ls hV hS h1 h2 hl
  have hts : ∀ w ∈ lw_all, w.before args s = true := fun w hw => hB.w hw args
  refine va_iald hx hb hB.K (gP1 hV ha) 0 0 rfl rfl (iI_in h0 hi hn) d ?_
  rw [iI_clamp ⟨by omega, by omega⟩ h0, Int.toNat_of_nonneg h0, hv]
  exact kk H locs cells slots ls hV hS h1 h2 hl
theorem g_bald (C : gCtx G X cc nL own fr ret) (d : decode cc pc = .ok (.baload, 1)) {n : Nat} {r : Int → Int} (ha : h a = some (t, (gAB G n r))) (hn : n < 2147483648) (h0 : 0 ≤ i) (hi : i < n) (hv : r i = v) (kk : gW X h kc ks (pc + 1) lv (.int (iI v) :: st)) : gW X h kc ks pc lv (.int (iI i) :: .ref a :: st) := by
  obtain ⟨G9, p, e, R, s, m, args, below, meth, c, Q⟩ := X
  obtain ⟨rfl, hx, hb, hml, hown, hlk, hrt, hfr, hlo, hB⟩ := C
  intro H locs cells slots ls hV hS h1 h2 hl
  have hts : ∀ w ∈ lw_all, w.before args s = true := fun w hw => hB.w hw args
  refine va_bald hx hb hB.K (gP1 hV ha) 0 1 rfl rfl (iI_in h0 hi hn) d ?_
  rw [iI_clamp ⟨by omega, by omega⟩ h0, Int.toNat_of_nonneg h0, hv]
  exact kk H locs cells slots ls hV hS h1 h2 hl
theorem g_zald (C : gCtx G X cc nL own fr ret) (d : decode cc pc = .ok (.baload, 1)) {n : Nat} {r : Int → Int} (ha : h a = some (t, (gAZ G n r))) (hn : n < 2147483648) (h0 : 0 ≤ i) (hi : i < n) (hv : r i = v) (kk : gW X h kc ks (pc + 1) lv (.int (iI v) :: st)) : gW X h kc ks pc lv (.int (iI i) :: .ref a :: st) := by
  obtain ⟨G9, p, e, R, s, m, args, below, meth, c, Q⟩ := X
  obtain ⟨rfl, hx, hb, hml, hown, hlk, hrt, hfr, hlo, hB⟩ := C
  intro H locs cells slots ls hV hS h1 h2 hl
  have hts : ∀ w ∈ lw_all, w.before args s = true := fun w hw => hB.w hw args
  refine va_zald hx hb hB.K (gP1 hV ha) 0 2 rfl rfl (iI_in h0 hi hn) d ?_
  rw [iI_clamp ⟨by omega, by omega⟩ h0, Int.toNat_of_nonneg h0, hv]
  exact kk H locs cells slots ls hV hS h1 h2 hl
theorem g_updI {r : Int → Int} {i v : Int} (h0 : 0 ≤ i) (h1 : i ≤ 2147483647) : upd (fun j : Nat => iI (r j)) (iI i).toNatClampNeg (iI v) = fun j : Nat => iI (iUp r i v j) := by
  rw [iI_clamp ⟨by omega, h1⟩ h0]
  funext j
  unfold upd iUp
  by_cases c : j = i.toNat
  · rw [if_pos c, if_pos (by omega)]
  · rw [if_neg c, if_neg (by omega)]
theorem g_iast (C : gCtx G X cc nL own fr ret) (d : decode cc pc = .ok (.iastore, 1)) {n : Nat} {r r2 : Int → Int} (ha : h a = some (t, (gAI G n r))) (hn : n < 2147483648) (h0 : 0 ≤ i) (hi : i < n) (hr2 : iUp r i v = r2) (kk : ∀ h1 : gH, h1 = gUp h a (t, gAI G n r2) → gW X h1 kc ks (pc + 1) lv st) : gW X h kc ks pc lv (.int (iI v) :: .int (iI i) :: .ref a :: st) := by
  obtain ⟨G9, p, e, R, s, m, args, below, meth, c, Q⟩ := X
  obtain ⟨rfl, hx, hb, hml, hown, hlk, hrt, hfr, hlo, hB⟩ := C
  intro H locs cells slots ls hV hS h1 h2 hl
  have hts : ∀ w ∈ lw_all, w.before args s = true := fun w hw => hB.w hw args
  obtain ⟨ws, hP, hD, hw9⟩ := hV.ws
  obtain ⟨q0, h0w⟩ := hw9 _ _ ha
  exact va_iast hx hb hB.K hP hD hS q0 0 h0w rfl (iI_in h0 hi hn) d (fun H1 locs1 hP1 _ hS1 => by rw [g_updI h0 (by omega)] at hP1; exact kk _ rfl H1 locs1 cells slots ls (gV.set hD hw9 h0w (by rw [← hr2]; exact hP1)) hS1 h1 h2 hl)
theorem g_bast (C : gCtx G X cc nL own fr ret) (d : decode cc pc = .ok (.bastore, 1)) {n : Nat} {r r2 : Int → Int} (ha : h a = some (t, (gAB G n r))) (hn : n < 2147483648) (hnar : vp_nar .byte (iI v) = iI v) (h0 : 0 ≤ i) (hi : i < n) (hr2 : iUp r i v = r2) (kk : ∀ h1 : gH, h1 = gUp h a (t, gAB G n r2) → gW X h1 kc ks (pc + 1) lv st) : gW X h kc ks pc lv (.int (iI v) :: .int (iI i) :: .ref a :: st) := by
  obtain ⟨G9, p, e, R, s, m, args, below, meth, c, Q⟩ := X
  obtain ⟨rfl, hx, hb, hml, hown, hlk, hrt, hfr, hlo, hB⟩ := C
  intro H locs cells slots ls hV hS h1 h2 hl
  have hts : ∀ w ∈ lw_all, w.before args s = true := fun w hw => hB.w hw args
  obtain ⟨ws, hP, hD, hw9⟩ := hV.ws
  obtain ⟨q0, h0w⟩ := hw9 _ _ ha
  exact va_bast hx hb hB.K hP hD hS q0 1 h0w rfl (iI_in h0 hi hn) d (fun H1 locs1 hP1 _ hS1 => by rw [hnar, g_updI h0 (by omega)] at hP1; exact kk _ rfl H1 locs1 cells slots ls (gV.set hD hw9 h0w (by rw [← hr2]; exact hP1)) hS1 h1 h2 hl)
theorem g_zast (C : gCtx G X cc nL own fr ret) (d : decode cc pc = .ok (.bastore, 1)) {n : Nat} {r r2 : Int → Int} (ha : h a = some (t, (gAZ G n r))) (hn : n < 2147483648) (hnar : vp_nar .boolean (iI v) = iI v) (h0 : 0 ≤ i) (hi : i < n) (hr2 : iUp r i v = r2) (kk : ∀ h1 : gH, h1 = gUp h a (t, gAZ G n r2) → gW X h1 kc ks (pc + 1) lv st) : gW X h kc ks pc lv (.int (iI v) :: .int (iI i) :: .ref a :: st) := by
  obtain ⟨G9, p, e, R, s, m, args, below, meth, c, Q⟩ := X
  obtain ⟨rfl, hx, hb, hml, hown, hlk, hrt, hfr, hlo, hB⟩ := C
  intro H locs cells slots ls hV hS h1 h2 hl
  have hts : ∀ w ∈ lw_all, w.before args s = true := fun w hw => hB.w hw args
  obtain ⟨ws, hP, hD, hw9⟩ := hV.ws
  obtain ⟨q0, h0w⟩ := hw9 _ _ ha
  exact va_zast hx hb hB.K hP hD hS q0 2 h0w rfl (iI_in h0 hi hn) d (fun H1 locs1 hP1 _ hS1 => by rw [hnar, g_updI h0 (by omega)] at hP1; exact kk _ rfl H1 locs1 cells slots ls (gV.set hD hw9 h0w (by rw [← hr2]; exact hP1)) hS1 h1 h2 hl)
theorem g_alen (C : gCtx G X cc nL own fr ret) (d : decode cc pc = .ok (.arraylength, 1)) {cA : ClassId} {x : vp_A} (ha : h a = some (t, .inl (cA, x))) {ty : FieldType} (t0 : Nat) (ht : (gtys G)[t0]? = some (cA, ty)) (kk : gW X h kc ks (pc + 1) lv (.int (iI x.1) :: st)) : gW X h kc ks pc lv (.ref a :: st) := by
  obtain ⟨G9, p, e, R, s, m, args, below, meth, c, Q⟩ := X
  obtain ⟨rfl, hx, hb, hml, hown, hlk, hrt, hfr, hlo, hB⟩ := C
  intro H locs cells slots ls hV hS h1 h2 hl
  have hts : ∀ w ∈ lw_all, w.before args s = true := fun w hw => hB.w hw args
  exact va_alen (v := iI x.1) hx hb hB.K (gP1 hV ha) 0 t0 rfl ht rfl d (kk H locs cells slots ls hV hS h1 h2 hl)
theorem g_new (C : gCtx G X cc nL own fr ret) {index : Nat} (d : decode cc pc = .ok (.new index, 3)) {ci : Nat} {CR : String} {T : u_T} {N : Nat} {ty : Nat → FieldType} (Kc : gCls ci CR T N ty) (hcl : Cond.classLink own index CR ∈ lw_all) (hinst : Cond.instantiable CR N ∈ lw_all) (hini : Cond.initialized CR ∈ lw_all) (tg : gT) {fs : List Value} (hfs : ∀ j, j < N → defaultValue (ty j) = vp_V fs j) (kk : ∀ (q : Nat) (h1 : gH), h q = none → h1 = gUp h q (tg, .inr (ci, fs)) → gW X h1 kc ks (pc + 3) lv (.ref q :: st)) : gW X h (kc + 1) (ks + N) pc lv st := by
  obtain ⟨G9, p, e, R, s, m, args, below, meth, c, Q⟩ := X
  obtain ⟨rfl, hx, hb, hml, hown, hlk, hrt, hfr, hlo, hB⟩ := C
  intro H locs cells slots ls hV hS h1 h2 hl
  have hts : ∀ w ∈ lw_all, w.before args s = true := fun w hw => hB.w hw args
  obtain ⟨ws, hP, hD, hw9⟩ := hV.ws
  exact va_new hx hb hts Kc.2.1 ty Kc.2.2.1 hown (hts _ hcl) (hts _ hinst) (hts _ hini) hB.K hP hD hS (fun q hq => Nat.le_trans hB.2.2.1 hq) Kc.1 hfs (by omega) (by omega) d (fun q H1 hP1 hD1 hS1 => kk q _ (gV.push hw9 hD1 hP1).1 rfl H1 locs _ _ ls ((gV.push hw9 hD1 hP1).2 tg) hS1 (by omega) (by omega) hl)
theorem gB.nm {G : gG} {U : State} (h : gB G U) {k : Nat} {cA : ClassId} {ty : FieldType} (hk : (gtys G)[k]? = some (cA, ty)) : va_RA U cA ty := (h.K.2 k (cA, ty) hk).2
theorem g_newai (C : gCtx G X cc nL own fr ret) (d : decode cc pc = .ok (.newarray .int, 2)) (harr : Cond.arrayClass .int ∈ lw_all) (tg : gT) {n : Nat} (hi : i = n) (hn : n ≤ 100000) (kk : ∀ (q : Nat) (h1 : gH), h q = none → h1 = gUp h q (tg, gAI G n (fun _ => 0)) → gW X h1 kc ks (pc + 2) lv (.ref q :: st)) : gW X h (kc + 1) (ks + n) pc lv (.int (iI i) :: st) := by
  obtain ⟨G9, p, e, R, s, m, args, below, meth, c, Q⟩ := X
  obtain ⟨rfl, hx, hb, hml, hown, hlk, hrt, hfr, hlo, hB⟩ := C
  intro H locs cells slots ls hV hS h1 h2 hl
  have hts : ∀ w ∈ lw_all, w.before args s = true := fun w hw => hB.w hw args
  obtain ⟨ws, hP, hD, hw9⟩ := hV.ws
  subst hi
  refine va_newa (atype := .int) (ty := .int) (N' := n) (a0 := (n, .inl (fun _ => iI 0))) hx hb (hts _ harr) rfl hB.K hP hD hS (fun q hq => Nat.le_trans hB.2.2.1 hq) (fun cA => rfl) (nI_pos (n := n) (by omega)) (nI_clamp (n := n) (by omega)) (by show n * 4 ≤ _; omega) (by omega) (by omega) d (fun q cA H1 hK1 hP1 hD1 hS1 => ?_)
  have e1 : cA = gc G 0 := by
    have a1 : va_RA s cA .int := (hK1.2 5 (cA, .int) rfl).2
    exact Option.some.inj ((va_nm_int a1).symm.trans (va_nm_int (hB.nm (k := 0) rfl)))
  subst e1
  exact kk q _ (gV.push hw9 hD1 hP1).1 rfl H1 locs _ _ ls ((gV.push hw9 hD1 hP1).2 tg) hS1 (by omega) (by omega) hl
theorem g_newab (C : gCtx G X cc nL own fr ret) (d : decode cc pc = .ok (.newarray .byte, 2)) (harr : Cond.arrayClass .byte ∈ lw_all) (tg : gT) {n : Nat} (hi : i = n) (hn : n ≤ 100000) (kk : ∀ (q : Nat) (h1 : gH), h q = none → h1 = gUp h q (tg, gAB G n (fun _ => 0)) → gW X h1 kc ks (pc + 2) lv (.ref q :: st)) : gW X h (kc + 1) (ks + n) pc lv (.int (iI i) :: st) := by
  obtain ⟨G9, p, e, R, s, m, args, below, meth, c, Q⟩ := X
  obtain ⟨rfl, hx, hb, hml, hown, hlk, hrt, hfr, hlo, hB⟩ := C
  intro H locs cells slots ls hV hS h1 h2 hl
  have hts : ∀ w ∈ lw_all, w.before args s = true := fun w hw => hB.w hw args
  obtain ⟨ws, hP, hD, hw9⟩ := hV.ws
  subst hi
  refine va_newa (atype := .byte) (ty := .byte) (N' := n) (a0 := (n, .inl (fun _ => iI 0))) hx hb (hts _ harr) rfl hB.K hP hD hS (fun q hq => Nat.le_trans hB.2.2.1 hq) (fun cA => rfl) (nI_pos (n := n) (by omega)) (nI_clamp (n := n) (by omega)) (by show n * 1 ≤ _; omega) (by omega) (by omega) d (fun q cA H1 hK1 hP1 hD1 hS1 => ?_)
  have e1 : cA = gc G 1 := by
    have a1 : va_RA s cA .byte := (hK1.2 5 (cA, .byte) rfl).2
    exact Option.some.inj ((va_nm_byte a1).symm.trans (va_nm_byte (hB.nm (k := 1) rfl)))
  subst e1
  exact kk q _ (gV.push hw9 hD1 hP1).1 rfl H1 locs _ _ ls ((gV.push hw9 hD1 hP1).2 tg) hS1 (by omega) (by omega) hl
theorem g_newaz (C : gCtx G X cc nL own fr ret) (d : decode cc pc = .ok (.newarray .boolean, 2)) (harr : Cond.arrayClass .boolean ∈ lw_all) (tg : gT) {n : Nat} (hi : i = n) (hn : n ≤ 100000) (kk : ∀ (q : Nat) (h1 : gH), h q = none → h1 = gUp h q (tg, gAZ G n (fun _ => 0)) → gW X h1 kc ks (pc + 2) lv (.ref q :: st)) : gW X h (kc + 1) (ks + n) pc lv (.int (iI i) :: st) := by
  obtain ⟨G9, p, e, R, s, m, args, below, meth, c, Q⟩ := X
  obtain ⟨rfl, hx, hb, hml, hown, hlk, hrt, hfr, hlo, hB⟩ := C
  intro H locs cells slots ls hV hS h1 h2 hl
  have hts : ∀ w ∈ lw_all, w.before args s = true := fun w hw => hB.w hw args
  obtain ⟨ws, hP, hD, hw9⟩ := hV.ws
  subst hi
  refine va_newa (atype := .boolean) (ty := .boolean) (N' := n) (a0 := (n, .inl (fun _ => iI 0))) hx hb (hts _ harr) rfl hB.K hP hD hS (fun q hq => Nat.le_trans hB.2.2.1 hq) (fun cA => rfl) (nI_pos (n := n) (by omega)) (nI_clamp (n := n) (by omega)) (by show n * 1 ≤ _; omega) (by omega) (by omega) d (fun q cA H1 hK1 hP1 hD1 hS1 => ?_)
  have e1 : cA = gc G 2 := by
    have a1 : va_RA s cA .boolean := (hK1.2 5 (cA, .boolean) rfl).2
    exact Option.some.inj ((va_nm_boolean a1).symm.trans (va_nm_boolean (hB.nm (k := 2) rfl)))
  subst e1
  exact kk q _ (gV.push hw9 hD1 hP1).1 rfl H1 locs _ _ ls ((gV.push hw9 hD1 hP1).2 tg) hS1 (by omega) (by omega) hl
end GH
