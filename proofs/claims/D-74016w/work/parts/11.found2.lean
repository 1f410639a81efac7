/-! THE g LAYER, 2: the world, the judgement gW, rows without heap (printed by tools/gen_rows.py) -/
set_option maxRecDepth 100000
abbrev gE : Type := gG × Program × Env × Room × State × MethodId × Array Value × List Frame × Method × Code × (State → Prop)
/-- what is taken of the start s0 -/
def gS (G : gG) : Prop := (∀ w ∈ lw_tbl, w.before (ga0 G) (gs0 G) = true) ∧ va_K (gD G) gcl (gtys G) (gs0 G) ∧ (Jvm.Cond.and given_1 narrow_1).before (ga0 G) (gs0 G) = true ∧ (gl G).flags = flags0
/-- a state of the run: the old cells as they were, the tables at most warmer -/
def gB (G : gG) (U : State) : Prop := gS G ∧ (gs0 G).WarmedH U.vm ∧ gz G ≤ U.heap.size ∧ ∀ q : Nat, q < gz G → U.heap[q]? = (gs0 G).heap[q]?
theorem gB.step {G : gG} {s U : State} (h : gB G s) (hW : s.WarmedH U.vm) (hz : gz G ≤ U.heap.size) (ho : ∀ q : Nat, q < gz G → U.heap[q]? = s.heap[q]?) : gB G U :=
  ⟨h.1, State.WarmedH.trans h.2.1 hW, hz, fun q hq => (ho q hq).trans (h.2.2.2 q hq)⟩
theorem gB.K {G : gG} {U : State} (h : gB G U) : va_K (gD G) gcl (gtys G) U := va_K.moved h.2.1.alike h.1.2.1
theorem gB.w {G : gG} {U : State} (h : gB G U) {w : Cond} (hw : w ∈ lw_all) (a : Array Value) : w.before a U = true :=
  word_at h.2.1 (good_of_word (List.mem_filter.mp hw).2) (h.1.1 w (lw_all_tbl hw))
def gW (X : gE) (h : gH) (kc ks pc : Nat) (lv : List (Nat × Value)) (st : List Value) : Prop := match X with
  | (G, p, e, R, s, m, args, below, meth, c, Q) => ∀ (H : Heap) (locs : List Loc) (cells slots : Nat) (ls : Array Slot), gV G h H → va_S (gA G) s.heap H locs → cells + kc ≤ R.cells → slots + ks ≤ R.slots → lv_has ls c.maxLocals lv → W p (gl G) e R s m args below meth c H locs cells slots Q (F0 m pc ls st)
def gCtx (G : gG) (X : gE) (cc : ByteArray) (nL : Nat) (own : String) (fr : Nat) (ret : Option FieldType) : Prop := match X with
  | (G', p, e, R, s, m, args, below, meth, c, Q) => G = G' ∧ p.tables.exec = Jvm.exec ∧ c.code = cc ∧ c.maxLocals = nL ∧ s.vm.findClass own = some m.cls ∧ meth.locks = false ∧ meth.sig.returnType = ret ∧ R.frames = fr ∧ R.locals = 60 * fr ∧ gB G s
section GR
variable {G : gG} {X : gE} {cc : ByteArray} {nL : Nat} {own : String} {fr : Nat} {ret : Option FieldType} {h : gH} {kc ks pc : Nat} {lv lv' : List (Nat × Value)} {st : List Value} {a b v : Int} {off : Int} {tgt : Nat}
theorem gW.bud {kc' ks' : Nat} (hc : kc' ≤ kc) (hs : ks' ≤ ks) (k : gW X h kc' ks' pc lv st) : gW X h kc ks pc lv st := by
  obtain ⟨G, p, e, R, s, m, args, below, meth, c, Q⟩ := X
  intro H locs cells slots ls hV hS h1 h2 hl
  exact k H locs cells slots ls hV hS (by omega) (by omega) hl
/-- fewer or reordered locals -/
theorem gW.loc (is : List Nat) (hs : is.filterMap (fun i => lv[i]?) = lv') (k : gW X h kc ks pc lv' st) : gW X h kc ks pc lv st := by
  obtain ⟨G, p, e, R, s, m, args, below, meth, c, Q⟩ := X
  intro H locs cells slots ls hV hS h1 h2 hl
  exact k H locs cells slots ls hV hS h1 h2 (lv_sub hl is hs)
/-- a smaller abstract heap -/
theorem gW.mono {h' : gH} (hs : ∀ a x, h' a = some x → h a = some x) (k : gW X h' kc ks pc lv st) : gW X h kc ks pc lv st := by
  obtain ⟨G, p, e, R, s, m, args, below, meth, c, Q⟩ := X
  intro H locs cells slots ls hV hS h1 h2 hl
  exact k H locs cells slots ls (hV.mono hs) hS h1 h2 hl
theorem g_iconst (C : gCtx G X cc nL own fr ret) {n : Int}(d : decode cc pc = .ok (.iconst n, 1))  (k : gW X h kc ks (pc + 1) lv (.int (iI n) :: st)) : gW X h kc ks pc lv (st) := by
  obtain ⟨G9, p, e, R, s, m, args, below, meth, c, Q⟩ := X
  obtain ⟨rfl, hx, hb, hml, hown, hlk, hrt, hfr, hlo, hB⟩ := C
  intro H locs cells slots ls hV hS h1 h2 hl
  refine lv_iconst (v := iI n) hx hb d rfl ?_
  exact k H locs cells slots ls hV hS h1 h2 hl
theorem g_bipush (C : gCtx G X cc nL own fr ret) {n : Int} (d : decode cc pc = .ok (.bipush n, 2)) (hv : (Int8.ofInt n).toInt32 = iI n) (k : gW X h kc ks (pc + 2) lv (.int (iI n) :: st)) : gW X h kc ks pc lv (st) := by
  obtain ⟨G9, p, e, R, s, m, args, below, meth, c, Q⟩ := X
  obtain ⟨rfl, hx, hb, hml, hown, hlk, hrt, hfr, hlo, hB⟩ := C
  intro H locs cells slots ls hV hS h1 h2 hl
  refine lv_bipush hx hb d hv ?_
  exact k H locs cells slots ls hV hS h1 h2 hl
theorem g_sipush (C : gCtx G X cc nL own fr ret) {n : Int} (d : decode cc pc = .ok (.sipush n, 3)) (hv : (Int16.ofInt n).toInt32 = iI n) (k : gW X h kc ks (pc + 3) lv (.int (iI n) :: st)) : gW X h kc ks pc lv (st) := by
  obtain ⟨G9, p, e, R, s, m, args, below, meth, c, Q⟩ := X
  obtain ⟨rfl, hx, hb, hml, hown, hlk, hrt, hfr, hlo, hB⟩ := C
  intro H locs cells slots ls hV hS h1 h2 hl
  refine lv_sipush hx hb d hv ?_
  exact k H locs cells slots ls hV hS h1 h2 hl
theorem g_ldc (C : gCtx G X cc nL own fr ret) {index : Nat} {x : Int32} (d : decode cc pc = .ok (.ldc index, 2)) (hc : Cond.constant own index x ∈ lw_all) {n : Int} (hn : x = iI n) (k : gW X h kc ks (pc + 2) lv (.int (iI n) :: st)) : gW X h kc ks pc lv (st) := by
  obtain ⟨G9, p, e, R, s, m, args, below, meth, c, Q⟩ := X
  obtain ⟨rfl, hx, hb, hml, hown, hlk, hrt, hfr, hlo, hB⟩ := C
  intro H locs cells slots ls hV hS h1 h2 hl
  refine lv_ldc hx hb hown (hB.w hc args) d ?_
  rw [hn]
  exact k H locs cells slots ls hV hS h1 h2 hl
theorem g_lconst (C : gCtx G X cc nL own fr ret) {n : Fin 2} {x : Int64} (d : decode cc pc = .ok (.lconst n, 1)) (hv : Int64.ofNat (n : Nat) = x) (k : gW X h kc ks (pc + 1) lv (.long x :: st)) : gW X h kc ks pc lv (st) := by
  obtain ⟨G9, p, e, R, s, m, args, below, meth, c, Q⟩ := X
  obtain ⟨rfl, hx, hb, hml, hown, hlk, hrt, hfr, hlo, hB⟩ := C
  intro H locs cells slots ls hV hS h1 h2 hl
  refine lv_lconst hx hb d hv ?_
  exact k H locs cells slots ls hV hS h1 h2 hl
theorem g_null (C : gCtx G X cc nL own fr ret) (d : decode cc pc = .ok (.aconst_null, 1))  (k : gW X h kc ks (pc + 1) lv (.null :: st)) : gW X h kc ks pc lv (st) := by
  obtain ⟨G9, p, e, R, s, m, args, below, meth, c, Q⟩ := X
  obtain ⟨rfl, hx, hb, hml, hown, hlk, hrt, hfr, hlo, hB⟩ := C
  intro H locs cells slots ls hV hS h1 h2 hl
  refine lv_null hx hb d ?_
  exact k H locs cells slots ls hV hS h1 h2 hl
theorem g_iload_n (C : gCtx G X cc nL own fr ret) {q : Fin 4} {x : Int32} (d : decode cc pc = .ok (.iload_n q, 1)) (j : Nat) (hj : lv[j]? = some ((q : Nat), .int x)) (k : gW X h kc ks (pc + 1) lv (.int x :: st)) : gW X h kc ks pc lv (st) := by
  obtain ⟨G9, p, e, R, s, m, args, below, meth, c, Q⟩ := X
  obtain ⟨rfl, hx, hb, hml, hown, hlk, hrt, hfr, hlo, hB⟩ := C
  intro H locs cells slots ls hV hS h1 h2 hl
  refine lv_iload_n hx hb d rfl (lv_at hl j hj) ?_
  exact k H locs cells slots ls hV hS h1 h2 hl
theorem g_iload (C : gCtx G X cc nL own fr ret) {q : Nat} {x : Int32} (d : decode cc pc = .ok (.iload q, 2)) (j : Nat) (hj : lv[j]? = some (q, .int x)) (k : gW X h kc ks (pc + 2) lv (.int x :: st)) : gW X h kc ks pc lv (st) := by
  obtain ⟨G9, p, e, R, s, m, args, below, meth, c, Q⟩ := X
  obtain ⟨rfl, hx, hb, hml, hown, hlk, hrt, hfr, hlo, hB⟩ := C
  intro H locs cells slots ls hV hS h1 h2 hl
  refine lv_iload hx hb d (lv_at hl j hj) ?_
  exact k H locs cells slots ls hV hS h1 h2 hl
theorem g_aload_n (C : gCtx G X cc nL own fr ret) {q : Fin 4} {x : Nat} (d : decode cc pc = .ok (.aload_n q, 1)) (j : Nat) (hj : lv[j]? = some ((q : Nat), .ref x)) (k : gW X h kc ks (pc + 1) lv (.ref x :: st)) : gW X h kc ks pc lv (st) := by
  obtain ⟨G9, p, e, R, s, m, args, below, meth, c, Q⟩ := X
  obtain ⟨rfl, hx, hb, hml, hown, hlk, hrt, hfr, hlo, hB⟩ := C
  intro H locs cells slots ls hV hS h1 h2 hl
  refine lv_aload_n hx hb d rfl (lv_at hl j hj) ?_
  exact k H locs cells slots ls hV hS h1 h2 hl
theorem g_aload (C : gCtx G X cc nL own fr ret) {q : Nat} {x : Nat} (d : decode cc pc = .ok (.aload q, 2)) (j : Nat) (hj : lv[j]? = some (q, .ref x)) (k : gW X h kc ks (pc + 2) lv (.ref x :: st)) : gW X h kc ks pc lv (st) := by
  obtain ⟨G9, p, e, R, s, m, args, below, meth, c, Q⟩ := X
  obtain ⟨rfl, hx, hb, hml, hown, hlk, hrt, hfr, hlo, hB⟩ := C
  intro H locs cells slots ls hV hS h1 h2 hl
  refine lv_aload hx hb d (lv_at hl j hj) ?_
  exact k H locs cells slots ls hV hS h1 h2 hl
theorem g_lload_n (C : gCtx G X cc nL own fr ret) {q : Fin 4} {x : Int64} (d : decode cc pc = .ok (.lload_n q, 1)) (j : Nat) (hj : lv[j]? = some ((q : Nat), .long x)) (k : gW X h kc ks (pc + 1) lv (.long x :: st)) : gW X h kc ks pc lv (st) := by
  obtain ⟨G9, p, e, R, s, m, args, below, meth, c, Q⟩ := X
  obtain ⟨rfl, hx, hb, hml, hown, hlk, hrt, hfr, hlo, hB⟩ := C
  intro H locs cells slots ls hV hS h1 h2 hl
  refine lv_lload_n hx hb d rfl (lv_at hl j hj) ?_
  exact k H locs cells slots ls hV hS h1 h2 hl
theorem g_lload (C : gCtx G X cc nL own fr ret) {q : Nat} {x : Int64} (d : decode cc pc = .ok (.lload q, 2)) (j : Nat) (hj : lv[j]? = some (q, .long x)) (k : gW X h kc ks (pc + 2) lv (.long x :: st)) : gW X h kc ks pc lv (st) := by
  obtain ⟨G9, p, e, R, s, m, args, below, meth, c, Q⟩ := X
  obtain ⟨rfl, hx, hb, hml, hown, hlk, hrt, hfr, hlo, hB⟩ := C
  intro H locs cells slots ls hV hS h1 h2 hl
  refine lv_lload hx hb d (lv_at hl j hj) ?_
  exact k H locs cells slots ls hV hS h1 h2 hl
theorem g_aload_nN (C : gCtx G X cc nL own fr ret) {q : Fin 4} (d : decode cc pc = .ok (.aload_n q, 1)) (j : Nat) (hj : lv[j]? = some ((q : Nat), .null)) (k : gW X h kc ks (pc + 1) lv (.null :: st)) : gW X h kc ks pc lv (st) := by
  obtain ⟨G9, p, e, R, s, m, args, below, meth, c, Q⟩ := X
  obtain ⟨rfl, hx, hb, hml, hown, hlk, hrt, hfr, hlo, hB⟩ := C
  intro H locs cells slots ls hV hS h1 h2 hl
  refine lv_aload_nN hx hb d rfl (lv_at hl j hj) ?_
  exact k H locs cells slots ls hV hS h1 h2 hl
theorem g_aloadN (C : gCtx G X cc nL own fr ret) {q : Nat} (d : decode cc pc = .ok (.aload q, 2)) (j : Nat) (hj : lv[j]? = some (q, .null)) (k : gW X h kc ks (pc + 2) lv (.null :: st)) : gW X h kc ks pc lv (st) := by
  obtain ⟨G9, p, e, R, s, m, args, below, meth, c, Q⟩ := X
  obtain ⟨rfl, hx, hb, hml, hown, hlk, hrt, hfr, hlo, hB⟩ := C
  intro H locs cells slots ls hV hS h1 h2 hl
  refine lv_aloadN hx hb d (lv_at hl j hj) ?_
  exact k H locs cells slots ls hV hS h1 h2 hl
theorem g_istore_n (C : gCtx G X cc nL own fr ret) {q : Fin 4} {x : Int32} (d : decode cc pc = .ok (.istore_n q, 1)) (i : Nat) (hi : (q : Nat) = i) (hn : i < nL) (hl2 : (i, Value.int x) :: lv.filter (fun q => !(q.1 == i) && !(q.1 + 1 == i && q.2.category == 2)) = lv') (k : gW X h kc ks (pc + 1) lv' st) : gW X h kc ks pc lv (Value.int x :: st) := by
  obtain ⟨G9, p, e, R, s, m, args, below, meth, c, Q⟩ := X
  obtain ⟨rfl, hx, hb, hml, hown, hlk, hrt, hfr, hlo, hB⟩ := C
  intro H locs cells slots ls hV hS h1 h2 hl
  subst hml
  refine lv_istore_n hx hb d hi hl hn hl2 (fun ls hl => ?_)
  exact k H locs cells slots ls hV hS h1 h2 hl
theorem g_istore (C : gCtx G X cc nL own fr ret) {i : Nat} (d : decode cc pc = .ok (.istore i, 2)) {x : Int32} (hn : i < nL) (hl2 : (i, Value.int x) :: lv.filter (fun q => !(q.1 == i) && !(q.1 + 1 == i && q.2.category == 2)) = lv') (k : gW X h kc ks (pc + 2) lv' st) : gW X h kc ks pc lv (Value.int x :: st) := by
  obtain ⟨G9, p, e, R, s, m, args, below, meth, c, Q⟩ := X
  obtain ⟨rfl, hx, hb, hml, hown, hlk, hrt, hfr, hlo, hB⟩ := C
  intro H locs cells slots ls hV hS h1 h2 hl
  subst hml
  refine lv_istore hx hb d hl hn hl2 (fun ls hl => ?_)
  exact k H locs cells slots ls hV hS h1 h2 hl
theorem g_astore_n (C : gCtx G X cc nL own fr ret) {q : Fin 4} {x : Nat} (d : decode cc pc = .ok (.astore_n q, 1)) (i : Nat) (hi : (q : Nat) = i) (hn : i < nL) (hl2 : (i, Value.ref x) :: lv.filter (fun q => !(q.1 == i) && !(q.1 + 1 == i && q.2.category == 2)) = lv') (k : gW X h kc ks (pc + 1) lv' st) : gW X h kc ks pc lv (Value.ref x :: st) := by
  obtain ⟨G9, p, e, R, s, m, args, below, meth, c, Q⟩ := X
  obtain ⟨rfl, hx, hb, hml, hown, hlk, hrt, hfr, hlo, hB⟩ := C
  intro H locs cells slots ls hV hS h1 h2 hl
  subst hml
  refine lv_astore_n hx hb d hi hl hn hl2 (fun ls hl => ?_)
  exact k H locs cells slots ls hV hS h1 h2 hl
theorem g_astore (C : gCtx G X cc nL own fr ret) {i : Nat} (d : decode cc pc = .ok (.astore i, 2)) {x : Nat} (hn : i < nL) (hl2 : (i, Value.ref x) :: lv.filter (fun q => !(q.1 == i) && !(q.1 + 1 == i && q.2.category == 2)) = lv') (k : gW X h kc ks (pc + 2) lv' st) : gW X h kc ks pc lv (Value.ref x :: st) := by
  obtain ⟨G9, p, e, R, s, m, args, below, meth, c, Q⟩ := X
  obtain ⟨rfl, hx, hb, hml, hown, hlk, hrt, hfr, hlo, hB⟩ := C
  intro H locs cells slots ls hV hS h1 h2 hl
  subst hml
  refine lv_astore hx hb d hl hn hl2 (fun ls hl => ?_)
  exact k H locs cells slots ls hV hS h1 h2 hl
theorem g_lstore_n (C : gCtx G X cc nL own fr ret) {q : Fin 4} {x : Int64} (d : decode cc pc = .ok (.lstore_n q, 1)) (i : Nat) (hi : (q : Nat) = i) (hn : i + 1 < nL) (hl2 : (i, Value.long x) :: lv.filter (fun q => !(q.1 == i) && (!(q.1 == i + 1) && !(q.1 + 1 == i && q.2.category == 2))) = lv') (k : gW X h kc ks (pc + 1) lv' st) : gW X h kc ks pc lv (Value.long x :: st) := by
  obtain ⟨G9, p, e, R, s, m, args, below, meth, c, Q⟩ := X
  obtain ⟨rfl, hx, hb, hml, hown, hlk, hrt, hfr, hlo, hB⟩ := C
  intro H locs cells slots ls hV hS h1 h2 hl
  subst hml
  refine lv_lstore_n hx hb d hi hl hn hl2 (fun ls hl => ?_)
  exact k H locs cells slots ls hV hS h1 h2 hl
theorem g_lstore (C : gCtx G X cc nL own fr ret) {i : Nat} (d : decode cc pc = .ok (.lstore i, 2)) {x : Int64} (hn : i + 1 < nL) (hl2 : (i, Value.long x) :: lv.filter (fun q => !(q.1 == i) && (!(q.1 == i + 1) && !(q.1 + 1 == i && q.2.category == 2))) = lv') (k : gW X h kc ks (pc + 2) lv' st) : gW X h kc ks pc lv (Value.long x :: st) := by
  obtain ⟨G9, p, e, R, s, m, args, below, meth, c, Q⟩ := X
  obtain ⟨rfl, hx, hb, hml, hown, hlk, hrt, hfr, hlo, hB⟩ := C
  intro H locs cells slots ls hV hS h1 h2 hl
  subst hml
  refine lv_lstore hx hb d hl hn hl2 (fun ls hl => ?_)
  exact k H locs cells slots ls hV hS h1 h2 hl
theorem g_astore_nN (C : gCtx G X cc nL own fr ret) {q : Fin 4} (d : decode cc pc = .ok (.astore_n q, 1)) (i : Nat) (hi : (q : Nat) = i) (hn : i < nL) (hl2 : (i, Value.null) :: lv.filter (fun q => !(q.1 == i) && !(q.1 + 1 == i && q.2.category == 2)) = lv') (k : gW X h kc ks (pc + 1) lv' st) : gW X h kc ks pc lv (Value.null :: st) := by
  obtain ⟨G9, p, e, R, s, m, args, below, meth, c, Q⟩ := X
  obtain ⟨rfl, hx, hb, hml, hown, hlk, hrt, hfr, hlo, hB⟩ := C
  intro H locs cells slots ls hV hS h1 h2 hl
  subst hml
  refine lv_astore_nN hx hb d hi hl hn hl2 (fun ls hl => ?_)
  exact k H locs cells slots ls hV hS h1 h2 hl
theorem g_astoreN (C : gCtx G X cc nL own fr ret) {i : Nat} (d : decode cc pc = .ok (.astore i, 2)) (hn : i < nL) (hl2 : (i, Value.null) :: lv.filter (fun q => !(q.1 == i) && !(q.1 + 1 == i && q.2.category == 2)) = lv') (k : gW X h kc ks (pc + 2) lv' st) : gW X h kc ks pc lv (Value.null :: st) := by
  obtain ⟨G9, p, e, R, s, m, args, below, meth, c, Q⟩ := X
  obtain ⟨rfl, hx, hb, hml, hown, hlk, hrt, hfr, hlo, hB⟩ := C
  intro H locs cells slots ls hV hS h1 h2 hl
  subst hml
  refine lv_astoreN hx hb d hl hn hl2 (fun ls hl => ?_)
  exact k H locs cells slots ls hV hS h1 h2 hl
theorem g_iinc (C : gCtx G X cc nL own fr ret) {i : Nat} {n : Int} (d : decode cc pc = .ok (.iinc i n, 3)) (j : Nat) (hj : lv[j]? = some (i, .int (iI a))) (hv : a + n = v) (hn : i < nL) (hl2 : (i, Value.int (iI v)) :: lv.filter (fun q => !(q.1 == i) && !(q.1 + 1 == i && q.2.category == 2)) = lv') (k : gW X h kc ks (pc + 3) lv' st) : gW X h kc ks pc lv st := by
  obtain ⟨G9, p, e, R, s, m, args, below, meth, c, Q⟩ := X
  obtain ⟨rfl, hx, hb, hml, hown, hlk, hrt, hfr, hlo, hB⟩ := C
  intro H locs cells slots ls hV hS h1 h2 hl
  subst hml
  refine lv_iinc (v := iI v) hx hb d hl hj (by rw [← hv]; exact iI_add a n) hn hl2 (fun ls hl => ?_)
  exact k H locs cells slots ls hV hS h1 h2 hl
theorem g_iadd (C : gCtx G X cc nL own fr ret) (d : decode cc pc = .ok (.iadd, 1)) (hv : a + b = v) (k : gW X h kc ks (pc + 1) lv (.int (iI v) :: st)) : gW X h kc ks pc lv (.int (iI b) :: .int (iI a) :: st) := by
  obtain ⟨G9, p, e, R, s, m, args, below, meth, c, Q⟩ := X
  obtain ⟨rfl, hx, hb, hml, hown, hlk, hrt, hfr, hlo, hB⟩ := C
  intro H locs cells slots ls hV hS h1 h2 hl
  refine lv_iadd hx hb d ?_
  rw [iI_add, hv]
  exact k H locs cells slots ls hV hS h1 h2 hl
theorem g_isub (C : gCtx G X cc nL own fr ret) (d : decode cc pc = .ok (.isub, 1)) (hv : a - b = v) (k : gW X h kc ks (pc + 1) lv (.int (iI v) :: st)) : gW X h kc ks pc lv (.int (iI b) :: .int (iI a) :: st) := by
  obtain ⟨G9, p, e, R, s, m, args, below, meth, c, Q⟩ := X
  obtain ⟨rfl, hx, hb, hml, hown, hlk, hrt, hfr, hlo, hB⟩ := C
  intro H locs cells slots ls hV hS h1 h2 hl
  refine lv_isub hx hb d ?_
  rw [iI_sub, hv]
  exact k H locs cells slots ls hV hS h1 h2 hl
theorem g_imul (C : gCtx G X cc nL own fr ret) (d : decode cc pc = .ok (.imul, 1)) (hv : a * b = v) (k : gW X h kc ks (pc + 1) lv (.int (iI v) :: st)) : gW X h kc ks pc lv (.int (iI b) :: .int (iI a) :: st) := by
  obtain ⟨G9, p, e, R, s, m, args, below, meth, c, Q⟩ := X
  obtain ⟨rfl, hx, hb, hml, hown, hlk, hrt, hfr, hlo, hB⟩ := C
  intro H locs cells slots ls hV hS h1 h2 hl
  refine lv_imul hx hb d ?_
  rw [iI_mul, hv]
  exact k H locs cells slots ls hV hS h1 h2 hl
theorem g_ineg (C : gCtx G X cc nL own fr ret) (d : decode cc pc = .ok (.ineg, 1)) (hv : -a = v) (k : gW X h kc ks (pc + 1) lv (.int (iI v) :: st)) : gW X h kc ks pc lv (.int (iI a) :: st) := by
  obtain ⟨G9, p, e, R, s, m, args, below, meth, c, Q⟩ := X
  obtain ⟨rfl, hx, hb, hml, hown, hlk, hrt, hfr, hlo, hB⟩ := C
  intro H locs cells slots ls hV hS h1 h2 hl
  refine lv_ineg hx hb d ?_
  rw [iI_neg, hv]
  exact k H locs cells slots ls hV hS h1 h2 hl
theorem iI_divN {a b : Int} (ha : 0 ≤ a) (ha2 : a ≤ 2147483647) (hb : 0 < b) (hb2 : b ≤ 2147483647) : iI a / iI b = iI (a / b) := by
  rw [iI_div ⟨by omega, ha2⟩ ⟨by omega, hb2⟩, Int.tdiv_eq_ediv_of_nonneg ha]
theorem iI_ne0 {b : Int} (hb : 0 < b) (hb2 : b ≤ 2147483647) : ¬ iI b = 0 := fun h => by
  have := (iI_inj (a := b) (b := 0) ⟨by omega, hb2⟩ ⟨by decide, by decide⟩).mp h
  omega
theorem iI_remN {a b : Int} (ha : 0 ≤ a) (ha2 : a ≤ 2147483647) (hb : 0 < b) (hb2 : b ≤ 2147483647) : iI a - iI a / iI b * iI b = iI (a % b) := by
  rw [iI_divN ha ha2 hb hb2, iI_mul, iI_sub]
  congr 1
  have := Int.emod_add_mul_ediv a b
  rw [Int.mul_comm] at this
  omega
theorem g_idiv (C : gCtx G X cc nL own fr ret) (d : decode cc pc = .ok (.idiv, 1)) (ha : 0 ≤ a ∧ a ≤ 2147483647) (hb0 : 0 < b ∧ b ≤ 2147483647) (hv : a / b = v) (k : gW X h kc ks (pc + 1) lv (.int (iI v) :: st)) : gW X h kc ks pc lv (.int (iI b) :: .int (iI a) :: st) := by
  obtain ⟨G9, p, e, R, s, m, args, below, meth, c, Q⟩ := X
  obtain ⟨rfl, hx, hb, hml, hown, hlk, hrt, hfr, hlo, hB⟩ := C
  intro H locs cells slots ls hV hS h1 h2 hl
  refine lv_idiv hx hb d (iI_ne0 hb0.1 hb0.2) ?_
  rw [iI_divN ha.1 ha.2 hb0.1 hb0.2, hv]
  exact k H locs cells slots ls hV hS h1 h2 hl
theorem g_irem (C : gCtx G X cc nL own fr ret) (d : decode cc pc = .ok (.irem, 1)) (ha : 0 ≤ a ∧ a ≤ 2147483647) (hb0 : 0 < b ∧ b ≤ 2147483647) (hv : a % b = v) (k : gW X h kc ks (pc + 1) lv (.int (iI v) :: st)) : gW X h kc ks pc lv (.int (iI b) :: .int (iI a) :: st) := by
  obtain ⟨G9, p, e, R, s, m, args, below, meth, c, Q⟩ := X
  obtain ⟨rfl, hx, hb, hml, hown, hlk, hrt, hfr, hlo, hB⟩ := C
  intro H locs cells slots ls hV hS h1 h2 hl
  refine lv_irem hx hb d (iI_ne0 hb0.1 hb0.2) ?_
  rw [iI_remN ha.1 ha.2 hb0.1 hb0.2, hv]
  exact k H locs cells slots ls hV hS h1 h2 hl
theorem g_iand (C : gCtx G X cc nL own fr ret) (d : decode cc pc = .ok (.iand, 1)) (hv : iI a &&& iI b = iI v) (k : gW X h kc ks (pc + 1) lv (.int (iI v) :: st)) : gW X h kc ks pc lv (.int (iI b) :: .int (iI a) :: st) := by
  obtain ⟨G9, p, e, R, s, m, args, below, meth, c, Q⟩ := X
  obtain ⟨rfl, hx, hb, hml, hown, hlk, hrt, hfr, hlo, hB⟩ := C
  intro H locs cells slots ls hV hS h1 h2 hl
  refine lv_iand hx hb d ?_
  rw [hv]
  exact k H locs cells slots ls hV hS h1 h2 hl
theorem g_ior (C : gCtx G X cc nL own fr ret) (d : decode cc pc = .ok (.ior, 1)) (hv : iI a ||| iI b = iI v) (k : gW X h kc ks (pc + 1) lv (.int (iI v) :: st)) : gW X h kc ks pc lv (.int (iI b) :: .int (iI a) :: st) := by
  obtain ⟨G9, p, e, R, s, m, args, below, meth, c, Q⟩ := X
  obtain ⟨rfl, hx, hb, hml, hown, hlk, hrt, hfr, hlo, hB⟩ := C
  intro H locs cells slots ls hV hS h1 h2 hl
  refine lv_ior hx hb d ?_
  rw [hv]
  exact k H locs cells slots ls hV hS h1 h2 hl
theorem g_ishl (C : gCtx G X cc nL own fr ret) (d : decode cc pc = .ok (.ishl, 1)) (hv : iI a <<< (iI b &&& 31) = iI v) (k : gW X h kc ks (pc + 1) lv (.int (iI v) :: st)) : gW X h kc ks pc lv (.int (iI b) :: .int (iI a) :: st) := by
  obtain ⟨G9, p, e, R, s, m, args, below, meth, c, Q⟩ := X
  obtain ⟨rfl, hx, hb, hml, hown, hlk, hrt, hfr, hlo, hB⟩ := C
  intro H locs cells slots ls hV hS h1 h2 hl
  refine lv_ishl hx hb d ?_
  rw [hv]
  exact k H locs cells slots ls hV hS h1 h2 hl
theorem g_ishr (C : gCtx G X cc nL own fr ret) (d : decode cc pc = .ok (.ishr, 1)) (hv : iI a >>> (iI b &&& 31) = iI v) (k : gW X h kc ks (pc + 1) lv (.int (iI v) :: st)) : gW X h kc ks pc lv (.int (iI b) :: .int (iI a) :: st) := by
  obtain ⟨G9, p, e, R, s, m, args, below, meth, c, Q⟩ := X
  obtain ⟨rfl, hx, hb, hml, hown, hlk, hrt, hfr, hlo, hB⟩ := C
  intro H locs cells slots ls hV hS h1 h2 hl
  refine lv_ishr hx hb d ?_
  rw [hv]
  exact k H locs cells slots ls hV hS h1 h2 hl
theorem g_iushr (C : gCtx G X cc nL own fr ret) (d : decode cc pc = .ok (.iushr, 1)) (hv : ((iI a).toUInt32 >>> ((iI b).toUInt32 &&& Int32.toUInt32 31)).toInt32 = iI v) (k : gW X h kc ks (pc + 1) lv (.int (iI v) :: st)) : gW X h kc ks pc lv (.int (iI b) :: .int (iI a) :: st) := by
  obtain ⟨G9, p, e, R, s, m, args, below, meth, c, Q⟩ := X
  obtain ⟨rfl, hx, hb, hml, hown, hlk, hrt, hfr, hlo, hB⟩ := C
  intro H locs cells slots ls hV hS h1 h2 hl
  refine lv_iushr hx hb d hv ?_
  exact k H locs cells slots ls hV hS h1 h2 hl
theorem g_i2b (C : gCtx G X cc nL own fr ret) (d : decode cc pc = .ok (.i2b, 1)) (hv : (iI a).toInt8.toInt32 = iI v) (k : gW X h kc ks (pc + 1) lv (.int (iI v) :: st)) : gW X h kc ks pc lv (.int (iI a) :: st) := by
  obtain ⟨G9, p, e, R, s, m, args, below, meth, c, Q⟩ := X
  obtain ⟨rfl, hx, hb, hml, hown, hlk, hrt, hfr, hlo, hB⟩ := C
  intro H locs cells slots ls hV hS h1 h2 hl
  refine lv_i2b hx hb d hv ?_
  exact k H locs cells slots ls hV hS h1 h2 hl
theorem g_i2c (C : gCtx G X cc nL own fr ret) (d : decode cc pc = .ok (.i2c, 1)) (hv : ((iI a).toUInt32 % 65536).toInt32 = iI v) (k : gW X h kc ks (pc + 1) lv (.int (iI v) :: st)) : gW X h kc ks pc lv (.int (iI a) :: st) := by
  obtain ⟨G9, p, e, R, s, m, args, below, meth, c, Q⟩ := X
  obtain ⟨rfl, hx, hb, hml, hown, hlk, hrt, hfr, hlo, hB⟩ := C
  intro H locs cells slots ls hV hS h1 h2 hl
  refine lv_i2c hx hb d hv ?_
  exact k H locs cells slots ls hV hS h1 h2 hl
theorem g_i2l (C : gCtx G X cc nL own fr ret) {y : Int64} (d : decode cc pc = .ok (.i2l, 1)) (hv : (iI a).toInt64 = y) (k : gW X h kc ks (pc + 1) lv (.long y :: st)) : gW X h kc ks pc lv (.int (iI a) :: st) := by
  obtain ⟨G9, p, e, R, s, m, args, below, meth, c, Q⟩ := X
  obtain ⟨rfl, hx, hb, hml, hown, hlk, hrt, hfr, hlo, hB⟩ := C
  intro H locs cells slots ls hV hS h1 h2 hl
  refine lv_i2l hx hb d hv ?_
  exact k H locs cells slots ls hV hS h1 h2 hl
theorem g_lshl (C : gCtx G X cc nL own fr ret) {x y : Int64} (d : decode cc pc = .ok (.lshl, 1)) (hv : x <<< ((iI b).toInt64 &&& 63) = y) (k : gW X h kc ks (pc + 1) lv (.long y :: st)) : gW X h kc ks pc lv (.int (iI b) :: .long x :: st) := by
  obtain ⟨G9, p, e, R, s, m, args, below, meth, c, Q⟩ := X
  obtain ⟨rfl, hx, hb, hml, hown, hlk, hrt, hfr, hlo, hB⟩ := C
  intro H locs cells slots ls hV hS h1 h2 hl
  refine lv_lshl hx hb d hv ?_
  exact k H locs cells slots ls hV hS h1 h2 hl
theorem g_lor (C : gCtx G X cc nL own fr ret) {x y z : Int64} (d : decode cc pc = .ok (.lor, 1)) (hv : x ||| y = z) (k : gW X h kc ks (pc + 1) lv (.long z :: st)) : gW X h kc ks pc lv (.long y :: .long x :: st) := by
  obtain ⟨G9, p, e, R, s, m, args, below, meth, c, Q⟩ := X
  obtain ⟨rfl, hx, hb, hml, hown, hlk, hrt, hfr, hlo, hB⟩ := C
  intro H locs cells slots ls hV hS h1 h2 hl
  refine lv_lor hx hb d ?_
  rw [hv]
  exact k H locs cells slots ls hV hS h1 h2 hl
theorem g_lcmp (C : gCtx G X cc nL own fr ret) {x y : Int64} (d : decode cc pc = .ok (.lcmp, 1)) (hv : lg_cmp x y = iI v) (k : gW X h kc ks (pc + 1) lv (.int (iI v) :: st)) : gW X h kc ks pc lv (.long y :: .long x :: st) := by
  obtain ⟨G9, p, e, R, s, m, args, below, meth, c, Q⟩ := X
  obtain ⟨rfl, hx, hb, hml, hown, hlk, hrt, hfr, hlo, hB⟩ := C
  intro H locs cells slots ls hV hS h1 h2 hl
  refine W.lcmp hx hb d ?_
  rw [hv]
  exact k H locs cells slots ls hV hS h1 h2 hl
theorem g_dup (C : gCtx G X cc nL own fr ret) {w : Value} (d : decode cc pc = .ok (.dup, 1)) (hw : w.category = 1) (k : gW X h kc ks (pc + 1) lv (w :: w :: st)) : gW X h kc ks pc lv (w :: st) := by
  obtain ⟨G9, p, e, R, s, m, args, below, meth, c, Q⟩ := X
  obtain ⟨rfl, hx, hb, hml, hown, hlk, hrt, hfr, hlo, hB⟩ := C
  intro H locs cells slots ls hV hS h1 h2 hl
  refine lv_dup hx hb d hw ?_
  exact k H locs cells slots ls hV hS h1 h2 hl
theorem g_pop (C : gCtx G X cc nL own fr ret) {w : Value} (d : decode cc pc = .ok (.pop, 1)) (hw : w.category = 1) (k : gW X h kc ks (pc + 1) lv (st)) : gW X h kc ks pc lv (w :: st) := by
  obtain ⟨G9, p, e, R, s, m, args, below, meth, c, Q⟩ := X
  obtain ⟨rfl, hx, hb, hml, hown, hlk, hrt, hfr, hlo, hB⟩ := C
  intro H locs cells slots ls hV hS h1 h2 hl
  refine lv_pop hx hb d hw ?_
  exact k H locs cells slots ls hV hS h1 h2 hl
theorem g_dup_x1 (C : gCtx G X cc nL own fr ret) {w y : Value} (d : decode cc pc = .ok (.dup_x1, 1)) (hw : w.category = 1) (hy : y.category = 1) (k : gW X h kc ks (pc + 1) lv (w :: y :: w :: st)) : gW X h kc ks pc lv (w :: y :: st) := by
  obtain ⟨G9, p, e, R, s, m, args, below, meth, c, Q⟩ := X
  obtain ⟨rfl, hx, hb, hml, hown, hlk, hrt, hfr, hlo, hB⟩ := C
  intro H locs cells slots ls hV hS h1 h2 hl
  refine lv_dup_x1 hx hb d hw hy ?_
  exact k H locs cells slots ls hV hS h1 h2 hl
theorem g_dup2 (C : gCtx G X cc nL own fr ret) {w y : Value} (d : decode cc pc = .ok (.dup2, 1)) (hw : w.category = 1) (hy : y.category = 1) (k : gW X h kc ks (pc + 1) lv (w :: y :: w :: y :: st)) : gW X h kc ks pc lv (w :: y :: st) := by
  obtain ⟨G9, p, e, R, s, m, args, below, meth, c, Q⟩ := X
  obtain ⟨rfl, hx, hb, hml, hown, hlk, hrt, hfr, hlo, hB⟩ := C
  intro H locs cells slots ls hV hS h1 h2 hl
  refine lv_dup2_11 hx hb d hw hy ?_
  exact k H locs cells slots ls hV hS h1 h2 hl
theorem g_goto (C : gCtx G X cc nL own fr ret) (d : decode cc pc = .ok (.goto off, 3)) (ht : (pc : Int) + off = (tgt : Int)) (k : gW X h kc ks tgt lv (st)) : gW X h kc ks pc lv (st) := by
  obtain ⟨G9, p, e, R, s, m, args, below, meth, c, Q⟩ := X
  obtain ⟨rfl, hx, hb, hml, hown, hlk, hrt, hfr, hlo, hB⟩ := C
  intro H locs cells slots ls hV hS h1 h2 hl
  refine lv_goto hx hb d ht ?_
  exact k H locs cells slots ls hV hS h1 h2 hl
theorem g_icmp_eq (C : gCtx G X cc nL own fr ret) (d : decode cc pc = .ok (.if_icmp .eq off, 3)) (ht : (pc : Int) + off = (tgt : Int)) (ha : gR a) (hb2 : gR b) (kt : a = b → gW X h kc ks tgt lv st) (kf : ¬ a = b → gW X h kc ks (pc + 3) lv st) : gW X h kc ks pc lv (.int (iI b) :: .int (iI a) :: st) := by
  obtain ⟨G9, p, e, R, s, m, args, below, meth, c, Q⟩ := X
  obtain ⟨rfl, hx, hb, hml, hown, hlk, hrt, hfr, hlo, hB⟩ := C
  intro H locs cells slots ls hV hS h1 h2 hl
  exact lv_icmp_eq hx hb d ht (fun q => kt ((iI_inj ha hb2).mp q) H locs cells slots ls hV hS h1 h2 hl) (fun q => kf (fun z => q ((iI_inj ha hb2).mpr z)) H locs cells slots ls hV hS h1 h2 hl)
theorem g_if_eq (C : gCtx G X cc nL own fr ret) (d : decode cc pc = .ok (.ifCond .eq off, 3)) (ht : (pc : Int) + off = (tgt : Int)) (ha : gR a) (kt : a = 0 → gW X h kc ks tgt lv st) (kf : ¬ a = 0 → gW X h kc ks (pc + 3) lv st) : gW X h kc ks pc lv (.int (iI a) :: st) := by
  obtain ⟨G9, p, e, R, s, m, args, below, meth, c, Q⟩ := X
  obtain ⟨rfl, hx, hb, hml, hown, hlk, hrt, hfr, hlo, hB⟩ := C
  intro H locs cells slots ls hV hS h1 h2 hl
  exact lv_if_eq hx hb d ht (fun q => kt ((iI_inj (b := 0) ha ⟨by decide, by decide⟩).mp q) H locs cells slots ls hV hS h1 h2 hl) (fun q => kf (fun z => q ((iI_inj (b := 0) ha ⟨by decide, by decide⟩).mpr z)) H locs cells slots ls hV hS h1 h2 hl)
theorem g_icmp_ne (C : gCtx G X cc nL own fr ret) (d : decode cc pc = .ok (.if_icmp .ne off, 3)) (ht : (pc : Int) + off = (tgt : Int)) (ha : gR a) (hb2 : gR b) (kt : ¬ a = b → gW X h kc ks tgt lv st) (kf : a = b → gW X h kc ks (pc + 3) lv st) : gW X h kc ks pc lv (.int (iI b) :: .int (iI a) :: st) := by
  obtain ⟨G9, p, e, R, s, m, args, below, meth, c, Q⟩ := X
  obtain ⟨rfl, hx, hb, hml, hown, hlk, hrt, hfr, hlo, hB⟩ := C
  intro H locs cells slots ls hV hS h1 h2 hl
  exact lv_icmp_ne hx hb d ht (fun q => kt (fun z => q ((iI_inj ha hb2).mpr z)) H locs cells slots ls hV hS h1 h2 hl) (fun q => kf ((iI_inj ha hb2).mp q) H locs cells slots ls hV hS h1 h2 hl)
theorem g_if_ne (C : gCtx G X cc nL own fr ret) (d : decode cc pc = .ok (.ifCond .ne off, 3)) (ht : (pc : Int) + off = (tgt : Int)) (ha : gR a) (kt : ¬ a = 0 → gW X h kc ks tgt lv st) (kf : a = 0 → gW X h kc ks (pc + 3) lv st) : gW X h kc ks pc lv (.int (iI a) :: st) := by
  obtain ⟨G9, p, e, R, s, m, args, below, meth, c, Q⟩ := X
  obtain ⟨rfl, hx, hb, hml, hown, hlk, hrt, hfr, hlo, hB⟩ := C
  intro H locs cells slots ls hV hS h1 h2 hl
  exact lv_if_ne hx hb d ht (fun q => kt (fun z => q ((iI_inj (b := 0) ha ⟨by decide, by decide⟩).mpr z)) H locs cells slots ls hV hS h1 h2 hl) (fun q => kf ((iI_inj (b := 0) ha ⟨by decide, by decide⟩).mp q) H locs cells slots ls hV hS h1 h2 hl)
theorem g_icmp_lt (C : gCtx G X cc nL own fr ret) (d : decode cc pc = .ok (.if_icmp .lt off, 3)) (ht : (pc : Int) + off = (tgt : Int)) (ha : gR a) (hb2 : gR b) (kt : a < b → gW X h kc ks tgt lv st) (kf : ¬ a < b → gW X h kc ks (pc + 3) lv st) : gW X h kc ks pc lv (.int (iI b) :: .int (iI a) :: st) := by
  obtain ⟨G9, p, e, R, s, m, args, below, meth, c, Q⟩ := X
  obtain ⟨rfl, hx, hb, hml, hown, hlk, hrt, hfr, hlo, hB⟩ := C
  intro H locs cells slots ls hV hS h1 h2 hl
  exact lv_icmp_lt hx hb d ht (fun q => kt ((iI_lt ha hb2).mp q) H locs cells slots ls hV hS h1 h2 hl) (fun q => kf (fun z => q ((iI_lt ha hb2).mpr z)) H locs cells slots ls hV hS h1 h2 hl)
theorem g_if_lt (C : gCtx G X cc nL own fr ret) (d : decode cc pc = .ok (.ifCond .lt off, 3)) (ht : (pc : Int) + off = (tgt : Int)) (ha : gR a) (kt : a < 0 → gW X h kc ks tgt lv st) (kf : ¬ a < 0 → gW X h kc ks (pc + 3) lv st) : gW X h kc ks pc lv (.int (iI a) :: st) := by
  obtain ⟨G9, p, e, R, s, m, args, below, meth, c, Q⟩ := X
  obtain ⟨rfl, hx, hb, hml, hown, hlk, hrt, hfr, hlo, hB⟩ := C
  intro H locs cells slots ls hV hS h1 h2 hl
  exact lv_if_lt hx hb d ht (fun q => kt ((iI_lt (b := 0) ha ⟨by decide, by decide⟩).mp q) H locs cells slots ls hV hS h1 h2 hl) (fun q => kf (fun z => q ((iI_lt (b := 0) ha ⟨by decide, by decide⟩).mpr z)) H locs cells slots ls hV hS h1 h2 hl)
theorem g_icmp_ge (C : gCtx G X cc nL own fr ret) (d : decode cc pc = .ok (.if_icmp .ge off, 3)) (ht : (pc : Int) + off = (tgt : Int)) (ha : gR a) (hb2 : gR b) (kt : b ≤ a → gW X h kc ks tgt lv st) (kf : ¬ b ≤ a → gW X h kc ks (pc + 3) lv st) : gW X h kc ks pc lv (.int (iI b) :: .int (iI a) :: st) := by
  obtain ⟨G9, p, e, R, s, m, args, below, meth, c, Q⟩ := X
  obtain ⟨rfl, hx, hb, hml, hown, hlk, hrt, hfr, hlo, hB⟩ := C
  intro H locs cells slots ls hV hS h1 h2 hl
  exact lv_icmp_ge hx hb d ht (fun q => kt ((iI_le hb2 ha).mp q) H locs cells slots ls hV hS h1 h2 hl) (fun q => kf (fun z => q ((iI_le hb2 ha).mpr z)) H locs cells slots ls hV hS h1 h2 hl)
theorem g_if_ge (C : gCtx G X cc nL own fr ret) (d : decode cc pc = .ok (.ifCond .ge off, 3)) (ht : (pc : Int) + off = (tgt : Int)) (ha : gR a) (kt : 0 ≤ a → gW X h kc ks tgt lv st) (kf : ¬ 0 ≤ a → gW X h kc ks (pc + 3) lv st) : gW X h kc ks pc lv (.int (iI a) :: st) := by
  obtain ⟨G9, p, e, R, s, m, args, below, meth, c, Q⟩ := X
  obtain ⟨rfl, hx, hb, hml, hown, hlk, hrt, hfr, hlo, hB⟩ := C
  intro H locs cells slots ls hV hS h1 h2 hl
  exact lv_if_ge hx hb d ht (fun q => kt ((iI_le (a := 0) ⟨by decide, by decide⟩ ha).mp q) H locs cells slots ls hV hS h1 h2 hl) (fun q => kf (fun z => q ((iI_le (a := 0) ⟨by decide, by decide⟩ ha).mpr z)) H locs cells slots ls hV hS h1 h2 hl)
theorem g_icmp_gt (C : gCtx G X cc nL own fr ret) (d : decode cc pc = .ok (.if_icmp .gt off, 3)) (ht : (pc : Int) + off = (tgt : Int)) (ha : gR a) (hb2 : gR b) (kt : b < a → gW X h kc ks tgt lv st) (kf : ¬ b < a → gW X h kc ks (pc + 3) lv st) : gW X h kc ks pc lv (.int (iI b) :: .int (iI a) :: st) := by
  obtain ⟨G9, p, e, R, s, m, args, below, meth, c, Q⟩ := X
  obtain ⟨rfl, hx, hb, hml, hown, hlk, hrt, hfr, hlo, hB⟩ := C
  intro H locs cells slots ls hV hS h1 h2 hl
  exact lv_icmp_gt hx hb d ht (fun q => kt ((iI_lt hb2 ha).mp q) H locs cells slots ls hV hS h1 h2 hl) (fun q => kf (fun z => q ((iI_lt hb2 ha).mpr z)) H locs cells slots ls hV hS h1 h2 hl)
theorem g_if_gt (C : gCtx G X cc nL own fr ret) (d : decode cc pc = .ok (.ifCond .gt off, 3)) (ht : (pc : Int) + off = (tgt : Int)) (ha : gR a) (kt : 0 < a → gW X h kc ks tgt lv st) (kf : ¬ 0 < a → gW X h kc ks (pc + 3) lv st) : gW X h kc ks pc lv (.int (iI a) :: st) := by
  obtain ⟨G9, p, e, R, s, m, args, below, meth, c, Q⟩ := X
  obtain ⟨rfl, hx, hb, hml, hown, hlk, hrt, hfr, hlo, hB⟩ := C
  intro H locs cells slots ls hV hS h1 h2 hl
  exact lv_if_gt hx hb d ht (fun q => kt ((iI_lt (a := 0) ⟨by decide, by decide⟩ ha).mp q) H locs cells slots ls hV hS h1 h2 hl) (fun q => kf (fun z => q ((iI_lt (a := 0) ⟨by decide, by decide⟩ ha).mpr z)) H locs cells slots ls hV hS h1 h2 hl)
theorem g_icmp_le (C : gCtx G X cc nL own fr ret) (d : decode cc pc = .ok (.if_icmp .le off, 3)) (ht : (pc : Int) + off = (tgt : Int)) (ha : gR a) (hb2 : gR b) (kt : a ≤ b → gW X h kc ks tgt lv st) (kf : ¬ a ≤ b → gW X h kc ks (pc + 3) lv st) : gW X h kc ks pc lv (.int (iI b) :: .int (iI a) :: st) := by
  obtain ⟨G9, p, e, R, s, m, args, below, meth, c, Q⟩ := X
  obtain ⟨rfl, hx, hb, hml, hown, hlk, hrt, hfr, hlo, hB⟩ := C
  intro H locs cells slots ls hV hS h1 h2 hl
  exact lv_icmp_le hx hb d ht (fun q => kt ((iI_le ha hb2).mp q) H locs cells slots ls hV hS h1 h2 hl) (fun q => kf (fun z => q ((iI_le ha hb2).mpr z)) H locs cells slots ls hV hS h1 h2 hl)
theorem g_if_le (C : gCtx G X cc nL own fr ret) (d : decode cc pc = .ok (.ifCond .le off, 3)) (ht : (pc : Int) + off = (tgt : Int)) (ha : gR a) (kt : a ≤ 0 → gW X h kc ks tgt lv st) (kf : ¬ a ≤ 0 → gW X h kc ks (pc + 3) lv st) : gW X h kc ks pc lv (.int (iI a) :: st) := by
  obtain ⟨G9, p, e, R, s, m, args, below, meth, c, Q⟩ := X
  obtain ⟨rfl, hx, hb, hml, hown, hlk, hrt, hfr, hlo, hB⟩ := C
  intro H locs cells slots ls hV hS h1 h2 hl
  exact lv_if_le hx hb d ht (fun q => kt ((iI_le (b := 0) ha ⟨by decide, by decide⟩).mp q) H locs cells slots ls hV hS h1 h2 hl) (fun q => kf (fun z => q ((iI_le (b := 0) ha ⟨by decide, by decide⟩).mpr z)) H locs cells slots ls hV hS h1 h2 hl)
theorem g_ifF (C : gCtx G X cc nL own fr ret) (d : decode cc pc = .ok (.ifCond .eq off, 3)) (ht : (pc : Int) + off = (tgt : Int)) {b : Bool} (kt : b = false → gW X h kc ks tgt lv st) (kf : b = true → gW X h kc ks (pc + 3) lv st) : gW X h kc ks pc lv (.int (iI (gb b)) :: st) := by
  cases b
  · exact g_if_eq C d ht (gb_R _) (fun _ => kt rfl) (fun q => absurd rfl q)
  · exact g_if_eq C d ht (gb_R _) (fun q => absurd q (by decide)) (fun _ => kf rfl)
theorem g_ifT (C : gCtx G X cc nL own fr ret) (d : decode cc pc = .ok (.ifCond .ne off, 3)) (ht : (pc : Int) + off = (tgt : Int)) {b : Bool} (kt : b = true → gW X h kc ks tgt lv st) (kf : b = false → gW X h kc ks (pc + 3) lv st) : gW X h kc ks pc lv (.int (iI (gb b)) :: st) := by
  cases b
  · exact g_if_ne C d ht (gb_R _) (fun q => absurd rfl q) (fun _ => kf rfl)
  · exact g_if_ne C d ht (gb_R _) (fun _ => kt rfl) (fun q => absurd q (by decide))
theorem g_ifnull (C : gCtx G X cc nL own fr ret) {q : Nat}(d : decode cc pc = .ok (.ifnull off, 3))  (k : gW X h kc ks (pc + 3) lv (st)) : gW X h kc ks pc lv (.ref q :: st) := by
  obtain ⟨G9, p, e, R, s, m, args, below, meth, c, Q⟩ := X
  obtain ⟨rfl, hx, hb, hml, hown, hlk, hrt, hfr, hlo, hB⟩ := C
  intro H locs cells slots ls hV hS h1 h2 hl
  refine lv_ifnull hx hb d ?_
  exact k H locs cells slots ls hV hS h1 h2 hl
theorem g_ifnonnull (C : gCtx G X cc nL own fr ret) (d : decode cc pc = .ok (.ifnonnull off, 3)) (ht : (pc : Int) + off = (tgt : Int)) {q : Nat} (k : gW X h kc ks tgt lv (st)) : gW X h kc ks pc lv (.ref q :: st) := by
  obtain ⟨G9, p, e, R, s, m, args, below, meth, c, Q⟩ := X
  obtain ⟨rfl, hx, hb, hml, hown, hlk, hrt, hfr, hlo, hB⟩ := C
  intro H locs cells slots ls hV hS h1 h2 hl
  refine lv_ifnonnull hx hb d ht ?_
  exact k H locs cells slots ls hV hS h1 h2 hl
theorem g_ifnullN (C : gCtx G X cc nL own fr ret) (d : decode cc pc = .ok (.ifnull off, 3)) (ht : (pc : Int) + off = (tgt : Int)) (k : gW X h kc ks tgt lv (st)) : gW X h kc ks pc lv (.null :: st) := by
  obtain ⟨G9, p, e, R, s, m, args, below, meth, c, Q⟩ := X
  obtain ⟨rfl, hx, hb, hml, hown, hlk, hrt, hfr, hlo, hB⟩ := C
  intro H locs cells slots ls hV hS h1 h2 hl
  refine lv_ifnullN hx hb d ht ?_
  exact k H locs cells slots ls hV hS h1 h2 hl
theorem g_ifnonnullN (C : gCtx G X cc nL own fr ret) (d : decode cc pc = .ok (.ifnonnull off, 3))  (k : gW X h kc ks (pc + 3) lv (st)) : gW X h kc ks pc lv (.null :: st) := by
  obtain ⟨G9, p, e, R, s, m, args, below, meth, c, Q⟩ := X
  obtain ⟨rfl, hx, hb, hml, hown, hlk, hrt, hfr, hlo, hB⟩ := C
  intro H locs cells slots ls hV hS h1 h2 hl
  refine lv_ifnonnullN hx hb d ?_
  exact k H locs cells slots ls hV hS h1 h2 hl
theorem g_acmp_eq (C : gCtx G X cc nL own fr ret) (d : decode cc pc = .ok (.if_acmp .eq off, 3)) (ht : (pc : Int) + off = (tgt : Int)) {rx ry : Option Nat} (kt : rx = ry → gW X h kc ks tgt lv st) (kf : ¬ rx = ry → gW X h kc ks (pc + 3) lv st) : gW X h kc ks pc lv (va_rf ry :: va_rf rx :: st) := by
  obtain ⟨G9, p, e, R, s, m, args, below, meth, c, Q⟩ := X
  obtain ⟨rfl, hx, hb, hml, hown, hlk, hrt, hfr, hlo, hB⟩ := C
  intro H locs cells slots ls hV hS h1 h2 hl
  exact lv_acmp_eq hx hb d ht (fun q => kt q H locs cells slots ls hV hS h1 h2 hl) (fun q => kf q H locs cells slots ls hV hS h1 h2 hl)
theorem g_acmp_ne (C : gCtx G X cc nL own fr ret) (d : decode cc pc = .ok (.if_acmp .ne off, 3)) (ht : (pc : Int) + off = (tgt : Int)) {rx ry : Option Nat} (kt : ¬ rx = ry → gW X h kc ks tgt lv st) (kf : rx = ry → gW X h kc ks (pc + 3) lv st) : gW X h kc ks pc lv (va_rf ry :: va_rf rx :: st) := by
  obtain ⟨G9, p, e, R, s, m, args, below, meth, c, Q⟩ := X
  obtain ⟨rfl, hx, hb, hml, hown, hlk, hrt, hfr, hlo, hB⟩ := C
  intro H locs cells slots ls hV hS h1 h2 hl
  exact lv_acmp_ne hx hb d ht (fun q => kt q H locs cells slots ls hV hS h1 h2 hl) (fun q => kf q H locs cells slots ls hV hS h1 h2 hl)
theorem g_castN (C : gCtx G X cc nL own fr ret) {index : Nat}(d : decode cc pc = .ok (.checkcast index, 3))  (k : gW X h kc ks (pc + 3) lv (.null :: st)) : gW X h kc ks pc lv (.null :: st) := by
  obtain ⟨G9, p, e, R, s, m, args, below, meth, c, Q⟩ := X
  obtain ⟨rfl, hx, hb, hml, hown, hlk, hrt, hfr, hlo, hB⟩ := C
  intro H locs cells slots ls hV hS h1 h2 hl
  refine lv_castN hx hb d ?_
  exact k H locs cells slots ls hV hS h1 h2 hl
theorem g_tableIn (C : gCtx G X cc nL own fr ret) {dflt lo hi : Int} {offs : Array Int} {len : Nat} (d : decode cc pc = .ok (.tableswitch dflt lo hi offs, len)) (ha : gR a) (hlo2 : lo ≤ a) (hhi : a ≤ hi) (ho : offs[(a - lo).toNat]? = some off) (ht : (pc : Int) + off = (tgt : Int)) (k : gW X h kc ks tgt lv st) : gW X h kc ks pc lv (.int (iI a) :: st) := by
  obtain ⟨G9, p, e, R, s, m, args, below, meth, c, Q⟩ := X
  obtain ⟨rfl, hx, hb, hml, hown, hlk, hrt, hfr, hlo, hB⟩ := C
  intro H locs cells slots ls hV hS h1 h2 hl
  exact lv_tableIn hx hb d (by rw [iI_toInt ha]; omega) (by rw [iI_toInt ha]; omega) (by rw [iI_toInt ha]; exact ho) ht (k H locs cells slots ls hV hS h1 h2 hl)
theorem g_tableOut (C : gCtx G X cc nL own fr ret) {dflt lo hi : Int} {offs : Array Int} {len : Nat} (d : decode cc pc = .ok (.tableswitch dflt lo hi offs, len)) (ha : gR a) (ho : a < lo ∨ hi < a) (ht : (pc : Int) + dflt = (tgt : Int)) (k : gW X h kc ks tgt lv st) : gW X h kc ks pc lv (.int (iI a) :: st) := by
  obtain ⟨G9, p, e, R, s, m, args, below, meth, c, Q⟩ := X
  obtain ⟨rfl, hx, hb, hml, hown, hlk, hrt, hfr, hlo, hB⟩ := C
  intro H locs cells slots ls hV hS h1 h2 hl
  exact lv_tableOut hx hb d (by rw [iI_toInt ha]; exact ho) ht (k H locs cells slots ls hV hS h1 h2 hl)
theorem g_lookup (C : gCtx G X cc nL own fr ret) {dflt : Int} {ps : Array (Int × Int)} {len : Nat} (d : decode cc pc = .ok (.lookupswitch dflt ps, len)) (hp : (ps.toList.zip (ps.toList.drop 1)).all (fun (a, next) => a.1 < next.1) = true) (ha : gR a) (ho : Op.lookupswitch.offset ps.toList dflt a = off) (ht : (pc : Int) + off = (tgt : Int)) (k : gW X h kc ks tgt lv st) : gW X h kc ks pc lv (.int (iI a) :: st) := by
  obtain ⟨G9, p, e, R, s, m, args, below, meth, c, Q⟩ := X
  obtain ⟨rfl, hx, hb, hml, hown, hlk, hrt, hfr, hlo, hB⟩ := C
  intro H locs cells slots ls hV hS h1 h2 hl
  exact lv_lookup hx hb d hp (by rw [iI_toInt ha]; exact ho) ht (k H locs cells slots ls hV hS h1 h2 hl)
end GR
