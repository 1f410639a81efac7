/-! THE g LAYER, 4: contracts, calls, returns -/
set_option maxRecDepth 100000
def gPc (G : gG) (av : List Value) (h : gH) : Array Value → State → Prop := fun a U => a = av.toArray ∧ gV G h U.heap ∧ gB G U
def gQc (G : gG) (post : Option Value → gH → Prop) : Array Value → State → Outcome → State → Prop := fun _ s o t => (∃ (r : Option Value) (h' : gH), o = .returned r ∧ post r h' ∧ gV G h' t.heap) ∧ s.heap.size ≤ t.heap.size ∧ ∀ q : Nat, q < gz G → t.heap[q]? = s.heap[q]?
def gRm (fr mc ms : Nat) : Room := { frames := fr, cells := mc, slots := ms, locals := 60 * fr }
/-- a contract: method y (its code word wd), called with av in a heap h, returns r with h' so that post; at most mc cells and ms slots are new -/
def gC (G : gG) (y : MethodName) (wd : Cond) (fr mc ms : Nat) (av : List Value) (h : gH) (post : Option Value → gH → Prop) : Prop := Met (gl G) y [wd] (gRm fr mc ms) (gPc G av h) (gQc G post) mc ms (gA G)
/-- what a body owes at its end -/
def gFin (G : gG) (X : gE) (post : Option Value → gH → Prop) : Prop := match X with
  | (_, p, e, R, s, m, args, below, meth, c, Q) => ∀ (H : Heap) (locs : List Loc) (cells slots : Nat) (g : JFrame), cells ≤ R.cells → slots ≤ R.slots → W p (gl G) e R s m args below meth c H locs R.cells R.slots (MQ below (gQc G post) args s R.cells R.slots (gA G)) g → W p (gl G) e R s m args below meth c H locs cells slots Q g
theorem gPc_blind {G : gG} {av : List Value} {h : gH} : FrameBlind (gPc G av h) := fun a U g mk q => q
theorem gC.of {G : gG} {y : MethodName} {cc : ByteArray} {nL : Nat} {ret : Option FieldType} {fr mc ms : Nat} {av : List Value} {lv : List (Nat × Value)} {h : gH} {post : Option Value → gH → Prop} (hy : plainName y.cls = true) (hlen : (lg_sl av).length ≤ nL) (hlv : lv_args 0 av = lv)
    (body : ∀ X, gCtx G X cc nL y.cls fr ret → gFin G X post → (y.name = "<init>" → gIni X) → gW X h mc ms 0 lv []) : gC G y (.code y cc nL ret) fr mc ms av h post := by
  refine Met.ofW (cc := cc) (maxL := nL) (ret := ret) hy rfl ?_
  intro p e s m args below meth c s₁ B hml hP
  obtain ⟨rfl, hV, hB⟩ := hP
  rw [lg_entry_eq]
  have hl := lv_entry av hlen
  rw [hlv] at hl
  exact body (G, p, e, gRm fr mc ms, s, m, av.toArray, below, meth, c, MQ below (gQc G post) av.toArray s mc ms (gA G))
    ⟨rfl, B.exec, B.bytes, hml, findClass_of_methodNamed B.named, B.notSynchronized, B.returns, rfl, rfl, hB⟩
    (fun H locs cells slots g h1 h2 k => W.widen h1 h2 k)
    (fun hn => ((name_of_methodNamed B.named B.method).1).trans hn)
    s.heap [] 0 0 _ hV va_S.rf (by show 0 + mc ≤ mc; omega) (by show 0 + ms ≤ ms; omega) (by rw [hml]; exact hl)
theorem gC.ofW {G : gG} {y : MethodName} {cc : ByteArray} {nL : Nat} {ret : Option FieldType} {hh : List (Nat × Nat × Nat × Nat)} {fr mc ms : Nat} {av : List Value} {lv : List (Nat × Value)} {h : gH} {post : Option Value → gH → Prop} (hy : plainName y.cls = true) (hlen : (lg_sl av).length ≤ nL) (hlv : lv_args 0 av = lv)
    (body : ∀ X, gCtx G X cc nL y.cls fr ret → gFin G X post → (match X with | (_, _, _, _, _, _, _, _, _, c, _) => c.exceptionTable.toList = tableOf hh) → gW X h mc ms 0 lv []) : gC G y (.codeWith y cc nL ret hh) fr mc ms av h post := by
  refine va_MetW (cc := cc) (maxL := nL) (ret := ret) (hh := hh) hy rfl ?_
  intro p e s m args below meth c s₁ B hml hP
  obtain ⟨rfl, hV, hB⟩ := hP
  rw [lg_entry_eq]
  have hl := lv_entry av hlen
  rw [hlv] at hl
  exact body (G, p, e, gRm fr mc ms, s, m, av.toArray, below, meth, c, MQ below (gQc G post) av.toArray s mc ms (gA G))
    ⟨rfl, B.exec, B.bytes, hml, findClass_of_methodNamed B.named, B.notSynchronized, B.returns, rfl, rfl, hB⟩
    (fun H locs cells slots g h1 h2 k => W.widen h1 h2 k)
    (vx_table (x := y) B (atoms_spec (ws := [Cond.codeWith y cc nL ret hh]) B.pre _ List.mem_cons_self))
    s.heap [] 0 0 _ hV va_S.rf (by show 0 + mc ≤ mc; omega) (by show 0 + ms ≤ ms; omega) (by rw [hml]; exact hl)
section GC
variable {G : gG} {X : gE} {cc : ByteArray} {nL : Nat} {own : String} {fr : Nat} {ret : Option FieldType} {h : gH} {kc ks pc : Nat} {lv : List (Nat × Value)} {st : List Value} {post : Option Value → gH → Prop}
theorem g_qc {s t : State} {H : Heap} {locs : List Loc} {r : Option Value} {args : Array Value} (hB : gB G s) (hV : gV G h H) (hS : va_S (gA G) s.heap H locs) (hp : post r h) (ht : t.heap = H) : gQc G post args s (.returned r) t :=
  ⟨⟨r, h, rfl, hp, by rw [ht]; exact hV⟩, by rw [ht]; exact hS.1, fun q hq => by rw [ht]; exact hS.2.1 q (Nat.lt_of_lt_of_le hq hB.2.2.1) (Nat.not_le.mpr hq)⟩
theorem g_iret (C : gCtx G X cc nL own fr ret) (E : gFin G X post) (d : decode cc pc = .ok (.ireturn, 1)) (hret : ret = some .int) {x : Int32} (hp : post (some (.int x)) h) : gW X h kc ks pc lv [.int x] := by
  obtain ⟨G9, p, e, R, s, m, args, below, meth, c, Q⟩ := X
  obtain ⟨rfl, hx, hb, hml, hown, hlk, hrt, hfr, hlo, hB⟩ := C
  intro H locs cells slots ls hV hS h1 h2 hl
  exact E H locs cells slots _ (by omega) (by omega) (W.iret hx hb (hrt.trans hret) (fun t ht _ => g_qc hB hV hS hp ht) hS.2.2 d hlk)
theorem g_zret (C : gCtx G X cc nL own fr ret) (E : gFin G X post) (d : decode cc pc = .ok (.ireturn, 1)) {ty : FieldType} (hret : ret = some ty) {x : Int32} (hn : narrow ty (.int x) = .int x) (hp : post (some (.int x)) h) : gW X h kc ks pc lv [.int x] := by
  obtain ⟨G9, p, e, R, s, m, args, below, meth, c, Q⟩ := X
  obtain ⟨rfl, hx, hb, hml, hown, hlk, hrt, hfr, hlo, hB⟩ := C
  intro H locs cells slots ls hV hS h1 h2 hl
  exact E H locs cells slots _ (by omega) (by omega) (W.zret hx hb (hrt.trans hret) hn (fun t ht _ => g_qc hB hV hS hp ht) hS.2.2 d hlk)
theorem gb_nar (b : Bool) : narrow .boolean (.int (iI (gb b))) = .int (iI (gb b)) := by cases b <;> rfl
theorem g_bret (C : gCtx G X cc nL own fr ret) (E : gFin G X post) (d : decode cc pc = .ok (.ireturn, 1)) (hret : ret = some .boolean) {a : Int} (b : Bool) (ha : a = gb b) (hp : post (some (.int (iI (gb b)))) h) : gW X h kc ks pc lv [.int (iI a)] := by
  subst ha
  exact g_zret C E d hret (gb_nar b) hp
theorem g_vret (C : gCtx G X cc nL own fr ret) (E : gFin G X post) (d : decode cc pc = .ok (.return_, 1)) (hret : ret = none) (hp : post none h) : gW X h kc ks pc lv [] := by
  obtain ⟨G9, p, e, R, s, m, args, below, meth, c, Q⟩ := X
  obtain ⟨rfl, hx, hb, hml, hown, hlk, hrt, hfr, hlo, hB⟩ := C
  intro H locs cells slots ls hV hS h1 h2 hl
  exact E H locs cells slots _ (by omega) (by omega) (W.vret hx hb (hrt.trans hret) (fun t ht _ => g_qc hB hV hS hp ht) hS.2.2 d hlk)
theorem g_aret (C : gCtx G X cc nL own fr ret) (E : gFin G X post) (d : decode cc pc = .ok (.areturn, 1)) {rt : FieldType} (hret : ret = some rt) (hrf : (∃ n, rt = .object n) ∨ ∃ t, rt = .array t) {v : Value} (hv : v = .null ∨ ∃ a, v = .ref a) (hp : post (some v) h) : gW X h kc ks pc lv [v] := by
  obtain ⟨G9, p, e, R, s, m, args, below, meth, c, Q⟩ := X
  obtain ⟨rfl, hx, hb, hml, hown, hlk, hrt, hfr, hlo, hB⟩ := C
  intro H locs cells slots ls hV hS h1 h2 hl
  exact E H locs cells slots _ (by omega) (by omega) (W.aret hx hb (hrt.trans hret) hrf hv (fun t ht _ => g_qc hB hV hS hp ht) hS.2.2 d hlk)
/-- behind a call that returned -/
theorem g_back {p : Program} {e : Env} {R : Room} {s : State} {m : MethodId} {args : Array Value} {below : List Frame} {meth : Method} {c : Code} {Q : State → Prop} {H : Heap} {locs : List Loc} {cells slots mc ms : Nat} {ls : Array Slot} {st0 : List Value} {a : Array Value} (hB : gB G s) (hS : va_S (gA G) s.heap H locs)
    (hr : va_Run p (gl G) e R s m args below meth c H locs cells slots mc ms (F0 m pc ls st0) st (gQc G post a) (gA G))
    (k : ∀ (r : Option Value) (h' : gH) (H1 : Heap) (locs1 : List Loc), post r h' → gV G h' H1 → va_S (gA G) s.heap H1 locs1 → W p (gl G) e R s m args below meth c H1 locs1 (cells + mc) (slots + ms) Q (F0 m (pc + 3) ls (r.toList ++ st))) : W p (gl G) e R s m args below meth c H locs cells slots Q (F0 m pc ls st0) := by
  intro T hT X
  obtain ⟨v, st₀, t, T', L, h0, X', hL, e1, e2, ⟨⟨r, h', hv, hp, hV'⟩, hz, hk⟩, stp⟩ := hr T hT X
  cases hv
  rw [h0] at hz hk
  obtain ⟨t2, a1, b1⟩ := k v h' T'.heap (locs ++ L) hp (by rw [e1]; exact hV')
    ⟨Nat.le_trans hS.1 (by rw [e1]; exact hz), fun q q1 q2 => by rw [e1, hk q (Nat.not_le.mp q2)]; exact hS.2.1 q q1 q2, fun q hq => by
      rcases List.mem_append.mp hq with x | x
      · exact hS.2.2 q x
      · exact hL q x⟩ T' rfl X'
  exact ⟨t2, stp t2 a1, b1⟩
theorem g_pre {s : State} {H : Heap} {locs : List Loc} {av : List Value} (hB : gB G s) (hV : gV G h H) (hS : va_S (gA G) s.heap H locs) (U : State) (hU : U.heap = H) (hW : s.WarmedH U.vm) : gPc G av h av.toArray U :=
  ⟨rfl, by rw [hU]; exact hV, hB.step hW (by rw [hU]; exact Nat.le_trans hB.2.2.1 hS.1) (fun q hq => by rw [hU]; exact hS.2.1 q (Nat.lt_of_lt_of_le hq hB.2.2.1) (Nat.not_le.mpr hq))⟩
theorem g_recv {s : State} {H : Heap} {b ci : Nat} {t : gT} {fs : List Value} {q : vw_C} (hB : gB G s) (hV : gV G h H) (hb : h b = some (t, .inr (ci, fs))) (hc : gcl[ci]? = some q) : ∃ cell : Cell, H[b]? = some cell ∧ cell.vm.isStatics = false ∧ s.vm.findClass q.1 = some cell.cls :=
  va_recv (ws := [(b, .inr (ci, fs))]) (q0 := 0) (ci := ci) (fs := fs) hB.K (gP1 hV hb) hc rfl
/-- links: what the tables say of a call site -/
def gLkS (own : String) (idx : Nat) (y : MethodName) (b : ByteArray) (L : Nat) (r : Option FieldType) (n : Nat) : Prop := (Cond.methodLink own idx y ∈ lw_all ∧ Cond.static y ∈ lw_all ∧ Cond.initialized y.cls ∈ lw_all ∧ Cond.code y b L r ∈ lw_all) ∧ (y.cls ≠ "java/lang/invoke/MethodHandle" ∧ y.cls ≠ "java/lang/invoke/VarHandle") ∧ (parseMethodDescriptor y.desc).map (fun d => d.parameters.length) = some n
def gLkV (own : String) (idx : Nat) (y : MethodName) (b : ByteArray) (L : Nat) (r : Option FieldType) (n : Nat) : Prop := (Cond.methodLink own idx y ∈ lw_all ∧ Cond.instanceMethod y ∈ lw_all ∧ Cond.selects y.cls y y ∈ lw_all ∧ Cond.initialized y.cls ∈ lw_all ∧ Cond.code y b L r ∈ lw_all) ∧ (y.cls ≠ "java/lang/invoke/MethodHandle" ∧ y.cls ≠ "java/lang/invoke/VarHandle") ∧ (parseMethodDescriptor y.desc).map (fun d => d.parameters.length) = some n
def gLkI (own : String) (idx : Nat) (y : MethodName) (b : ByteArray) (L : Nat) (n : Nat) : Prop := (Cond.methodLink own idx y ∈ lw_all ∧ Cond.instanceMethod y ∈ lw_all ∧ Cond.initialized y.cls ∈ lw_all ∧ Cond.code y b L none ∈ lw_all) ∧ (y.name = "<init>" ∧ y.cls ≠ "java/lang/invoke/MethodHandle" ∧ y.cls ≠ "java/lang/invoke/VarHandle") ∧ (parseMethodDescriptor y.desc).map (fun d => d.parameters.length) = some n
theorem g_good {y : MethodName} {b : ByteArray} {L : Nat} {r : Option FieldType} (h : Cond.code y b L r ∈ lw_all) : GoodIn lw_all [Cond.code y b L r] := fun w hw => by
  rw [List.mem_singleton.mp hw]
  exact lw_self _ h
theorem g_callB {R : Room} {s : State} {args : Array Value} {idx : Nat} {y : MethodName} {b : ByteArray} {L n f mc ms : Nat} {r : Option FieldType} (hB : gB G s) (h1 : Cond.methodLink own idx y ∈ lw_all) (h2 : Cond.initialized y.cls ∈ lw_all) (h3 : Cond.code y b L r ∈ lw_all) (hc : y.cls ≠ "java/lang/invoke/MethodHandle" ∧ y.cls ≠ "java/lang/invoke/VarHandle") (hn : (parseMethodDescriptor y.desc).map (fun d => d.parameters.length) = some n) (hR : f + 1 ≤ R.frames ∧ 8 + (L + 11) + 60 * f ≤ R.locals) : CallB R s args own idx y b L r [Cond.code y b L r] (gRm f mc ms) mc ms n :=
  callB_of n (fun w hw => hB.w hw args) (g_good h3) rfl rfl rfl (hB.w h2 args) (hB.w h1 args) ⟨hc.1, hc.2, hn⟩ hR
theorem g_callS (C : gCtx G X cc nL own fr ret) {idx : Nat} (d : decode cc pc = .ok (.invokestatic idx, 3)) {y : MethodName} {b : ByteArray} {L n f mc ms : Nat} {r : Option FieldType} (K : gLkS own idx y b L r n) {As st0 : List Value} (hM : gC G y (.code y b L r) f mc ms As h post) (hlen : As.length = n) (hst : st0 = As.reverse ++ st) (hR : f + 1 ≤ fr ∧ 8 + (L + 11) + 60 * f ≤ 60 * fr) (hcat : (st.map fun v => v.category).sum ≤ 8)
    (k : ∀ (r : Option Value) (h' : gH), post r h' → gW X h' kc ks (pc + 3) lv (r.toList ++ st)) : gW X h (kc + mc) (ks + ms) pc lv st0 := by
  obtain ⟨G9, p, e, R, s, m, args, below, meth, c, Q⟩ := X
  obtain ⟨rfl, hx, hb, hml, hown, hlk, hrt, hfr, hlo, hB⟩ := C
  intro H locs cells slots ls hV hS h1 h2 hl
  subst hst
  obtain ⟨⟨k1, k2, k3, k4⟩, kn, kd⟩ := K
  have hts : ∀ w ∈ lw_all, w.before args s = true := fun w hw => hB.w hw args
  refine g_back hB hS (va_runS (As := As) (rest := st) ⟨hx, hb, hml, hown, hts⟩ hM ⟨g_callB hB k1 k3 k4 kn kd (by rw [hfr, hlo]; exact hR), hts _ k2⟩ ⟨gPc_blind, fun U hU hW => g_pre hB hV hS U hU hW⟩ rfl hlen (by rw [← hml]; exact hl.1) rfl (lv_room hcat) d ⟨by omega, by omega⟩) ?_
  intro r h' H1 locs1 hp hV1 hS1
  exact k r h' hp H1 locs1 _ _ ls hV1 hS1 (by omega) (by omega) hl
theorem g_callV (C : gCtx G X cc nL own fr ret) {idx : Nat} (d : decode cc pc = .ok (.invokevirtual idx, 3)) {y : MethodName} {b : ByteArray} {L n f mc ms : Nat} {r : Option FieldType} (K : gLkV own idx y b L r n) {a ci : Nat} {t : gT} {fs : List Value} (ha : h a = some (t, .inr (ci, fs))) {T : u_T} {N : Nat} (hci : gcl[ci]? = some (y.cls, T, N)) {As st0 : List Value} (hM : gC G y (.code y b L r) f mc ms (.ref a :: As) h post) (hlen : As.length = n) (hst : st0 = As.reverse ++ .ref a :: st) (hR : f + 1 ≤ fr ∧ 8 + (L + 11) + 60 * f ≤ 60 * fr) (hcat : (st.map fun v => v.category).sum ≤ 8)
    (k : ∀ (r : Option Value) (h' : gH), post r h' → gW X h' kc ks (pc + 3) lv (r.toList ++ st)) : gW X h (kc + mc) (ks + ms) pc lv st0 := by
  obtain ⟨G9, p, e, R, s, m, args, below, meth, c, Q⟩ := X
  obtain ⟨rfl, hx, hb, hml, hown, hlk, hrt, hfr, hlo, hB⟩ := C
  intro H locs cells slots ls hV hS h1 h2 hl
  subst hst
  obtain ⟨⟨k1, k2, k3, k4, k5⟩, kn, kd⟩ := K
  have hts : ∀ w ∈ lw_all, w.before args s = true := fun w hw => hB.w hw args
  refine g_back hB hS (va_runV (C := y.cls) (As := As) (rest := st) ⟨hx, hb, hml, hown, hts⟩ hM ⟨g_callB hB k1 k4 k5 kn kd (by rw [hfr, hlo]; exact hR), hts _ k2, hts _ k3⟩ ⟨gPc_blind, g_recv hB hV ha hci, fun U hU hW => g_pre hB hV hS U hU hW⟩ rfl hlen (by rw [← hml]; exact hl.1) rfl (lv_room hcat) d ⟨by omega, by omega⟩) ?_
  intro r h' H1 locs1 hp hV1 hS1
  exact k r h' hp H1 locs1 _ _ ls hV1 hS1 (by omega) (by omega) hl
theorem g_callI (C : gCtx G X cc nL own fr ret) {idx : Nat} (d : decode cc pc = .ok (.invokespecial idx, 3)) {y : MethodName} {b : ByteArray} {L n f mc ms : Nat} (K : gLkI own idx y b L n) {a : Nat} {As st0 : List Value} (hM : gC G y (.code y b L none) f mc ms (.ref a :: As) h post) (hlen : As.length = n) (hst : st0 = As.reverse ++ .ref a :: st) (hR : f + 1 ≤ fr ∧ 8 + (L + 11) + 60 * f ≤ 60 * fr) (hcat : (st.map fun v => v.category).sum ≤ 8)
    (k : ∀ (r : Option Value) (h' : gH), post r h' → gW X h' kc ks (pc + 3) lv (r.toList ++ st)) : gW X h (kc + mc) (ks + ms) pc lv st0 := by
  obtain ⟨G9, p, e, R, s, m, args, below, meth, c, Q⟩ := X
  obtain ⟨rfl, hx, hb, hml, hown, hlk, hrt, hfr, hlo, hB⟩ := C
  intro H locs cells slots ls hV hS h1 h2 hl
  subst hst
  obtain ⟨⟨k1, k2, k3, k4⟩, kn, kd⟩ := K
  have hts : ∀ w ∈ lw_all, w.before args s = true := fun w hw => hB.w hw args
  refine g_back hB hS (va_runI (As := As) (rest := st) ⟨hx, hb, hml, hown, hts⟩ hM ⟨g_callB hB k1 k3 k4 kn.2 kd (by rw [hfr, hlo]; exact hR), kn.1, hts _ k2⟩ ⟨gPc_blind, fun U hU hW => g_pre hB hV hS U hU hW⟩ rfl hlen (by rw [← hml]; exact hl.1) rfl (lv_room hcat) d ⟨by omega, by omega⟩) ?_
  intro r h' H1 locs1 hp hV1 hS1
  exact k r h' hp H1 locs1 _ _ ls hV1 hS1 (by omega) (by omega) hl
/-- Object.<init> -/
theorem g_objInit (C : gCtx G X cc nL own fr ret) {idx : Nat} (d : decode cc pc = .ok (.invokespecial idx, 3)) (hl1 : Cond.methodLink own idx objectInit ∈ lw_all) (hl2 : Cond.instanceMethod objectInit ∈ lw_all) (hl3 : Cond.code objectInit ⟨#[0xb1]⟩ 1 none ∈ lw_all) {a : Nat} (hfr1 : 1 ≤ fr) (hcat : (st.map fun v => v.category).sum ≤ 8) (k : gW X h kc ks (pc + 3) lv st) : gW X h kc ks pc lv (.ref a :: st) := by
  obtain ⟨G9, p, e, R, s, m, args, below, meth, c, Q⟩ := X
  obtain ⟨rfl, hx, hb, hml, hown, hlk, hrt, hfr, hlo, hB⟩ := C
  intro H locs cells slots ls hV hS h1 h2 hl
  refine W.objInit hx hb hown (hB.w hl1 args) (hB.w hl2 args) (hB.w hl3 args) rfl hl.1 rfl d (by omega) (by have := lv_room (pc := pc) (ls := ls) (rest := st) (m := m) hcat; show 2 * (F0 m pc ls (.ref a :: st)).monitorRoom + _ + 12 ≤ _; have e9 : (F0 m pc ls (.ref a :: st)).monitorRoom = (F0 m pc ls st).monitorRoom := rfl; omega) ?_
  exact k H locs cells slots ls hV hS h1 h2 hl
end GC
