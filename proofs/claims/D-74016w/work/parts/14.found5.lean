/-! THE g LAYER, 5: classes, small laws (printed by tools/gen_cls.py) -/
set_option maxRecDepth 100000
theorem gRo {a : Int} (h1 : -2147483648 ≤ a) (h2 : a ≤ 2147483647) : gR a := ⟨h1, h2⟩
theorem gUp_s1 {h h1 : gH} {a : Nat} {x : gT × va_E} (e : h1 = gUp h a x) : h1 a = some x := by rw [e]; exact gUp_s h a x
theorem gUp_t1 {h h1 : gH} {a b : Nat} {x : gT × va_E} {t t2 : gT} {e e2 : va_E} (e1 : h1 = gUp h a x) (ha : h a = some (t, e)) (hb : h b = some (t2, e2)) (n : t2 ≠ t) : h1 b = some (t2, e2) := by rw [e1]; exact gUp_t ha hb n
theorem gUp_f1 {h h1 : gH} {a b : Nat} {x y : gT × va_E} (e1 : h1 = gUp h a x) (ha : h a = none) (hb : h b = some y) : h1 b = some y := by rw [e1]; exact gUp_f ha hb
theorem gb_fit (b : Bool) : fits .boolean (.int (iI (gb b))) = true := by cases b <;> rfl
/-- h' is h but for cells whose tag's role is in R (and new cells) -/
def gAgr (R : Nat → Prop) (h h' : gH) : Prop := (∀ a t e, h a = some (t, e) → ¬ R t.1 → h' a = some (t, e)) ∧ ∀ a, h a ≠ none → h' a ≠ none
theorem gAgr.rf {R : Nat → Prop} {h : gH} : gAgr R h h := ⟨fun _ _ _ k _ => k, fun _ k => k⟩
theorem gAgr.trans {R : Nat → Prop} {h h1 h2 : gH} (a : gAgr R h h1) (b : gAgr R h1 h2) : gAgr R h h2 := ⟨fun x t e k n => b.1 x t e (a.1 x t e k n) n, fun x k => b.2 x (a.2 x k)⟩
theorem gAgr.mono {R S : Nat → Prop} {h h1 : gH} (a : gAgr R h h1) (hs : ∀ r, R r → S r) : gAgr S h h1 := ⟨fun x t e k n => a.1 x t e k (fun q => n (hs _ q)), a.2⟩
theorem gUp_some {h h1 : gH} {a b : Nat} {x : gT × va_E} (hh : h1 = gUp h a x) (k : h b ≠ none) : h1 b ≠ none := by
  rw [hh]
  by_cases c : b = a
  · rw [c, gUp_s]; intro z; cases z
  · rw [gUp_n c]; exact k
theorem gAgr.up {R : Nat → Prop} {h h1 : gH} {a : Nat} {t : gT} {e e' : va_E} (hh : h1 = gUp h a (t, e)) (ha : h a = some (t, e')) (hr : R t.1) : gAgr R h h1 := ⟨fun x t2 e2 k n => gUp_t1 hh ha k (fun q => n (by rw [show t2 = t from q]; exact hr)), fun _ k => gUp_some hh k⟩
theorem gAgr.new {R : Nat → Prop} {h h1 : gH} {a : Nat} {x : gT × va_E} (hh : h1 = gUp h a x) (ha : h a = none) : gAgr R h h1 := ⟨fun b t e k _ => gUp_f1 hh ha k, fun _ k => gUp_some hh k⟩
/-- what isn't there now wasn't there before -/
theorem gAgr.fresh {R : Nat → Prop} {h h1 : gH} {a : Nat} (A : gAgr R h h1) (hn : h1 a = none) : h a = none := by
  cases c : h a with
  | none => rfl
  | some x => exact absurd hn (A.2 a (by rw [c]; intro z; cases z))
/-- a store in a cell that wasn't there before -/
theorem gAgr.upn {R : Nat → Prop} {h h1 h2 : gH} {a : Nat} {x : gT × va_E} (A : gAgr R h h1) (hn : h a = none) (hh : h2 = gUp h1 a x) : gAgr R h h2 := by
  refine ⟨fun b t e k n => ?_, fun b k => gUp_some hh (A.2 b k)⟩
  have : b ≠ a := by rintro rfl; rw [hn] at k; cases k
  rw [hh, gUp_n this]
  exact A.1 b t e k n
theorem q_objInit : Cond.code objectInit ⟨#[0xb1]⟩ 1 none ∈ lw_all := q147
theorem kcX1 : gCls 0 RX1 TX1 10 tyX1 := ⟨rfl, in_X1, tyX1_ok, nmX1⟩
theorem dfX1 : ∀ j, j < 10 → defaultValue (tyX1 j) = vp_V [.int (iI 0), .int (iI 0), .null, .int (iI 0), .int (iI 0), .null, .null, .null, .null, .int (iI 0)] j := fun j hj => match j, hj with
  | 0, _ => rfl
  | 1, _ => rfl
  | 2, _ => rfl
  | 3, _ => rfl
  | 4, _ => rfl
  | 5, _ => rfl
  | 6, _ => rfl
  | 7, _ => rfl
  | 8, _ => rfl
  | 9, _ => rfl
  | n + 10, h => absurd h (by omega)
theorem kcX2 : gCls 1 RX2 TX2 2 tyX2 := ⟨rfl, in_X2, tyX2_ok, nmX2⟩
theorem dfX2 : ∀ j, j < 2 → defaultValue (tyX2 j) = vp_V [.null, .int (iI 0)] j := fun j hj => match j, hj with
  | 0, _ => rfl
  | 1, _ => rfl
  | n + 2, h => absurd h (by omega)
theorem kcX3 : gCls 2 RX3 TX3 26 tyX3 := ⟨rfl, in_X3, tyX3_ok, nmX3⟩
theorem dfX3 : ∀ j, j < 26 → defaultValue (tyX3 j) = vp_V [.int (iI 0), .int (iI 0), .int (iI 0), .int (iI 0), .null, .int (iI 0), .null, .null, .int (iI 0), .int (iI 0), .int (iI 0), .int (iI 0), .int (iI 0), .int (iI 0), .int (iI 0), .int (iI 0), .int (iI 0), .int (iI 0), .null, .null, .null, .null, .null, .int (iI 0), .null, .int (iI 0)] j := fun j hj => match j, hj with
  | 0, _ => rfl
  | 1, _ => rfl
  | 2, _ => rfl
  | 3, _ => rfl
  | 4, _ => rfl
  | 5, _ => rfl
  | 6, _ => rfl
  | 7, _ => rfl
  | 8, _ => rfl
  | 9, _ => rfl
  | 10, _ => rfl
  | 11, _ => rfl
  | 12, _ => rfl
  | 13, _ => rfl
  | 14, _ => rfl
  | 15, _ => rfl
  | 16, _ => rfl
  | 17, _ => rfl
  | 18, _ => rfl
  | 19, _ => rfl
  | 20, _ => rfl
  | 21, _ => rfl
  | 22, _ => rfl
  | 23, _ => rfl
  | 24, _ => rfl
  | 25, _ => rfl
  | n + 26, h => absurd h (by omega)
theorem kcX4 : gCls 3 RX4 TX4 9 tyX4 := ⟨rfl, in_X4, tyX4_ok, nmX4⟩
theorem dfX4 : ∀ j, j < 9 → defaultValue (tyX4 j) = vp_V [.int (iI 0), .null, .null, .int (iI 0), .int (iI 0), .int (iI 0), .int (iI 0), .long 0, .null] j := fun j hj => match j, hj with
  | 0, _ => rfl
  | 1, _ => rfl
  | 2, _ => rfl
  | 3, _ => rfl
  | 4, _ => rfl
  | 5, _ => rfl
  | 6, _ => rfl
  | 7, _ => rfl
  | 8, _ => rfl
  | n + 9, h => absurd h (by omega)
theorem kcX5 : gCls 4 RX5 TX5 7 tyX5 := ⟨rfl, in_X5, tyX5_ok, nmX5⟩
theorem dfX5 : ∀ j, j < 7 → defaultValue (tyX5 j) = vp_V [.int (iI 0), .int (iI 0), .int (iI 0), .int (iI 0), .int (iI 0), .null, .null] j := fun j hj => match j, hj with
  | 0, _ => rfl
  | 1, _ => rfl
  | 2, _ => rfl
  | 3, _ => rfl
  | 4, _ => rfl
  | 5, _ => rfl
  | 6, _ => rfl
  | n + 7, h => absurd h (by omega)
theorem kcX6 : gCls 5 RX6 TX6 8 tyX6 := ⟨rfl, in_X6, tyX6_ok, nmX6⟩
theorem dfX6 : ∀ j, j < 8 → defaultValue (tyX6 j) = vp_V [.null, .null, .null, .null, .null, .int (iI 0), .int (iI 0), .int (iI 0)] j := fun j hj => match j, hj with
  | 0, _ => rfl
  | 1, _ => rfl
  | 2, _ => rfl
  | 3, _ => rfl
  | 4, _ => rfl
  | 5, _ => rfl
  | 6, _ => rfl
  | 7, _ => rfl
  | n + 8, h => absurd h (by omega)
theorem kcX7 : gCls 6 RX7 TX7 5 tyX7 := ⟨rfl, in_X7, tyX7_ok, nmX7⟩
theorem dfX7 : ∀ j, j < 5 → defaultValue (tyX7 j) = vp_V [.null, .null, .int (iI 0), .int (iI 0), .int (iI 0)] j := fun j hj => match j, hj with
  | 0, _ => rfl
  | 1, _ => rfl
  | 2, _ => rfl
  | 3, _ => rfl
  | 4, _ => rfl
  | n + 5, h => absurd h (by omega)
theorem kcX8 : gCls 7 RX8 TX8 15 tyX8 := ⟨rfl, in_X8, tyX8_ok, nmX8⟩
theorem dfX8 : ∀ j, j < 15 → defaultValue (tyX8 j) = vp_V [.int (iI 0), .int (iI 0), .int (iI 0), .int (iI 0), .int (iI 0), .int (iI 0), .int (iI 0), .int (iI 0), .int (iI 0), .int (iI 0), .int (iI 0), .int (iI 0), .int (iI 0), .int (iI 0), .null] j := fun j hj => match j, hj with
  | 0, _ => rfl
  | 1, _ => rfl
  | 2, _ => rfl
  | 3, _ => rfl
  | 4, _ => rfl
  | 5, _ => rfl
  | 6, _ => rfl
  | 7, _ => rfl
  | 8, _ => rfl
  | 9, _ => rfl
  | 10, _ => rfl
  | 11, _ => rfl
  | 12, _ => rfl
  | 13, _ => rfl
  | 14, _ => rfl
  | n + 15, h => absurd h (by omega)
theorem kcX9 : gCls 8 RX9 TX9 7 tyX9 := ⟨rfl, in_X9, tyX9_ok, nmX9⟩
theorem dfX9 : ∀ j, j < 7 → defaultValue (tyX9 j) = vp_V [.null, .null, .null, .null, .int (iI 0), .int (iI 0), .int (iI 0)] j := fun j hj => match j, hj with
  | 0, _ => rfl
  | 1, _ => rfl
  | 2, _ => rfl
  | 3, _ => rfl
  | 4, _ => rfl
  | 5, _ => rfl
  | 6, _ => rfl
  | n + 7, h => absurd h (by omega)
theorem kcX10 : gCls 9 RX10 TX10 6 tyX10 := ⟨rfl, in_X10, tyX10_ok, nmX10⟩
theorem dfX10 : ∀ j, j < 6 → defaultValue (tyX10 j) = vp_V [.null, .null, .null, .null, .null, .int (iI 0)] j := fun j hj => match j, hj with
  | 0, _ => rfl
  | 1, _ => rfl
  | 2, _ => rfl
  | 3, _ => rfl
  | 4, _ => rfl
  | 5, _ => rfl
  | n + 6, h => absurd h (by omega)
theorem kcX11 : gCls 10 RX11 TX11 6 tyX11 := ⟨rfl, in_X11, tyX11_ok, nmX11⟩
theorem dfX11 : ∀ j, j < 6 → defaultValue (tyX11 j) = vp_V [.null, .null, .null, .null, .null, .int (iI 0)] j := fun j hj => match j, hj with
  | 0, _ => rfl
  | 1, _ => rfl
  | 2, _ => rfl
  | 3, _ => rfl
  | 4, _ => rfl
  | 5, _ => rfl
  | n + 6, h => absurd h (by omega)
theorem kcX12 : gCls 11 RX12 TX12 6 tyX12 := ⟨rfl, in_X12, tyX12_ok, nmX12⟩
theorem dfX12 : ∀ j, j < 6 → defaultValue (tyX12 j) = vp_V [.null, .null, .null, .null, .null, .int (iI 0)] j := fun j hj => match j, hj with
  | 0, _ => rfl
  | 1, _ => rfl
  | 2, _ => rfl
  | 3, _ => rfl
  | 4, _ => rfl
  | 5, _ => rfl
  | n + 6, h => absurd h (by omega)
theorem kcX13 : gCls 12 RX13 TX13 6 tyX13 := ⟨rfl, in_X13, tyX13_ok, nmX13⟩
theorem dfX13 : ∀ j, j < 6 → defaultValue (tyX13 j) = vp_V [.int (iI 0), .int (iI 0), .int (iI 0), .int (iI 0), .int (iI 0), .int (iI 0)] j := fun j hj => match j, hj with
  | 0, _ => rfl
  | 1, _ => rfl
  | 2, _ => rfl
  | 3, _ => rfl
  | 4, _ => rfl
  | 5, _ => rfl
  | n + 6, h => absurd h (by omega)
theorem kcJ2 : gCls 13 RJ2 TJ2 3 tyJ2 := ⟨rfl, in_J2, tyJ2_ok, nmJ2⟩
theorem dfJ2 : ∀ j, j < 3 → defaultValue (tyJ2 j) = vp_V [.int (iI 0), .null, .int (iI 0)] j := fun j hj => match j, hj with
  | 0, _ => rfl
  | 1, _ => rfl
  | 2, _ => rfl
  | n + 3, h => absurd h (by omega)
theorem kcJ11 : gCls 14 RJ11 TJ11 1 tyJ11 := ⟨rfl, in_J11, tyJ11_ok, nmJ11⟩
theorem dfJ11 : ∀ j, j < 1 → defaultValue (tyJ11 j) = vp_V [.int (iI 0)] j := fun j hj => match j, hj with
  | 0, _ => rfl
  | n + 1, h => absurd h (by omega)
theorem kcJ15 : gCls 15 RJ15 TJ15 4 tyJ15 := ⟨rfl, in_J15, tyJ15_ok, nmJ15⟩
theorem dfJ15 : ∀ j, j < 4 → defaultValue (tyJ15 j) = vp_V [.int (iI 0), .int (iI 0), .int (iI 0), .null] j := fun j hj => match j, hj with
  | 0, _ => rfl
  | 1, _ => rfl
  | 2, _ => rfl
  | 3, _ => rfl
  | n + 4, h => absurd h (by omega)
theorem kcJ17 : gCls 16 RJ17 TJ17 6 tyJ17 := ⟨rfl, in_J17, tyJ17_ok, nmJ17⟩
theorem dfJ17 : ∀ j, j < 6 → defaultValue (tyJ17 j) = vp_V [.null, .null, .null, .null, .null, .int (iI 0)] j := fun j hj => match j, hj with
  | 0, _ => rfl
  | 1, _ => rfl
  | 2, _ => rfl
  | 3, _ => rfl
  | 4, _ => rfl
  | 5, _ => rfl
  | n + 6, h => absurd h (by omega)
