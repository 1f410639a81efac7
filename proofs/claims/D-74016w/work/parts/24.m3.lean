/-! THE REFERENCE, walks 3 -/
set_option maxRecDepth 100000
theorem lkX3_276 : gLkV RX3 276 yX3_isOn cX3_isOn 1 (some .boolean) 0 := ⟨⟨q1758, q1760, qs81, q111, q1761⟩, ⟨by decide, by decide⟩, by decide +kernel⟩
theorem lkX3_297 : gLkV RX3 297 yX3_throughMany cX3_throughMany 3 (some .int) 0 := ⟨⟨q1848, q1850, qs93, q111, q1851⟩, ⟨by decide, by decide⟩, by decide +kernel⟩
theorem lkX3_321 : gLkV RX3 321 yX3_isDoubtful cX3_isDoubtful 2 (some .boolean) 1 := ⟨⟨q1919, q1921, qs101, q111, q1922⟩, ⟨by decide, by decide⟩, by decide +kernel⟩
theorem lkX3_324 : gLkV RX3 324 yX3_doubtfulMany cX3_doubtfulMany 3 (some .int) 0 := ⟨⟨q1915, q1917, qs100, q111, q1918⟩, ⟨by decide, by decide⟩, by decide +kernel⟩
theorem lkX3_327 : gLkV RX3 327 yX3_meanOf cX3_meanOf 7 (some .int) 2 := ⟨⟨q1931, q1933, qs102, q111, q1934⟩, ⟨by decide, by decide⟩, by decide +kernel⟩
theorem lkX3_330 : gLkV RX3 330 yX3_signAt cX3_signAt 6 (some .int) 3 := ⟨⟨q1955, q1957, qs103, q111, q1958⟩, ⟨by decide, by decide⟩, by decide +kernel⟩
theorem lkX3_260 : gLkS RX3 260 yX3_countAt cX3_countAt 2 (some .int) 2 := ⟨⟨q1766, q1767, q111, q1768⟩, ⟨by decide, by decide⟩, by decide +kernel⟩
theorem lkX3_270 : gLkS RX3 270 yX3_onesOf cX3_onesOf 1 (some .int) 1 := ⟨⟨q1769, q1770, q111, q1771⟩, ⟨by decide, by decide⟩, by decide +kernel⟩
theorem c_X3_isOn {G : gG} {h : gH} {h0 : gH} {m : Nat} {ad : Nat → Nat} {f : Nat → Int} {g : Nat → Int → Int} (M : mSt G h0 h m ad f g) (hf8 : f 8 = 0 ∨ f 8 = 1) (hO8 : f 8 = 1 → mOk (g 6) (g 18)) : gC G yX3_isOn (.code yX3_isOn cX3_isOn 1 (some .boolean)) 0 0 0 [.ref m] h (fun r h' => r = some (.int (iI (gb (mOnB (f 8) (g 18))))) ∧ h = h') := by
  refine gC.of (by decide) (Nat.le_of_ble_eq_true rfl) rfl ?_
  intro X C E hI
  have C : gCtx G X cX3_isOn 1 RX3 0 (some .boolean) := C
  rcases id hf8 with e8 | e8
  · refine g_aload_n C dX3_isOn_0 0 rfl ?_
    refine g_get C dX3_isOn_1 kcX3 8 q1471 (fun _ _ _ _ h9 => h9) M.o (Nat.le_of_ble_eq_true rfl) rfl ?_
    rw [show f 8 = 0 from e8]
    refine g_if_eq C dX3_isOn_4 (tgt := 22) (by decide) (gRo (by decide) (by decide)) (fun _ => ?_) (fun q => absurd (by decide) q)
    refine g_iconst C dX3_isOn_22 ?_
    refine g_bret C E dX3_isOn_23 rfl false rfl ?_
    exact ⟨rB (by simp [mOnB, *]), rfl⟩
  · have hO := hO8 e8
    obtain ⟨hI_, hr, hn, hT, hS_⟩ := id hO
    obtain ⟨hi0, hi1, hi2, hi3, hi4, hi5, hiA, hiR⟩ := id hI_
    obtain ⟨hs1, hs3, hs4, hs5, hs6, hs7, hs8, hs11, hs2⟩ := id hS_
    refine g_aload_n C dX3_isOn_0 0 rfl ?_
    refine g_get C dX3_isOn_1 kcX3 8 q1471 (fun _ _ _ _ h9 => h9) M.o (Nat.le_of_ble_eq_true rfl) rfl ?_
    rw [show f 8 = 1 from e8]
    refine g_if_eq C dX3_isOn_4 (tgt := 22) (by decide) (gRo (by decide) (by decide)) (fun q => absurd q (by decide)) (fun _ => ?_)
    refine g_aload_n C dX3_isOn_7 0 rfl ?_
    refine g_get C dX3_isOn_8 kcX3 18 q1481 (fun _ _ _ _ h9 => h9) M.o (Nat.le_of_ble_eq_true rfl) rfl ?_
    refine g_iconst C dX3_isOn_11 ?_
    refine g_iald C dX3_isOn_12 (v := g 18 1) M.a18 (by decide) (by decide) (by decide) rfl ?_
    refine g_bipush C dX3_isOn_13 (by decide) ?_
    refine g_icmp_eq C dX3_isOn_15 (tgt := 22) (by decide) (hr _) (gRo (by decide) (by decide)) (fun c15 => ?_) (fun c15 => ?_)
    · refine g_iconst C dX3_isOn_22 ?_
      refine g_bret C E dX3_isOn_23 rfl false rfl ?_
      exact ⟨rB (by simp [mOnB, *]), rfl⟩
    · refine g_iconst C dX3_isOn_18 ?_
      refine g_goto C dX3_isOn_19 (tgt := 23) (by decide) ?_
      refine g_bret C E dX3_isOn_23 rfl true rfl ?_
      exact ⟨rB (by simp [mOnB, *]), rfl⟩
theorem c_X3_onWhy {G : gG} {h : gH} {h0 : gH} {m : Nat} {ad : Nat → Nat} {f : Nat → Int} {g : Nat → Int → Int} (M : mSt G h0 h m ad f g) (hf8 : f 8 = 0 ∨ f 8 = 1) (hO8 : f 8 = 1 → mOk (g 6) (g 18)) : gC G yX3_onWhy (.code yX3_onWhy cX3_onWhy 1 (some .int)) 1 0 0 [.ref m] h (fun r h' => r = some (.int (iI (mOnW (f 8) (g 18)))) ∧ h = h') := by
  refine gC.of (by decide) (Nat.le_of_ble_eq_true rfl) rfl ?_
  intro X C E hI
  have C : gCtx G X cX3_onWhy 1 RX3 1 (some .int) := C
  rcases id hf8 with e8 | e8
  · refine g_aload_n C dX3_onWhy_0 0 rfl ?_
    refine g_get C dX3_onWhy_1 kcX3 8 q1471 (fun _ _ _ _ h9 => h9) M.o (Nat.le_of_ble_eq_true rfl) rfl ?_
    rw [show f 8 = 0 from e8]
    refine g_if_ne C dX3_onWhy_4 (tgt := 11) (by decide) (gRo (by decide) (by decide)) (fun q => absurd (by decide) q) (fun _ => ?_)
    refine g_iconst C dX3_onWhy_7 ?_
    refine g_goto C dX3_onWhy_8 (tgt := 23) (by decide) ?_
    refine g_iret C E dX3_onWhy_23 rfl ?_
    exact ⟨rI (by unfold mOnW; grind), rfl⟩
  · have hO := hO8 e8
    obtain ⟨hI_, hr, hn, hT, hS_⟩ := id hO
    obtain ⟨hi0, hi1, hi2, hi3, hi4, hi5, hiA, hiR⟩ := id hI_
    obtain ⟨hs1, hs3, hs4, hs5, hs6, hs7, hs8, hs11, hs2⟩ := id hS_
    refine g_aload_n C dX3_onWhy_0 0 rfl ?_
    refine g_get C dX3_onWhy_1 kcX3 8 q1471 (fun _ _ _ _ h9 => h9) M.o (Nat.le_of_ble_eq_true rfl) rfl ?_
    rw [show f 8 = 1 from e8]
    refine g_if_ne C dX3_onWhy_4 (tgt := 11) (by decide) (gRo (by decide) (by decide)) (fun _ => ?_) (fun q => absurd q (by decide))
    refine g_aload_n C dX3_onWhy_11 0 rfl ?_
    refine g_callV C dX3_onWhy_12 lkX3_276 M.o rfl (As := []) (c_X3_isOn M hf8 hO8) rfl rfl ⟨Nat.le_of_ble_eq_true rfl, Nat.le_of_ble_eq_true rfl⟩ (Nat.le_of_ble_eq_true rfl) ?_
    rintro _ _ ⟨rfl, rfl⟩
    show gW X h 0 0 15 [(0, .ref m)] [.int (iI (gb (mOnB (f 8) (g 18))))]
    refine g_ifF C dX3_onWhy_15 (tgt := 22) (by decide) (fun c15 => ?_) (fun c15 => ?_)
    · refine g_iconst C dX3_onWhy_22 ?_
      refine g_iret C E dX3_onWhy_23 rfl ?_
      exact ⟨rI (by unfold mOnW; grind), rfl⟩
    · have fb1 := mOnB_t c15
      refine g_iconst C dX3_onWhy_18 ?_
      refine g_goto C dX3_onWhy_19 (tgt := 23) (by decide) ?_
      refine g_iret C E dX3_onWhy_23 rfl ?_
      exact ⟨rI (by unfold mOnW; grind), rfl⟩
theorem c_X3_throughMany {G : gG} {h : gH} {h0 : gH} {m : Nat} {ad : Nat → Nat} {f : Nat → Int} {g : Nat → Int → Int} (M : mSt G h0 h m ad f g) (hO : mOk (g 6) (g 18)) : gC G yX3_throughMany (.code yX3_throughMany cX3_throughMany 3 (some .int)) 1 0 0 [.ref m] h (fun r h' => r = some (.int (iI (mThMany (g 18)))) ∧ h = h') := by
  refine gC.of (by decide) (Nat.le_of_ble_eq_true rfl) rfl ?_
  intro X C E hI
  have C : gCtx G X cX3_throughMany 3 RX3 1 (some .int) := C
  obtain ⟨hI_, hr, hn, hT, hS_⟩ := id hO
  obtain ⟨hi0, hi1, hi2, hi3, hi4, hi5, hiA, hiR⟩ := id hI_
  obtain ⟨hs1, hs3, hs4, hs5, hs6, hs7, hs8, hs11, hs2⟩ := id hS_
  refine g_iconst C dX3_throughMany_0 ?_
  refine g_istore_n C dX3_throughMany_1 (lv' := [(1, .int (iI 0)), (0, .ref m)]) 1 rfl (Nat.le_of_ble_eq_true rfl) rfl ?_
  refine g_iconst C dX3_throughMany_2 ?_
  refine g_istore_n C dX3_throughMany_3 (lv' := [(2, .int (iI 0)), (1, .int (iI 0)), (0, .ref m)]) 2 rfl (Nat.le_of_ble_eq_true rfl) rfl ?_
  have L4 : ∀ (n : Nat) (k : Int) (a : Int) (hk : 0 ≤ k ∧ k ≤ g 18 0) (hn9 : g 18 0 - k < n) (ha : 0 ≤ a ∧ a ≤ k) (hs : a + mCount (fun k => decide (2 ≤ mT (g 18) k 4)) (g 18 0 - k).toNat k = mThMany (g 18)), gW X h 0 0 4 [(2, .int (iI k)), (1, .int (iI a)), (0, .ref m)] [] := by
    intro n
    induction n with
    | zero => intro k a hk hn9 ha hs; exfalso; omega
    | succ n ih =>
      intro k a hk hn9 ha hs
      refine g_iload_n C dX3_throughMany_4 0 rfl ?_
      refine g_aload_n C dX3_throughMany_5 2 rfl ?_
      refine g_get C dX3_throughMany_6 kcX3 18 q1481 (fun _ _ _ _ h9 => h9) M.o (Nat.le_of_ble_eq_true rfl) rfl ?_
      refine g_iconst C dX3_throughMany_9 ?_
      refine g_iald C dX3_throughMany_10 (v := g 18 0) M.a18 (by decide) (by decide) (by decide) rfl ?_
      refine g_icmp_ge C dX3_throughMany_11 (tgt := 42) (by decide) (gRo (by omega) (by omega)) (hr _) (fun c11 => ?_) (fun c11 => ?_)
      · refine g_iload_n C dX3_throughMany_42 1 rfl ?_
        refine g_iret C E dX3_throughMany_43 rfl ?_
        exact ⟨rI (by rw [← hs, mCount_end (by omega)]; omega), rfl⟩
      · refine g_iload_n C dX3_throughMany_14 1 rfl ?_
        refine g_aload_n C dX3_throughMany_15 2 rfl ?_
        refine g_get C dX3_throughMany_16 kcX3 18 q1481 (fun _ _ _ _ h9 => h9) M.o (Nat.le_of_ble_eq_true rfl) rfl ?_
        refine g_iload_n C dX3_throughMany_19 0 rfl ?_
        refine g_iconst C dX3_throughMany_20 ?_
        refine g_callS C dX3_throughMany_21 lkX3_213 (As := [.int (iI k), .int (iI 4)]) (c_X3_at k 4) rfl rfl ⟨Nat.le_of_ble_eq_true rfl, Nat.le_of_ble_eq_true rfl⟩ (Nat.le_of_ble_eq_true rfl) ?_
        rintro _ _ ⟨rfl, rfl⟩
        refine g_iald C dX3_throughMany_24 (v := g 18 (112 + 11 * k + 4)) M.a18 (by decide) (by omega) (by omega) rfl ?_
        refine g_iconst C dX3_throughMany_25 ?_
        refine g_icmp_lt C dX3_throughMany_26 (tgt := 33) (by decide) (hr _) (gRo (by decide) (by decide)) (fun c26 => ?_) (fun c26 => ?_)
        · refine g_iconst C dX3_throughMany_33 ?_
          refine g_iadd C dX3_throughMany_34 (v := a + 0) rfl ?_
          refine g_istore_n C dX3_throughMany_35 (lv' := [(1, .int (iI (a + 0))), (2, .int (iI k)), (0, .ref m)]) 1 rfl (Nat.le_of_ble_eq_true rfl) rfl ?_
          refine g_iinc C dX3_throughMany_36 (v := k + 1) (lv' := [(2, .int (iI (k + 1))), (1, .int (iI (a + 0))), (0, .ref m)]) 1 rfl rfl (Nat.le_of_ble_eq_true rfl) rfl ?_
          refine g_goto C dX3_throughMany_39 (tgt := 4) (by decide) ?_
          exact ih (k + 1) (a + 0) (by omega) (by omega) (by omega) (by first | (have := mCount_t (p := fun k => decide (2 ≤ mT (g 18) k 4)) (b := g 18 0) (k := k) (by omega) (decide_eq_true (by show 2 ≤ g 18 (112 + 11 * k + 4); omega)); omega) | (have := mCount_f (p := fun k => decide (2 ≤ mT (g 18) k 4)) (b := g 18 0) (k := k) (by omega) (decide_eq_false (by show ¬ 2 ≤ g 18 (112 + 11 * k + 4); omega)); omega))
        · refine g_iconst C dX3_throughMany_29 ?_
          refine g_goto C dX3_throughMany_30 (tgt := 34) (by decide) ?_
          refine g_iadd C dX3_throughMany_34 (v := a + 1) rfl ?_
          refine g_istore_n C dX3_throughMany_35 (lv' := [(1, .int (iI (a + 1))), (2, .int (iI k)), (0, .ref m)]) 1 rfl (Nat.le_of_ble_eq_true rfl) rfl ?_
          refine g_iinc C dX3_throughMany_36 (v := k + 1) (lv' := [(2, .int (iI (k + 1))), (1, .int (iI (a + 1))), (0, .ref m)]) 1 rfl rfl (Nat.le_of_ble_eq_true rfl) rfl ?_
          refine g_goto C dX3_throughMany_39 (tgt := 4) (by decide) ?_
          exact ih (k + 1) (a + 1) (by omega) (by omega) (by omega) (by first | (have := mCount_t (p := fun k => decide (2 ≤ mT (g 18) k 4)) (b := g 18 0) (k := k) (by omega) (decide_eq_true (by show 2 ≤ g 18 (112 + 11 * k + 4); omega)); omega) | (have := mCount_f (p := fun k => decide (2 ≤ mT (g 18) k 4)) (b := g 18 0) (k := k) (by omega) (decide_eq_false (by show ¬ 2 ≤ g 18 (112 + 11 * k + 4); omega)); omega))
  exact L4 (g 18 0 + 1 : Int).toNat 0 0 (by omega) (by omega) (by omega) (by show 0 + mThMany (g 18) = mThMany (g 18); omega)
theorem c_X3_about {G : gG} {h : gH} {h0 : gH} {m : Nat} {ad : Nat → Nat} {f : Nat → Int} {g : Nat → Int → Int} (M : mSt G h0 h m ad f g) (what : Int) (hwhat1 : -2147483648 ≤ what) (hwhat2 : what ≤ 2147483647) (hf8 : f 8 = 0 ∨ f 8 = 1) (hO8 : f 8 = 1 → mOk (g 6) (g 18)) : gC G yX3_about (.code yX3_about cX3_about 2 (some .int)) 2 0 0 [.ref m, .int (iI what)] h (fun r h' => r = some (.int (iI (mAns (mW1 (decide (f 8 = 1) && mIn what 0 8)) (mAbout (g 6) (g 18) what)))) ∧ mSt G h0 h' m ad (mRef f (mW1 (decide (f 8 = 1) && mIn what 0 8))) g) := by
  refine gC.of (by decide) (Nat.le_of_ble_eq_true rfl) rfl ?_
  intro X C E hI
  have C : gCtx G X cX3_about 2 RX3 2 (some .int) := C
  rcases id hf8 with e8 | e8
  · refine g_aload_n C dX3_about_0 0 rfl ?_
    refine g_aload_n C dX3_about_1 0 rfl ?_
    refine g_get C dX3_about_2 kcX3 8 q1471 (fun _ _ _ _ h9 => h9) M.o (Nat.le_of_ble_eq_true rfl) rfl ?_
    rw [show f 8 = 0 from e8]
    refine g_if_eq C dX3_about_5 (tgt := 22) (by decide) (gRo (by decide) (by decide)) (fun _ => ?_) (fun q => absurd (by decide) q)
    refine g_iconst C dX3_about_22 ?_
    refine g_callS C dX3_about_23 lkX3_191 (As := [.int (iI 0)]) (c_X3_unless false) rfl rfl ⟨Nat.le_of_ble_eq_true rfl, Nat.le_of_ble_eq_true rfl⟩ (Nat.le_of_ble_eq_true rfl) ?_
    rintro _ _ ⟨rfl, rfl⟩
    show gW X h 0 0 26 [(0, .ref m), (1, .int (iI what))] [.int (iI 1), .ref m]
    refine g_callV C dX3_about_26 lkX3_156 M.o rfl (As := [.int (iI 1)]) (c_X3_isRefused M 1 (by decide) (by decide)) rfl rfl ⟨Nat.le_of_ble_eq_true rfl, Nat.le_of_ble_eq_true rfl⟩ (Nat.le_of_ble_eq_true rfl) ?_
    rintro _ h1 ⟨rfl, M2⟩
    show gW X h1 0 0 29 [(0, .ref m), (1, .int (iI what))] [.int (iI (gb true))]
    refine g_ifF C dX3_about_29 (tgt := 34) (by decide) (fun q => absurd q (by decide)) (fun q => ?_)
    refine g_iconst C dX3_about_32 ?_
    refine g_iret C E dX3_about_33 rfl ?_
    try rw [e8]
    exact ⟨rfl, M2⟩
  · have hO := hO8 e8
    obtain ⟨hI_, hr, hn, hT, hS_⟩ := id hO
    obtain ⟨hi0, hi1, hi2, hi3, hi4, hi5, hiA, hiR⟩ := id hI_
    obtain ⟨hs1, hs3, hs4, hs5, hs6, hs7, hs8, hs11, hs2⟩ := id hS_
    refine g_aload_n C dX3_about_0 0 rfl ?_
    refine g_aload_n C dX3_about_1 0 rfl ?_
    refine g_get C dX3_about_2 kcX3 8 q1471 (fun _ _ _ _ h9 => h9) M.o (Nat.le_of_ble_eq_true rfl) rfl ?_
    rw [show f 8 = 1 from e8]
    refine g_if_eq C dX3_about_5 (tgt := 22) (by decide) (gRo (by decide) (by decide)) (fun q => absurd q (by decide)) (fun _ => ?_)
    refine g_iload_n C dX3_about_8 1 rfl ?_
    refine g_iconst C dX3_about_9 ?_
    refine g_bipush C dX3_about_10 (by decide) ?_
    refine g_callS C dX3_about_12 lkX3_70 (As := [.int (iI what), .int (iI 0), .int (iI 8)]) (c_X3_in what 0 8 (by omega) (by omega) (by decide) (by decide) (by decide) (by decide)) rfl rfl ⟨Nat.le_of_ble_eq_true rfl, Nat.le_of_ble_eq_true rfl⟩ (Nat.le_of_ble_eq_true rfl) ?_
    rintro _ _ ⟨rfl, rfl⟩
    refine g_ifF C dX3_about_15 (tgt := 22) (by decide) (fun c15 => ?_) (fun c15 => ?_)
    · have fb3 := mIn_f.mp c15
      refine g_iconst C dX3_about_22 ?_
      refine g_callS C dX3_about_23 lkX3_191 (As := [.int (iI 0)]) (c_X3_unless false) rfl rfl ⟨Nat.le_of_ble_eq_true rfl, Nat.le_of_ble_eq_true rfl⟩ (Nat.le_of_ble_eq_true rfl) ?_
      rintro _ _ ⟨rfl, rfl⟩
      show gW X h 0 0 26 [(0, .ref m), (1, .int (iI what))] [.int (iI 1), .ref m]
      refine g_callV C dX3_about_26 lkX3_156 M.o rfl (As := [.int (iI 1)]) (c_X3_isRefused M 1 (by decide) (by decide)) rfl rfl ⟨Nat.le_of_ble_eq_true rfl, Nat.le_of_ble_eq_true rfl⟩ (Nat.le_of_ble_eq_true rfl) ?_
      rintro _ h4 ⟨rfl, M5⟩
      show gW X h4 0 0 29 [(0, .ref m), (1, .int (iI what))] [.int (iI (gb true))]
      refine g_ifF C dX3_about_29 (tgt := 34) (by decide) (fun q => absurd q (by decide)) (fun q => ?_)
      refine g_iconst C dX3_about_32 ?_
      refine g_iret C E dX3_about_33 rfl ?_
      try rw [c15]
      try rw [e8]
      exact ⟨rfl, M5⟩
    · have fb6 := mIn_t.mp c15
      refine g_iconst C dX3_about_18 ?_
      refine g_goto C dX3_about_19 (tgt := 23) (by decide) ?_
      refine g_callS C dX3_about_23 lkX3_191 (As := [.int (iI 1)]) (c_X3_unless true) rfl rfl ⟨Nat.le_of_ble_eq_true rfl, Nat.le_of_ble_eq_true rfl⟩ (Nat.le_of_ble_eq_true rfl) ?_
      rintro _ _ ⟨rfl, rfl⟩
      show gW X h 0 0 26 [(0, .ref m), (1, .int (iI what))] [.int (iI 0), .ref m]
      refine g_callV C dX3_about_26 lkX3_156 M.o rfl (As := [.int (iI 0)]) (c_X3_isRefused M 0 (by decide) (by decide)) rfl rfl ⟨Nat.le_of_ble_eq_true rfl, Nat.le_of_ble_eq_true rfl⟩ (Nat.le_of_ble_eq_true rfl) ?_
      rintro _ h7 ⟨rfl, M8⟩
      show gW X h7 0 0 29 [(0, .ref m), (1, .int (iI what))] [.int (iI (gb false))]
      refine g_ifF C dX3_about_29 (tgt := 34) (by decide) (fun q => ?_) (fun q => absurd q (by decide))
      refine g_iload_n C dX3_about_34 1 rfl ?_
      rcases (show what < 5 ∨ 8 < what ∨ what = 5 ∨ what = 6 ∨ what = 7 ∨ what = 8 by omega) with e35 | e35 | e35 | e35 | e35 | e35
      · refine g_tableOut C dX3_about_35 (tgt := 91) (gRo (by omega) (by omega)) (Or.inl e35) (by decide) ?_
        refine g_aload_n C dX3_about_91 0 rfl ?_
        refine g_get C dX3_about_92 kcX3 6 q1469 (fun _ _ _ _ h9 => h9) M8.o (Nat.le_of_ble_eq_true rfl) (w := .ref (ad 6)) rfl ?_
        refine g_iload_n C dX3_about_95 1 rfl ?_
        refine g_iald C dX3_about_96 (v := g 6 what) M8.a6 (by decide) (by omega) (by omega) rfl ?_
        refine g_iret C E dX3_about_97 rfl ?_
        try rw [c15]
        try rw [e8]
        exact ⟨rI (show g 6 what = mAbout (g 6) (g 18) what from by unfold mAbout; grind), M8⟩
      · refine g_tableOut C dX3_about_35 (tgt := 91) (gRo (by omega) (by omega)) (Or.inr e35) (by decide) ?_
        refine g_aload_n C dX3_about_91 0 rfl ?_
        refine g_get C dX3_about_92 kcX3 6 q1469 (fun _ _ _ _ h9 => h9) M8.o (Nat.le_of_ble_eq_true rfl) (w := .ref (ad 6)) rfl ?_
        refine g_iload_n C dX3_about_95 1 rfl ?_
        refine g_iald C dX3_about_96 (v := g 6 what) M8.a6 (by decide) (by omega) (by omega) rfl ?_
        refine g_iret C E dX3_about_97 rfl ?_
        try rw [c15]
        try rw [e8]
        exact ⟨rI (show g 6 what = mAbout (g 6) (g 18) what from by unfold mAbout; grind), M8⟩
      · refine g_tableIn C dX3_about_35 (tgt := 64) (gRo (by omega) (by omega)) (by omega) (by omega) (by rw [e35]; rfl) (by decide) ?_
        refine g_aload_n C dX3_about_64 0 rfl ?_
        refine g_get C dX3_about_65 kcX3 18 q1481 (fun _ _ _ _ h9 => h9) M8.o (Nat.le_of_ble_eq_true rfl) (w := .ref (ad 18)) rfl ?_
        refine g_bipush C dX3_about_68 (by decide) ?_
        refine g_iald C dX3_about_70 (v := g 18 10) M8.a18 (by decide) (by decide) (by decide) rfl ?_
        refine g_iret C E dX3_about_71 rfl ?_
        try rw [c15]
        try rw [e8]
        exact ⟨rI (show g 18 10 = mAbout (g 6) (g 18) what from by unfold mAbout; grind), M8⟩
      · refine g_tableIn C dX3_about_35 (tgt := 72) (gRo (by omega) (by omega)) (by omega) (by omega) (by rw [e35]; rfl) (by decide) ?_
        refine g_aload_n C dX3_about_72 0 rfl ?_
        refine g_get C dX3_about_73 kcX3 18 q1481 (fun _ _ _ _ h9 => h9) M8.o (Nat.le_of_ble_eq_true rfl) (w := .ref (ad 18)) rfl ?_
        refine g_iconst C dX3_about_76 ?_
        refine g_iald C dX3_about_77 (v := g 18 0) M8.a18 (by decide) (by decide) (by decide) rfl ?_
        refine g_iret C E dX3_about_78 rfl ?_
        try rw [c15]
        try rw [e8]
        exact ⟨rI (show g 18 0 = mAbout (g 6) (g 18) what from by unfold mAbout; grind), M8⟩
      · refine g_tableIn C dX3_about_35 (tgt := 79) (gRo (by omega) (by omega)) (by omega) (by omega) (by rw [e35]; rfl) (by decide) ?_
        refine g_aload_n C dX3_about_79 0 rfl ?_
        refine g_callV C dX3_about_80 lkX3_297 M8.o rfl (As := []) (c_X3_throughMany M8 hO) rfl rfl ⟨Nat.le_of_ble_eq_true rfl, Nat.le_of_ble_eq_true rfl⟩ (Nat.le_of_ble_eq_true rfl) ?_
        rintro _ _ ⟨rfl, rfl⟩
        show gW X h7 0 0 83 [(0, .ref m), (1, .int (iI what))] [.int (iI (mThMany (g 18)))]
        refine g_iret C E dX3_about_83 rfl ?_
        try rw [c15]
        try rw [e8]
        exact ⟨rI (show mThMany (g 18) = mAbout (g 6) (g 18) what from by unfold mAbout; grind), M8⟩
      · refine g_tableIn C dX3_about_35 (tgt := 84) (gRo (by omega) (by omega)) (by omega) (by omega) (by rw [e35]; rfl) (by decide) ?_
        refine g_aload_n C dX3_about_84 0 rfl ?_
        refine g_get C dX3_about_85 kcX3 6 q1469 (fun _ _ _ _ h9 => h9) M8.o (Nat.le_of_ble_eq_true rfl) (w := .ref (ad 6)) rfl ?_
        refine g_iconst C dX3_about_88 ?_
        refine g_iald C dX3_about_89 (v := g 6 5) M8.a6 (by decide) (by decide) (by decide) rfl ?_
        refine g_iret C E dX3_about_90 rfl ?_
        try rw [c15]
        try rw [e8]
        exact ⟨rI (show g 6 5 = mAbout (g 6) (g 18) what from by unfold mAbout; grind), M8⟩
theorem c_X3_task {G : gG} {h : gH} {h0 : gH} {m : Nat} {ad : Nat → Nat} {f : Nat → Int} {g : Nat → Int → Int} (M : mSt G h0 h m ad f g) (i : Int) (what : Int) (hi1 : -2147483648 ≤ i) (hi2 : i ≤ 2147483647) (hwhat1 : -2147483648 ≤ what) (hwhat2 : what ≤ 2147483647) (hf8 : f 8 = 0 ∨ f 8 = 1) (hO8 : f 8 = 1 → mOk (g 6) (g 18)) : gC G yX3_task (.code yX3_task cX3_task 3 (some .int)) 1 0 0 [.ref m, .int (iI i), .int (iI what)] h (fun r h' => r = some (.int (iI (mAns (mW1 (decide (f 8 = 1) && (mIn i 0 (g 18 0 - 1) && mIn what 0 10))) (mT (g 18) i what)))) ∧ mSt G h0 h' m ad (mRef f (mW1 (decide (f 8 = 1) && (mIn i 0 (g 18 0 - 1) && mIn what 0 10)))) g) := by
  refine gC.of (by decide) (Nat.le_of_ble_eq_true rfl) rfl ?_
  intro X C E hI
  have C : gCtx G X cX3_task 3 RX3 1 (some .int) := C
  rcases id hf8 with e8 | e8
  · refine g_aload_n C dX3_task_0 0 rfl ?_
    refine g_aload_n C dX3_task_1 0 rfl ?_
    refine g_get C dX3_task_2 kcX3 8 q1471 (fun _ _ _ _ h9 => h9) M.o (Nat.le_of_ble_eq_true rfl) rfl ?_
    rw [show f 8 = 0 from e8]
    refine g_if_eq C dX3_task_5 (tgt := 38) (by decide) (gRo (by decide) (by decide)) (fun _ => ?_) (fun q => absurd (by decide) q)
    refine g_iconst C dX3_task_38 ?_
    refine g_callS C dX3_task_39 lkX3_191 (As := [.int (iI 0)]) (c_X3_unless false) rfl rfl ⟨Nat.le_of_ble_eq_true rfl, Nat.le_of_ble_eq_true rfl⟩ (Nat.le_of_ble_eq_true rfl) ?_
    rintro _ _ ⟨rfl, rfl⟩
    show gW X h 0 0 42 [(0, .ref m), (1, .int (iI i)), (2, .int (iI what))] [.int (iI 1), .ref m]
    refine g_callV C dX3_task_42 lkX3_156 M.o rfl (As := [.int (iI 1)]) (c_X3_isRefused M 1 (by decide) (by decide)) rfl rfl ⟨Nat.le_of_ble_eq_true rfl, Nat.le_of_ble_eq_true rfl⟩ (Nat.le_of_ble_eq_true rfl) ?_
    rintro _ h1 ⟨rfl, M2⟩
    show gW X h1 0 0 45 [(0, .ref m), (1, .int (iI i)), (2, .int (iI what))] [.int (iI (gb true))]
    refine g_ifF C dX3_task_45 (tgt := 52) (by decide) (fun q => absurd q (by decide)) (fun q => ?_)
    refine g_iconst C dX3_task_48 ?_
    refine g_goto C dX3_task_49 (tgt := 62) (by decide) ?_
    refine g_iret C E dX3_task_62 rfl ?_
    try rw [e8]
    exact ⟨rfl, M2⟩
  · have hO := hO8 e8
    obtain ⟨hI_, hr, hn, hT, hS_⟩ := id hO
    obtain ⟨hi0, hi1, hi2, hi3, hi4, hi5, hiA, hiR⟩ := id hI_
    obtain ⟨hs1, hs3, hs4, hs5, hs6, hs7, hs8, hs11, hs2⟩ := id hS_
    refine g_aload_n C dX3_task_0 0 rfl ?_
    refine g_aload_n C dX3_task_1 0 rfl ?_
    refine g_get C dX3_task_2 kcX3 8 q1471 (fun _ _ _ _ h9 => h9) M.o (Nat.le_of_ble_eq_true rfl) rfl ?_
    rw [show f 8 = 1 from e8]
    refine g_if_eq C dX3_task_5 (tgt := 38) (by decide) (gRo (by decide) (by decide)) (fun q => absurd q (by decide)) (fun _ => ?_)
    refine g_iload_n C dX3_task_8 1 rfl ?_
    refine g_iconst C dX3_task_9 ?_
    refine g_aload_n C dX3_task_10 0 rfl ?_
    refine g_get C dX3_task_11 kcX3 18 q1481 (fun _ _ _ _ h9 => h9) M.o (Nat.le_of_ble_eq_true rfl) rfl ?_
    refine g_iconst C dX3_task_14 ?_
    refine g_iald C dX3_task_15 (v := g 18 0) M.a18 (by decide) (by decide) (by decide) rfl ?_
    refine g_iconst C dX3_task_16 ?_
    refine g_isub C dX3_task_17 (v := g 18 0 - 1) rfl ?_
    refine g_callS C dX3_task_18 lkX3_70 (As := [.int (iI i), .int (iI 0), .int (iI (g 18 0 - 1))]) (c_X3_in i 0 (g 18 0 - 1) (by omega) (by omega) (by decide) (by decide) (by omega) (by omega)) rfl rfl ⟨Nat.le_of_ble_eq_true rfl, Nat.le_of_ble_eq_true rfl⟩ (Nat.le_of_ble_eq_true rfl) ?_
    rintro _ _ ⟨rfl, rfl⟩
    refine g_ifF C dX3_task_21 (tgt := 38) (by decide) (fun c21 => ?_) (fun c21 => ?_)
    · have fb3 := mIn_f.mp c21
      refine g_iconst C dX3_task_38 ?_
      refine g_callS C dX3_task_39 lkX3_191 (As := [.int (iI 0)]) (c_X3_unless false) rfl rfl ⟨Nat.le_of_ble_eq_true rfl, Nat.le_of_ble_eq_true rfl⟩ (Nat.le_of_ble_eq_true rfl) ?_
      rintro _ _ ⟨rfl, rfl⟩
      show gW X h 0 0 42 [(0, .ref m), (1, .int (iI i)), (2, .int (iI what))] [.int (iI 1), .ref m]
      refine g_callV C dX3_task_42 lkX3_156 M.o rfl (As := [.int (iI 1)]) (c_X3_isRefused M 1 (by decide) (by decide)) rfl rfl ⟨Nat.le_of_ble_eq_true rfl, Nat.le_of_ble_eq_true rfl⟩ (Nat.le_of_ble_eq_true rfl) ?_
      rintro _ h4 ⟨rfl, M5⟩
      show gW X h4 0 0 45 [(0, .ref m), (1, .int (iI i)), (2, .int (iI what))] [.int (iI (gb true))]
      refine g_ifF C dX3_task_45 (tgt := 52) (by decide) (fun q => absurd q (by decide)) (fun q => ?_)
      refine g_iconst C dX3_task_48 ?_
      refine g_goto C dX3_task_49 (tgt := 62) (by decide) ?_
      refine g_iret C E dX3_task_62 rfl ?_
      try rw [c21]
      try rw [e8]
      exact ⟨rfl, M5⟩
    · have fb6 := mIn_t.mp c21
      refine g_iload_n C dX3_task_24 2 rfl ?_
      refine g_iconst C dX3_task_25 ?_
      refine g_bipush C dX3_task_26 (by decide) ?_
      refine g_callS C dX3_task_28 lkX3_70 (As := [.int (iI what), .int (iI 0), .int (iI 10)]) (c_X3_in what 0 10 (by omega) (by omega) (by decide) (by decide) (by decide) (by decide)) rfl rfl ⟨Nat.le_of_ble_eq_true rfl, Nat.le_of_ble_eq_true rfl⟩ (Nat.le_of_ble_eq_true rfl) ?_
      rintro _ _ ⟨rfl, rfl⟩
      refine g_ifF C dX3_task_31 (tgt := 38) (by decide) (fun c31 => ?_) (fun c31 => ?_)
      · have fb7 := mIn_f.mp c31
        refine g_iconst C dX3_task_38 ?_
        refine g_callS C dX3_task_39 lkX3_191 (As := [.int (iI 0)]) (c_X3_unless false) rfl rfl ⟨Nat.le_of_ble_eq_true rfl, Nat.le_of_ble_eq_true rfl⟩ (Nat.le_of_ble_eq_true rfl) ?_
        rintro _ _ ⟨rfl, rfl⟩
        show gW X h 0 0 42 [(0, .ref m), (1, .int (iI i)), (2, .int (iI what))] [.int (iI 1), .ref m]
        refine g_callV C dX3_task_42 lkX3_156 M.o rfl (As := [.int (iI 1)]) (c_X3_isRefused M 1 (by decide) (by decide)) rfl rfl ⟨Nat.le_of_ble_eq_true rfl, Nat.le_of_ble_eq_true rfl⟩ (Nat.le_of_ble_eq_true rfl) ?_
        rintro _ h8 ⟨rfl, M9⟩
        show gW X h8 0 0 45 [(0, .ref m), (1, .int (iI i)), (2, .int (iI what))] [.int (iI (gb true))]
        refine g_ifF C dX3_task_45 (tgt := 52) (by decide) (fun q => absurd q (by decide)) (fun q => ?_)
        refine g_iconst C dX3_task_48 ?_
        refine g_goto C dX3_task_49 (tgt := 62) (by decide) ?_
        refine g_iret C E dX3_task_62 rfl ?_
        try rw [c21]
        try rw [c31]
        try rw [e8]
        exact ⟨rfl, M9⟩
      · have fb10 := mIn_t.mp c31
        refine g_iconst C dX3_task_34 ?_
        refine g_goto C dX3_task_35 (tgt := 39) (by decide) ?_
        refine g_callS C dX3_task_39 lkX3_191 (As := [.int (iI 1)]) (c_X3_unless true) rfl rfl ⟨Nat.le_of_ble_eq_true rfl, Nat.le_of_ble_eq_true rfl⟩ (Nat.le_of_ble_eq_true rfl) ?_
        rintro _ _ ⟨rfl, rfl⟩
        show gW X h 0 0 42 [(0, .ref m), (1, .int (iI i)), (2, .int (iI what))] [.int (iI 0), .ref m]
        refine g_callV C dX3_task_42 lkX3_156 M.o rfl (As := [.int (iI 0)]) (c_X3_isRefused M 0 (by decide) (by decide)) rfl rfl ⟨Nat.le_of_ble_eq_true rfl, Nat.le_of_ble_eq_true rfl⟩ (Nat.le_of_ble_eq_true rfl) ?_
        rintro _ h11 ⟨rfl, M12⟩
        show gW X h11 0 0 45 [(0, .ref m), (1, .int (iI i)), (2, .int (iI what))] [.int (iI (gb false))]
        refine g_ifF C dX3_task_45 (tgt := 52) (by decide) (fun q => ?_) (fun q => absurd q (by decide))
        refine g_aload_n C dX3_task_52 0 rfl ?_
        refine g_get C dX3_task_53 kcX3 18 q1481 (fun _ _ _ _ h9 => h9) M12.o (Nat.le_of_ble_eq_true rfl) (w := .ref (ad 18)) rfl ?_
        refine g_iload_n C dX3_task_56 1 rfl ?_
        refine g_iload_n C dX3_task_57 2 rfl ?_
        refine g_callS C dX3_task_58 lkX3_213 (As := [.int (iI i), .int (iI what)]) (c_X3_at i what) rfl rfl ⟨Nat.le_of_ble_eq_true rfl, Nat.le_of_ble_eq_true rfl⟩ (Nat.le_of_ble_eq_true rfl) ?_
        rintro _ _ ⟨rfl, rfl⟩
        refine g_iald C dX3_task_61 (v := g 18 (112 + 11 * i + what)) M12.a18 (by decide) (by omega) (by omega) rfl ?_
        refine g_iret C E dX3_task_62 rfl ?_
        try rw [c21]
        try rw [c31]
        try rw [e8]
        exact ⟨rI (show g 18 (112 + 11 * i + what) = mT (g 18) i what from rfl), M12⟩
theorem c_X3_doubtfulMany {G : gG} {h : gH} {h0 : gH} {m : Nat} {ad : Nat → Nat} {f : Nat → Int} {g : Nat → Int → Int} (M : mSt G h0 h m ad f g) (hO : mOk (g 6) (g 18)) : gC G yX3_doubtfulMany (.code yX3_doubtfulMany cX3_doubtfulMany 3 (some .int)) 6 0 0 [.ref m] h (fun r h' => r = some (.int (iI (mDbMany (g 6) (g 18)))) ∧ h = h') := by
  refine gC.of (by decide) (Nat.le_of_ble_eq_true rfl) rfl ?_
  intro X C E hI
  have C : gCtx G X cX3_doubtfulMany 3 RX3 6 (some .int) := C
  obtain ⟨hI_, hr, hn, hT, hS_⟩ := id hO
  obtain ⟨hi0, hi1, hi2, hi3, hi4, hi5, hiA, hiR⟩ := id hI_
  obtain ⟨hs1, hs3, hs4, hs5, hs6, hs7, hs8, hs11, hs2⟩ := id hS_
  refine g_iconst C dX3_doubtfulMany_0 ?_
  refine g_istore_n C dX3_doubtfulMany_1 (lv' := [(1, .int (iI 0)), (0, .ref m)]) 1 rfl (Nat.le_of_ble_eq_true rfl) rfl ?_
  refine g_iconst C dX3_doubtfulMany_2 ?_
  refine g_istore_n C dX3_doubtfulMany_3 (lv' := [(2, .int (iI 0)), (1, .int (iI 0)), (0, .ref m)]) 2 rfl (Nat.le_of_ble_eq_true rfl) rfl ?_
  have L4 : ∀ (n : Nat) (k : Int) (a : Int) (hk : 0 ≤ k ∧ k ≤ g 6 0) (hn9 : g 6 0 - k < n) (ha : 0 ≤ a ∧ a ≤ k) (hs : a + mCount (mDbt (g 6) (g 18)) (g 6 0 - k).toNat k = mDbMany (g 6) (g 18)), gW X h 0 0 4 [(2, .int (iI k)), (1, .int (iI a)), (0, .ref m)] [] := by
    intro n
    induction n with
    | zero => intro k a hk hn9 ha hs; exfalso; omega
    | succ n ih =>
      intro k a hk hn9 ha hs
      refine g_iload_n C dX3_doubtfulMany_4 0 rfl ?_
      refine g_aload_n C dX3_doubtfulMany_5 2 rfl ?_
      refine g_get C dX3_doubtfulMany_6 kcX3 6 q1469 (fun _ _ _ _ h9 => h9) M.o (Nat.le_of_ble_eq_true rfl) rfl ?_
      refine g_iconst C dX3_doubtfulMany_9 ?_
      refine g_iald C dX3_doubtfulMany_10 (v := g 6 0) M.a6 (by decide) (by decide) (by decide) rfl ?_
      refine g_icmp_ge C dX3_doubtfulMany_11 (tgt := 36) (by decide) (gRo (by omega) (by omega)) (hiR _) (fun c11 => ?_) (fun c11 => ?_)
      · refine g_iload_n C dX3_doubtfulMany_36 1 rfl ?_
        refine g_iret C E dX3_doubtfulMany_37 rfl ?_
        exact ⟨rI (by rw [← hs, mCount_end (by omega)]; omega), rfl⟩
      · refine g_iload_n C dX3_doubtfulMany_14 1 rfl ?_
        refine g_aload_n C dX3_doubtfulMany_15 2 rfl ?_
        refine g_iload_n C dX3_doubtfulMany_16 0 rfl ?_
        refine g_callV C dX3_doubtfulMany_17 lkX3_321 M.o rfl (As := [.int (iI k)]) (c_X3_isDoubtful M k hO (by omega)) rfl rfl ⟨Nat.le_of_ble_eq_true rfl, Nat.le_of_ble_eq_true rfl⟩ (Nat.le_of_ble_eq_true rfl) ?_
        rintro _ _ ⟨rfl, rfl⟩
        refine g_ifF C dX3_doubtfulMany_20 (tgt := 27) (by decide) (fun c20 => ?_) (fun c20 => ?_)
        · refine g_iconst C dX3_doubtfulMany_27 ?_
          refine g_iadd C dX3_doubtfulMany_28 (v := a + 0) rfl ?_
          refine g_istore_n C dX3_doubtfulMany_29 (lv' := [(1, .int (iI (a + 0))), (2, .int (iI k)), (0, .ref m)]) 1 rfl (Nat.le_of_ble_eq_true rfl) rfl ?_
          refine g_iinc C dX3_doubtfulMany_30 (v := k + 1) (lv' := [(2, .int (iI (k + 1))), (1, .int (iI (a + 0))), (0, .ref m)]) 1 rfl rfl (Nat.le_of_ble_eq_true rfl) rfl ?_
          refine g_goto C dX3_doubtfulMany_33 (tgt := 4) (by decide) ?_
          exact ih (k + 1) (a + 0) (by omega) (by omega) (by omega) (by first | (have := mCount_t (p := mDbt (g 6) (g 18)) (b := g 6 0) (k := k) (by omega) (by assumption); omega) | (have := mCount_f (p := mDbt (g 6) (g 18)) (b := g 6 0) (k := k) (by omega) (by assumption); omega))
        · refine g_iconst C dX3_doubtfulMany_23 ?_
          refine g_goto C dX3_doubtfulMany_24 (tgt := 28) (by decide) ?_
          refine g_iadd C dX3_doubtfulMany_28 (v := a + 1) rfl ?_
          refine g_istore_n C dX3_doubtfulMany_29 (lv' := [(1, .int (iI (a + 1))), (2, .int (iI k)), (0, .ref m)]) 1 rfl (Nat.le_of_ble_eq_true rfl) rfl ?_
          refine g_iinc C dX3_doubtfulMany_30 (v := k + 1) (lv' := [(2, .int (iI (k + 1))), (1, .int (iI (a + 1))), (0, .ref m)]) 1 rfl rfl (Nat.le_of_ble_eq_true rfl) rfl ?_
          refine g_goto C dX3_doubtfulMany_33 (tgt := 4) (by decide) ?_
          exact ih (k + 1) (a + 1) (by omega) (by omega) (by omega) (by first | (have := mCount_t (p := mDbt (g 6) (g 18)) (b := g 6 0) (k := k) (by omega) (by assumption); omega) | (have := mCount_f (p := mDbt (g 6) (g 18)) (b := g 6 0) (k := k) (by omega) (by assumption); omega))
  exact L4 (g 6 0 + 1 : Int).toNat 0 0 (by omega) (by omega) (by omega) (by show 0 + mDbMany (g 6) (g 18) = mDbMany (g 6) (g 18); omega)
theorem c_X3_doubtful {G : gG} {h : gH} {h0 : gH} {m : Nat} {ad : Nat → Nat} {f : Nat → Int} {g : Nat → Int → Int} (M : mSt G h0 h m ad f g) (hf8 : f 8 = 0 ∨ f 8 = 1) (hO8 : f 8 = 1 → mOk (g 6) (g 18)) : gC G yX3_doubtful (.code yX3_doubtful cX3_doubtful 1 (some .int)) 7 0 0 [.ref m] h (fun r h' => r = some (.int (iI (mAns (mW1 (decide (f 8 = 1))) (mDbMany (g 6) (g 18))))) ∧ mSt G h0 h' m ad (mRef f (mW1 (decide (f 8 = 1)))) g) := by
  refine gC.of (by decide) (Nat.le_of_ble_eq_true rfl) rfl ?_
  intro X C E hI
  have C : gCtx G X cX3_doubtful 1 RX3 7 (some .int) := C
  rcases id hf8 with e8 | e8
  · refine g_aload_n C dX3_doubtful_0 0 rfl ?_
    refine g_aload_n C dX3_doubtful_1 0 rfl ?_
    refine g_get C dX3_doubtful_2 kcX3 8 q1471 (fun _ _ _ _ h9 => h9) M.o (Nat.le_of_ble_eq_true rfl) rfl ?_
    rw [show f 8 = 0 from e8]
    refine g_callS C dX3_doubtful_5 lkX3_191 (As := [.int (iI 0)]) (c_X3_unless false) rfl rfl ⟨Nat.le_of_ble_eq_true rfl, Nat.le_of_ble_eq_true rfl⟩ (Nat.le_of_ble_eq_true rfl) ?_
    rintro _ _ ⟨rfl, rfl⟩
    show gW X h 0 0 8 [(0, .ref m)] [.int (iI 1), .ref m]
    refine g_callV C dX3_doubtful_8 lkX3_156 M.o rfl (As := [.int (iI 1)]) (c_X3_isRefused M 1 (by decide) (by decide)) rfl rfl ⟨Nat.le_of_ble_eq_true rfl, Nat.le_of_ble_eq_true rfl⟩ (Nat.le_of_ble_eq_true rfl) ?_
    rintro _ h1 ⟨rfl, M2⟩
    show gW X h1 0 0 11 [(0, .ref m)] [.int (iI (gb true))]
    refine g_ifF C dX3_doubtful_11 (tgt := 18) (by decide) (fun q => absurd q (by decide)) (fun q => ?_)
    refine g_iconst C dX3_doubtful_14 ?_
    refine g_goto C dX3_doubtful_15 (tgt := 22) (by decide) ?_
    refine g_iret C E dX3_doubtful_22 rfl ?_
    try rw [e8]
    exact ⟨rfl, M2⟩
  · have hO := hO8 e8
    obtain ⟨hI_, hr, hn, hT, hS_⟩ := id hO
    obtain ⟨hi0, hi1, hi2, hi3, hi4, hi5, hiA, hiR⟩ := id hI_
    obtain ⟨hs1, hs3, hs4, hs5, hs6, hs7, hs8, hs11, hs2⟩ := id hS_
    refine g_aload_n C dX3_doubtful_0 0 rfl ?_
    refine g_aload_n C dX3_doubtful_1 0 rfl ?_
    refine g_get C dX3_doubtful_2 kcX3 8 q1471 (fun _ _ _ _ h9 => h9) M.o (Nat.le_of_ble_eq_true rfl) rfl ?_
    rw [show f 8 = 1 from e8]
    refine g_callS C dX3_doubtful_5 lkX3_191 (As := [.int (iI 1)]) (c_X3_unless true) rfl rfl ⟨Nat.le_of_ble_eq_true rfl, Nat.le_of_ble_eq_true rfl⟩ (Nat.le_of_ble_eq_true rfl) ?_
    rintro _ _ ⟨rfl, rfl⟩
    show gW X h 0 0 8 [(0, .ref m)] [.int (iI 0), .ref m]
    refine g_callV C dX3_doubtful_8 lkX3_156 M.o rfl (As := [.int (iI 0)]) (c_X3_isRefused M 0 (by decide) (by decide)) rfl rfl ⟨Nat.le_of_ble_eq_true rfl, Nat.le_of_ble_eq_true rfl⟩ (Nat.le_of_ble_eq_true rfl) ?_
    rintro _ h3 ⟨rfl, M4⟩
    show gW X h3 0 0 11 [(0, .ref m)] [.int (iI (gb false))]
    refine g_ifF C dX3_doubtful_11 (tgt := 18) (by decide) (fun q => ?_) (fun q => absurd q (by decide))
    refine g_aload_n C dX3_doubtful_18 0 rfl ?_
    refine g_callV C dX3_doubtful_19 lkX3_324 M4.o rfl (As := []) (c_X3_doubtfulMany M4 hO) rfl rfl ⟨Nat.le_of_ble_eq_true rfl, Nat.le_of_ble_eq_true rfl⟩ (Nat.le_of_ble_eq_true rfl) ?_
    rintro _ _ ⟨rfl, rfl⟩
    show gW X h3 0 0 22 [(0, .ref m)] [.int (iI (mDbMany (g 6) (g 18)))]
    refine g_iret C E dX3_doubtful_22 rfl ?_
    try rw [e8]
    exact ⟨rI (show mDbMany (g 6) (g 18) = mDbMany (g 6) (g 18) from rfl), M4⟩
theorem c_X3_meanOf {G : gG} {h : gH} {h0 : gH} {m : Nat} {ad : Nat → Nat} {f : Nat → Int} {g : Nat → Int → Int} (M : mSt G h0 h m ad f g) (route : Int) (ear : Int) (hO : mOk (g 6) (g 18)) (hrt : 0 ≤ route ∧ route ≤ 1) (he : 0 ≤ ear ∧ ear ≤ 1) : gC G yX3_meanOf (.code yX3_meanOf cX3_meanOf 7 (some .int)) 3 0 0 [.ref m, .int (iI route), .int (iI ear)] h (fun r h' => r = some (.int (iI (mMean (g 6) (g 18) route ear))) ∧ h = h') := by
  refine gC.of (by decide) (Nat.le_of_ble_eq_true rfl) rfl ?_
  intro X C E hI
  have C : gCtx G X cX3_meanOf 7 RX3 3 (some .int) := C
  obtain ⟨hI_, hr, hn, hT, hS_⟩ := id hO
  obtain ⟨hi0, hi1, hi2, hi3, hi4, hi5, hiA, hiR⟩ := id hI_
  obtain ⟨hs1, hs3, hs4, hs5, hs6, hs7, hs8, hs11, hs2⟩ := id hS_
  refine g_iconst C dX3_meanOf_0 ?_
  refine g_istore_n C dX3_meanOf_1 (lv' := [(3, .int (iI 0)), (0, .ref m), (1, .int (iI route)), (2, .int (iI ear))]) 3 rfl (Nat.le_of_ble_eq_true rfl) rfl ?_
  refine g_iconst C dX3_meanOf_2 ?_
  refine g_istore C dX3_meanOf_3 (lv' := [(4, .int (iI 0)), (3, .int (iI 0)), (0, .ref m), (1, .int (iI route)), (2, .int (iI ear))]) (Nat.le_of_ble_eq_true rfl) rfl ?_
  refine g_iconst C dX3_meanOf_5 ?_
  refine g_istore C dX3_meanOf_6 (lv' := [(5, .int (iI 0)), (4, .int (iI 0)), (3, .int (iI 0)), (0, .ref m), (1, .int (iI route)), (2, .int (iI ear))]) (Nat.le_of_ble_eq_true rfl) rfl ?_
  have L8 : ∀ (n : Nat) (k : Int) (l : Int) (a : Int) (hk : 0 ≤ k ∧ k ≤ g 6 0) (hn9 : g 6 0 - k < n) (hl : l = 0 ∨ l = -2 ∨ l = -3) (h25 : l = 0 → 0 ≤ a ∧ a ≤ 25 * k) (hs : mMeanL (fun tone => mTold (g 6) (g 18) route ear tone) (g 6 0 - k).toNat k a l = mMean2 (g 6) (g 18) route ear), gW X h 0 0 8 [(5, .int (iI k)), (4, .int (iI l)), (3, .int (iI a)), (0, .ref m), (1, .int (iI route)), (2, .int (iI ear))] [] := by
    intro n
    induction n with
    | zero => intro k l a hk hn9 hl h25 hs; exfalso; omega
    | succ n ih =>
      intro k l a hk hn9 hl h25 hs
      refine g_iload C dX3_meanOf_8 0 rfl ?_
      refine g_aload_n C dX3_meanOf_10 3 rfl ?_
      refine g_get C dX3_meanOf_11 kcX3 6 q1469 (fun _ _ _ _ h9 => h9) M.o (Nat.le_of_ble_eq_true rfl) rfl ?_
      refine g_iconst C dX3_meanOf_14 ?_
      refine g_iald C dX3_meanOf_15 (v := g 6 0) M.a6 (by decide) (by decide) (by decide) rfl ?_
      refine g_icmp_ge C dX3_meanOf_16 (tgt := 75) (by decide) (gRo (by omega) (by omega)) (hiR _) (fun c16 => ?_) (fun c16 => ?_)
      · refine g_iload C dX3_meanOf_75 1 rfl ?_
        refine g_if_eq C dX3_meanOf_77 (tgt := 85) (by decide) (gRo (by omega) (by omega)) (fun c77 => ?_) (fun c77 => ?_)
        · refine g_iload_n C dX3_meanOf_85 2 rfl ?_
          refine g_aload_n C dX3_meanOf_86 3 rfl ?_
          refine g_get C dX3_meanOf_87 kcX3 6 q1469 (fun _ _ _ _ h9 => h9) M.o (Nat.le_of_ble_eq_true rfl) rfl ?_
          refine g_iconst C dX3_meanOf_90 ?_
          refine g_iald C dX3_meanOf_91 (v := g 6 0) M.a6 (by decide) (by decide) (by decide) rfl ?_
          refine g_idiv C dX3_meanOf_92 ⟨by omega, by omega⟩ ⟨by omega, by omega⟩ rfl ?_
          refine g_iret C E dX3_meanOf_93 rfl ?_
          exact ⟨rI (by unfold mMean; rw [← hs, mMeanL_end (by omega)]; grind), rfl⟩
        · refine g_iload C dX3_meanOf_80 1 rfl ?_
          refine g_goto C dX3_meanOf_82 (tgt := 93) (by decide) ?_
          refine g_iret C E dX3_meanOf_93 rfl ?_
          exact ⟨rI (by unfold mMean; rw [← hs, mMeanL_end (by omega)]; grind), rfl⟩
      · refine g_aload_n C dX3_meanOf_19 3 rfl ?_
        refine g_iload_n C dX3_meanOf_20 4 rfl ?_
        refine g_iload_n C dX3_meanOf_21 5 rfl ?_
        refine g_iload C dX3_meanOf_22 0 rfl ?_
        refine g_callV C dX3_meanOf_24 lkX3_303 M.o rfl (As := [.int (iI route), .int (iI ear), .int (iI k)]) (c_X3_toldOf M route ear k hO (by omega) (by omega) (by omega)) rfl rfl ⟨Nat.le_of_ble_eq_true rfl, Nat.le_of_ble_eq_true rfl⟩ (Nat.le_of_ble_eq_true rfl) ?_
        rintro _ _ ⟨rfl, rfl⟩
        have b1 := mTold_b hO (route := route) (ear := ear) (tone := k) (by omega) (by omega) (by omega)
        refine g_istore C dX3_meanOf_27 (lv' := [(6, .int (iI (mTold (g 6) (g 18) route ear k))), (5, .int (iI k)), (4, .int (iI l)), (3, .int (iI a)), (0, .ref m), (1, .int (iI route)), (2, .int (iI ear))]) (Nat.le_of_ble_eq_true rfl) rfl ?_
        refine g_iload C dX3_meanOf_29 2 rfl ?_
        refine g_bipush C dX3_meanOf_31 (by decide) ?_
        refine g_icmp_eq C dX3_meanOf_33 (tgt := 43) (by decide) (gRo (by omega) (by omega)) (gRo (by decide) (by decide)) (fun c33 => ?_) (fun c33 => ?_)
        · refine g_bipush C dX3_meanOf_43 (by decide) ?_
          refine g_goto C dX3_meanOf_45 (tgt := 62) (by decide) ?_
          refine g_istore C dX3_meanOf_62 (lv' := [(4, .int (iI (-2))), (6, .int (iI (mTold (g 6) (g 18) route ear k))), (5, .int (iI k)), (3, .int (iI a)), (0, .ref m), (1, .int (iI route)), (2, .int (iI ear))]) (Nat.le_of_ble_eq_true rfl) rfl ?_
          refine g_iload_n C dX3_meanOf_64 3 rfl ?_
          refine g_iload C dX3_meanOf_65 1 rfl ?_
          refine g_iadd C dX3_meanOf_67 (v := a + mTold (g 6) (g 18) route ear k) rfl ?_
          refine g_istore_n C dX3_meanOf_68 (lv' := [(3, .int (iI (a + mTold (g 6) (g 18) route ear k))), (4, .int (iI (-2))), (6, .int (iI (mTold (g 6) (g 18) route ear k))), (5, .int (iI k)), (0, .ref m), (1, .int (iI route)), (2, .int (iI ear))]) 3 rfl (Nat.le_of_ble_eq_true rfl) rfl ?_
          refine g_iinc C dX3_meanOf_69 (v := k + 1) (lv' := [(5, .int (iI (k + 1))), (3, .int (iI (a + mTold (g 6) (g 18) route ear k))), (4, .int (iI (-2))), (6, .int (iI (mTold (g 6) (g 18) route ear k))), (0, .ref m), (1, .int (iI route)), (2, .int (iI ear))]) 3 rfl rfl (Nat.le_of_ble_eq_true rfl) rfl ?_
          refine g_goto C dX3_meanOf_72 (tgt := 8) (by decide) ?_
          refine gW.loc [0, 2, 1, 4, 5, 6] (lv' := [(5, .int (iI (k + 1))), (4, .int (iI (-2))), (3, .int (iI (a + mTold (g 6) (g 18) route ear k))), (0, .ref m), (1, .int (iI route)), (2, .int (iI ear))]) rfl ?_
          exact ih (k + 1) (-2) (a + mTold (g 6) (g 18) route ear k) (by omega) (by omega) (by omega) (fun z => by have := mTold_n hO (route := route) (ear := ear) (tone := k) (by omega) (by omega) (by omega); omega) (by rw [← hs, mMeanL_step (b := g 6 0) (k := k) (by omega)]; congr 1; (try dsimp only); grind)
        · refine g_iload C dX3_meanOf_36 0 rfl ?_
          refine g_bipush C dX3_meanOf_38 (by decide) ?_
          refine g_icmp_ne C dX3_meanOf_40 (tgt := 48) (by decide) (gRo (by omega) (by omega)) (gRo (by decide) (by decide)) (fun c40 => ?_) (fun c40 => ?_)
          · refine g_iload C dX3_meanOf_48 0 rfl ?_
            refine g_bipush C dX3_meanOf_50 (by decide) ?_
            refine g_icmp_ne C dX3_meanOf_52 (tgt := 60) (by decide) (gRo (by omega) (by omega)) (gRo (by decide) (by decide)) (fun c52 => ?_) (fun c52 => ?_)
            · refine g_iload C dX3_meanOf_60 2 rfl ?_
              refine g_istore C dX3_meanOf_62 (lv' := [(4, .int (iI l)), (6, .int (iI (mTold (g 6) (g 18) route ear k))), (5, .int (iI k)), (3, .int (iI a)), (0, .ref m), (1, .int (iI route)), (2, .int (iI ear))]) (Nat.le_of_ble_eq_true rfl) rfl ?_
              refine g_iload_n C dX3_meanOf_64 3 rfl ?_
              refine g_iload C dX3_meanOf_65 1 rfl ?_
              refine g_iadd C dX3_meanOf_67 (v := a + mTold (g 6) (g 18) route ear k) rfl ?_
              refine g_istore_n C dX3_meanOf_68 (lv' := [(3, .int (iI (a + mTold (g 6) (g 18) route ear k))), (4, .int (iI l)), (6, .int (iI (mTold (g 6) (g 18) route ear k))), (5, .int (iI k)), (0, .ref m), (1, .int (iI route)), (2, .int (iI ear))]) 3 rfl (Nat.le_of_ble_eq_true rfl) rfl ?_
              refine g_iinc C dX3_meanOf_69 (v := k + 1) (lv' := [(5, .int (iI (k + 1))), (3, .int (iI (a + mTold (g 6) (g 18) route ear k))), (4, .int (iI l)), (6, .int (iI (mTold (g 6) (g 18) route ear k))), (0, .ref m), (1, .int (iI route)), (2, .int (iI ear))]) 3 rfl rfl (Nat.le_of_ble_eq_true rfl) rfl ?_
              refine g_goto C dX3_meanOf_72 (tgt := 8) (by decide) ?_
              refine gW.loc [0, 2, 1, 4, 5, 6] (lv' := [(5, .int (iI (k + 1))), (4, .int (iI l)), (3, .int (iI (a + mTold (g 6) (g 18) route ear k))), (0, .ref m), (1, .int (iI route)), (2, .int (iI ear))]) rfl ?_
              exact ih (k + 1) l (a + mTold (g 6) (g 18) route ear k) (by omega) (by omega) (by omega) (fun z => by have := mTold_n hO (route := route) (ear := ear) (tone := k) (by omega) (by omega) (by omega); omega) (by rw [← hs, mMeanL_step (b := g 6 0) (k := k) (by omega)]; congr 1; (try dsimp only); grind)
            · refine g_bipush C dX3_meanOf_55 (by decide) ?_
              refine g_goto C dX3_meanOf_57 (tgt := 62) (by decide) ?_
              refine g_istore C dX3_meanOf_62 (lv' := [(4, .int (iI (-3))), (6, .int (iI (mTold (g 6) (g 18) route ear k))), (5, .int (iI k)), (3, .int (iI a)), (0, .ref m), (1, .int (iI route)), (2, .int (iI ear))]) (Nat.le_of_ble_eq_true rfl) rfl ?_
              refine g_iload_n C dX3_meanOf_64 3 rfl ?_
              refine g_iload C dX3_meanOf_65 1 rfl ?_
              refine g_iadd C dX3_meanOf_67 (v := a + mTold (g 6) (g 18) route ear k) rfl ?_
              refine g_istore_n C dX3_meanOf_68 (lv' := [(3, .int (iI (a + mTold (g 6) (g 18) route ear k))), (4, .int (iI (-3))), (6, .int (iI (mTold (g 6) (g 18) route ear k))), (5, .int (iI k)), (0, .ref m), (1, .int (iI route)), (2, .int (iI ear))]) 3 rfl (Nat.le_of_ble_eq_true rfl) rfl ?_
              refine g_iinc C dX3_meanOf_69 (v := k + 1) (lv' := [(5, .int (iI (k + 1))), (3, .int (iI (a + mTold (g 6) (g 18) route ear k))), (4, .int (iI (-3))), (6, .int (iI (mTold (g 6) (g 18) route ear k))), (0, .ref m), (1, .int (iI route)), (2, .int (iI ear))]) 3 rfl rfl (Nat.le_of_ble_eq_true rfl) rfl ?_
              refine g_goto C dX3_meanOf_72 (tgt := 8) (by decide) ?_
              refine gW.loc [0, 2, 1, 4, 5, 6] (lv' := [(5, .int (iI (k + 1))), (4, .int (iI (-3))), (3, .int (iI (a + mTold (g 6) (g 18) route ear k))), (0, .ref m), (1, .int (iI route)), (2, .int (iI ear))]) rfl ?_
              exact ih (k + 1) (-3) (a + mTold (g 6) (g 18) route ear k) (by omega) (by omega) (by omega) (fun z => by have := mTold_n hO (route := route) (ear := ear) (tone := k) (by omega) (by omega) (by omega); omega) (by rw [← hs, mMeanL_step (b := g 6 0) (k := k) (by omega)]; congr 1; (try dsimp only); grind)
          · refine g_bipush C dX3_meanOf_43 (by decide) ?_
            refine g_goto C dX3_meanOf_45 (tgt := 62) (by decide) ?_
            refine g_istore C dX3_meanOf_62 (lv' := [(4, .int (iI (-2))), (6, .int (iI (mTold (g 6) (g 18) route ear k))), (5, .int (iI k)), (3, .int (iI a)), (0, .ref m), (1, .int (iI route)), (2, .int (iI ear))]) (Nat.le_of_ble_eq_true rfl) rfl ?_
            refine g_iload_n C dX3_meanOf_64 3 rfl ?_
            refine g_iload C dX3_meanOf_65 1 rfl ?_
            refine g_iadd C dX3_meanOf_67 (v := a + mTold (g 6) (g 18) route ear k) rfl ?_
            refine g_istore_n C dX3_meanOf_68 (lv' := [(3, .int (iI (a + mTold (g 6) (g 18) route ear k))), (4, .int (iI (-2))), (6, .int (iI (mTold (g 6) (g 18) route ear k))), (5, .int (iI k)), (0, .ref m), (1, .int (iI route)), (2, .int (iI ear))]) 3 rfl (Nat.le_of_ble_eq_true rfl) rfl ?_
            refine g_iinc C dX3_meanOf_69 (v := k + 1) (lv' := [(5, .int (iI (k + 1))), (3, .int (iI (a + mTold (g 6) (g 18) route ear k))), (4, .int (iI (-2))), (6, .int (iI (mTold (g 6) (g 18) route ear k))), (0, .ref m), (1, .int (iI route)), (2, .int (iI ear))]) 3 rfl rfl (Nat.le_of_ble_eq_true rfl) rfl ?_
            refine g_goto C dX3_meanOf_72 (tgt := 8) (by decide) ?_
            refine gW.loc [0, 2, 1, 4, 5, 6] (lv' := [(5, .int (iI (k + 1))), (4, .int (iI (-2))), (3, .int (iI (a + mTold (g 6) (g 18) route ear k))), (0, .ref m), (1, .int (iI route)), (2, .int (iI ear))]) rfl ?_
            exact ih (k + 1) (-2) (a + mTold (g 6) (g 18) route ear k) (by omega) (by omega) (by omega) (fun z => by have := mTold_n hO (route := route) (ear := ear) (tone := k) (by omega) (by omega) (by omega); omega) (by rw [← hs, mMeanL_step (b := g 6 0) (k := k) (by omega)]; congr 1; (try dsimp only); grind)
  exact L8 (g 6 0 + 1).toNat 0 0 0 (by omega) (by omega) (by omega) (by omega) rfl
theorem c_X3_mean {G : gG} {h : gH} {h0 : gH} {m : Nat} {ad : Nat → Nat} {f : Nat → Int} {g : Nat → Int → Int} (M : mSt G h0 h m ad f g) (route : Int) (ear : Int) (hroute1 : -2147483648 ≤ route) (hroute2 : route ≤ 2147483647) (hear1 : -2147483648 ≤ ear) (hear2 : ear ≤ 2147483647) (hf8 : f 8 = 0 ∨ f 8 = 1) (hO8 : f 8 = 1 → mOk (g 6) (g 18)) : gC G yX3_mean (.code yX3_mean cX3_mean 3 (some .int)) 4 0 0 [.ref m, .int (iI route), .int (iI ear)] h (fun r h' => r = some (.int (iI (mAns (mW1 (mOne (f 8) (g 6) route ear 0)) (mMean (g 6) (g 18) route ear)))) ∧ mSt G h0 h' m ad (mRef f (mW1 (mOne (f 8) (g 6) route ear 0))) g) := by
  refine gC.of (by decide) (Nat.le_of_ble_eq_true rfl) rfl ?_
  intro X C E hI
  have C : gCtx G X cX3_mean 3 RX3 4 (some .int) := C
  refine g_aload_n C dX3_mean_0 0 rfl ?_
  refine g_aload_n C dX3_mean_1 0 rfl ?_
  refine g_iload_n C dX3_mean_2 1 rfl ?_
  refine g_iload_n C dX3_mean_3 2 rfl ?_
  refine g_iconst C dX3_mean_4 ?_
  refine g_callV C dX3_mean_5 lkX3_188 M.o rfl (As := [.int (iI route), .int (iI ear), .int (iI 0)]) (c_X3_isOne M route ear 0 (by omega) (by omega) (by omega) (by omega) (by decide) (by decide) hf8 hO8) rfl rfl ⟨Nat.le_of_ble_eq_true rfl, Nat.le_of_ble_eq_true rfl⟩ (Nat.le_of_ble_eq_true rfl) ?_
  rintro _ _ ⟨rfl, rfl⟩
  cases hb1 : mOne (f 8) (g 6) route ear 0
  · refine g_callS C dX3_mean_8 lkX3_191 (As := [.int (iI (gb false))]) (c_X3_unless false) rfl rfl ⟨Nat.le_of_ble_eq_true rfl, Nat.le_of_ble_eq_true rfl⟩ (Nat.le_of_ble_eq_true rfl) ?_
    rintro _ _ ⟨rfl, rfl⟩
    show gW X h 0 0 11 [(0, .ref m), (1, .int (iI route)), (2, .int (iI ear))] [.int (iI 1), .ref m]
    refine g_callV C dX3_mean_11 lkX3_156 M.o rfl (As := [.int (iI 1)]) (c_X3_isRefused M 1 (by decide) (by decide)) rfl rfl ⟨Nat.le_of_ble_eq_true rfl, Nat.le_of_ble_eq_true rfl⟩ (Nat.le_of_ble_eq_true rfl) ?_
    rintro _ h2 ⟨rfl, M3⟩
    show gW X h2 0 0 14 [(0, .ref m), (1, .int (iI route)), (2, .int (iI ear))] [.int (iI (gb true))]
    refine g_ifF C dX3_mean_14 (tgt := 21) (by decide) (fun q => absurd q (by decide)) (fun q => ?_)
    refine g_iconst C dX3_mean_17 ?_
    refine g_goto C dX3_mean_18 (tgt := 27) (by decide) ?_
    refine g_iret C E dX3_mean_27 rfl ?_
    try rw [hb1]
    exact ⟨rfl, M3⟩
  · have fb4 := mOne_t hb1
    have hO := hO8 fb4.1
    obtain ⟨hI_, hr, hn, hT, hS_⟩ := id hO
    obtain ⟨hi0, hi1, hi2, hi3, hi4, hi5, hiA, hiR⟩ := id hI_
    obtain ⟨hs1, hs3, hs4, hs5, hs6, hs7, hs8, hs11, hs2⟩ := id hS_
    refine g_callS C dX3_mean_8 lkX3_191 (As := [.int (iI (gb true))]) (c_X3_unless true) rfl rfl ⟨Nat.le_of_ble_eq_true rfl, Nat.le_of_ble_eq_true rfl⟩ (Nat.le_of_ble_eq_true rfl) ?_
    rintro _ _ ⟨rfl, rfl⟩
    show gW X h 0 0 11 [(0, .ref m), (1, .int (iI route)), (2, .int (iI ear))] [.int (iI 0), .ref m]
    refine g_callV C dX3_mean_11 lkX3_156 M.o rfl (As := [.int (iI 0)]) (c_X3_isRefused M 0 (by decide) (by decide)) rfl rfl ⟨Nat.le_of_ble_eq_true rfl, Nat.le_of_ble_eq_true rfl⟩ (Nat.le_of_ble_eq_true rfl) ?_
    rintro _ h5 ⟨rfl, M6⟩
    show gW X h5 0 0 14 [(0, .ref m), (1, .int (iI route)), (2, .int (iI ear))] [.int (iI (gb false))]
    refine g_ifF C dX3_mean_14 (tgt := 21) (by decide) (fun q => ?_) (fun q => absurd q (by decide))
    refine g_aload_n C dX3_mean_21 0 rfl ?_
    refine g_iload_n C dX3_mean_22 1 rfl ?_
    refine g_iload_n C dX3_mean_23 2 rfl ?_
    refine g_callV C dX3_mean_24 lkX3_327 M6.o rfl (As := [.int (iI route), .int (iI ear)]) (c_X3_meanOf M6 route ear hO (by omega) (by omega)) rfl rfl ⟨Nat.le_of_ble_eq_true rfl, Nat.le_of_ble_eq_true rfl⟩ (Nat.le_of_ble_eq_true rfl) ?_
    rintro _ _ ⟨rfl, rfl⟩
    show gW X h5 0 0 27 [(0, .ref m), (1, .int (iI route)), (2, .int (iI ear))] [.int (iI (mMean (g 6) (g 18) route ear))]
    have b7 := mMean_b hO (route := route) (ear := ear) (by omega) (by omega)
    refine g_iret C E dX3_mean_27 rfl ?_
    try rw [hb1]
    exact ⟨rI (show mMean (g 6) (g 18) route ear = mMean (g 6) (g 18) route ear from rfl), M6⟩
theorem c_X3_grade {G : gG} {h : gH} {h0 : gH} {m : Nat} {ad : Nat → Nat} {f : Nat → Int} {g : Nat → Int → Int} (M : mSt G h0 h m ad f g) (ear : Int) (hear1 : -2147483648 ≤ ear) (hear2 : ear ≤ 2147483647) (hf8 : f 8 = 0 ∨ f 8 = 1) (hO8 : f 8 = 1 → mOk (g 6) (g 18)) : gC G yX3_grade (.code yX3_grade cX3_grade 3 (some .int)) 4 0 0 [.ref m, .int (iI ear)] h (fun r h' => r = some (.int (iI (mAns (mW1 (mOne (f 8) (g 6) 0 ear 0)) (mGrade (mMean (g 6) (g 18) 0 ear))))) ∧ mSt G h0 h' m ad (mRef f (mW1 (mOne (f 8) (g 6) 0 ear 0))) g) := by
  refine gC.of (by decide) (Nat.le_of_ble_eq_true rfl) rfl ?_
  intro X C E hI
  have C : gCtx G X cX3_grade 3 RX3 4 (some .int) := C
  refine g_aload_n C dX3_grade_0 0 rfl ?_
  refine g_aload_n C dX3_grade_1 0 rfl ?_
  refine g_iconst C dX3_grade_2 ?_
  refine g_iload_n C dX3_grade_3 1 rfl ?_
  refine g_iconst C dX3_grade_4 ?_
  refine g_callV C dX3_grade_5 lkX3_188 M.o rfl (As := [.int (iI 0), .int (iI ear), .int (iI 0)]) (c_X3_isOne M 0 ear 0 (by decide) (by decide) (by omega) (by omega) (by decide) (by decide) hf8 hO8) rfl rfl ⟨Nat.le_of_ble_eq_true rfl, Nat.le_of_ble_eq_true rfl⟩ (Nat.le_of_ble_eq_true rfl) ?_
  rintro _ _ ⟨rfl, rfl⟩
  cases hb1 : mOne (f 8) (g 6) 0 ear 0
  · refine g_callS C dX3_grade_8 lkX3_191 (As := [.int (iI (gb false))]) (c_X3_unless false) rfl rfl ⟨Nat.le_of_ble_eq_true rfl, Nat.le_of_ble_eq_true rfl⟩ (Nat.le_of_ble_eq_true rfl) ?_
    rintro _ _ ⟨rfl, rfl⟩
    show gW X h 0 0 11 [(0, .ref m), (1, .int (iI ear))] [.int (iI 1), .ref m]
    refine g_callV C dX3_grade_11 lkX3_156 M.o rfl (As := [.int (iI 1)]) (c_X3_isRefused M 1 (by decide) (by decide)) rfl rfl ⟨Nat.le_of_ble_eq_true rfl, Nat.le_of_ble_eq_true rfl⟩ (Nat.le_of_ble_eq_true rfl) ?_
    rintro _ h2 ⟨rfl, M3⟩
    show gW X h2 0 0 14 [(0, .ref m), (1, .int (iI ear))] [.int (iI (gb true))]
    refine g_ifF C dX3_grade_14 (tgt := 19) (by decide) (fun q => absurd q (by decide)) (fun q => ?_)
    refine g_iconst C dX3_grade_17 ?_
    refine g_iret C E dX3_grade_18 rfl ?_
    try rw [hb1]
    exact ⟨rfl, M3⟩
  · have fb4 := mOne_t hb1
    have hO := hO8 fb4.1
    obtain ⟨hI_, hr, hn, hT, hS_⟩ := id hO
    obtain ⟨hi0, hi1, hi2, hi3, hi4, hi5, hiA, hiR⟩ := id hI_
    obtain ⟨hs1, hs3, hs4, hs5, hs6, hs7, hs8, hs11, hs2⟩ := id hS_
    refine g_callS C dX3_grade_8 lkX3_191 (As := [.int (iI (gb true))]) (c_X3_unless true) rfl rfl ⟨Nat.le_of_ble_eq_true rfl, Nat.le_of_ble_eq_true rfl⟩ (Nat.le_of_ble_eq_true rfl) ?_
    rintro _ _ ⟨rfl, rfl⟩
    show gW X h 0 0 11 [(0, .ref m), (1, .int (iI ear))] [.int (iI 0), .ref m]
    refine g_callV C dX3_grade_11 lkX3_156 M.o rfl (As := [.int (iI 0)]) (c_X3_isRefused M 0 (by decide) (by decide)) rfl rfl ⟨Nat.le_of_ble_eq_true rfl, Nat.le_of_ble_eq_true rfl⟩ (Nat.le_of_ble_eq_true rfl) ?_
    rintro _ h5 ⟨rfl, M6⟩
    show gW X h5 0 0 14 [(0, .ref m), (1, .int (iI ear))] [.int (iI (gb false))]
    refine g_ifF C dX3_grade_14 (tgt := 19) (by decide) (fun q => ?_) (fun q => absurd q (by decide))
    refine g_aload_n C dX3_grade_19 0 rfl ?_
    refine g_iconst C dX3_grade_20 ?_
    refine g_iload_n C dX3_grade_21 1 rfl ?_
    refine g_callV C dX3_grade_22 lkX3_327 M6.o rfl (As := [.int (iI 0), .int (iI ear)]) (c_X3_meanOf M6 0 ear hO (by omega) (by omega)) rfl rfl ⟨Nat.le_of_ble_eq_true rfl, Nat.le_of_ble_eq_true rfl⟩ (Nat.le_of_ble_eq_true rfl) ?_
    rintro _ _ ⟨rfl, rfl⟩
    show gW X h5 0 0 25 [(0, .ref m), (1, .int (iI ear))] [.int (iI (mMean (g 6) (g 18) 0 ear))]
    have b7 := mMean_b hO (route := 0) (ear := ear) (by omega) (by omega)
    refine g_istore_n C dX3_grade_25 (lv' := [(2, .int (iI (mMean (g 6) (g 18) 0 ear))), (0, .ref m), (1, .int (iI ear))]) 2 rfl (Nat.le_of_ble_eq_true rfl) rfl ?_
    refine g_iload_n C dX3_grade_26 0 rfl ?_
    refine g_if_ge C dX3_grade_27 (tgt := 34) (by decide) (gRo (by omega) (by omega)) (fun c27 => ?_) (fun c27 => ?_)
    · refine g_iload_n C dX3_grade_34 0 rfl ?_
      refine g_iconst C dX3_grade_35 ?_
      refine g_icmp_gt C dX3_grade_36 (tgt := 43) (by decide) (gRo (by omega) (by omega)) (gRo (by decide) (by decide)) (fun c36 => ?_) (fun c36 => ?_)
      · refine g_iload_n C dX3_grade_43 0 rfl ?_
        refine g_bipush C dX3_grade_44 (by decide) ?_
        refine g_icmp_gt C dX3_grade_46 (tgt := 53) (by decide) (gRo (by omega) (by omega)) (gRo (by decide) (by decide)) (fun c46 => ?_) (fun c46 => ?_)
        · refine g_iload_n C dX3_grade_53 0 rfl ?_
          refine g_bipush C dX3_grade_54 (by decide) ?_
          refine g_icmp_gt C dX3_grade_56 (tgt := 63) (by decide) (gRo (by omega) (by omega)) (gRo (by decide) (by decide)) (fun c56 => ?_) (fun c56 => ?_)
          · refine g_iload_n C dX3_grade_63 0 rfl ?_
            refine g_bipush C dX3_grade_64 (by decide) ?_
            refine g_icmp_gt C dX3_grade_66 (tgt := 73) (by decide) (gRo (by omega) (by omega)) (gRo (by decide) (by decide)) (fun c66 => ?_) (fun c66 => ?_)
            · refine g_iconst C dX3_grade_73 ?_
              refine g_iret C E dX3_grade_74 rfl ?_
              try rw [hb1]
              exact ⟨rI (show 4 = mGrade (mMean (g 6) (g 18) 0 ear) from by unfold mGrade; grind), M6⟩
            · refine g_iconst C dX3_grade_69 ?_
              refine g_goto C dX3_grade_70 (tgt := 74) (by decide) ?_
              refine g_iret C E dX3_grade_74 rfl ?_
              try rw [hb1]
              exact ⟨rI (show 3 = mGrade (mMean (g 6) (g 18) 0 ear) from by unfold mGrade; grind), M6⟩
          · refine g_iconst C dX3_grade_59 ?_
            refine g_goto C dX3_grade_60 (tgt := 74) (by decide) ?_
            refine g_iret C E dX3_grade_74 rfl ?_
            try rw [hb1]
            exact ⟨rI (show 2 = mGrade (mMean (g 6) (g 18) 0 ear) from by unfold mGrade; grind), M6⟩
        · refine g_iconst C dX3_grade_49 ?_
          refine g_goto C dX3_grade_50 (tgt := 74) (by decide) ?_
          refine g_iret C E dX3_grade_74 rfl ?_
          try rw [hb1]
          exact ⟨rI (show 1 = mGrade (mMean (g 6) (g 18) 0 ear) from by unfold mGrade; grind), M6⟩
      · refine g_iconst C dX3_grade_39 ?_
        refine g_goto C dX3_grade_40 (tgt := 74) (by decide) ?_
        refine g_iret C E dX3_grade_74 rfl ?_
        try rw [hb1]
        exact ⟨rI (show 0 = mGrade (mMean (g 6) (g 18) 0 ear) from by unfold mGrade; grind), M6⟩
    · refine g_iload_n C dX3_grade_30 0 rfl ?_
      refine g_goto C dX3_grade_31 (tgt := 74) (by decide) ?_
      refine g_iret C E dX3_grade_74 rfl ?_
      try rw [hb1]
      exact ⟨rI (show mMean (g 6) (g 18) 0 ear = mGrade (mMean (g 6) (g 18) 0 ear) from by unfold mGrade; grind), M6⟩
theorem c_X3_worse {G : gG} {h : gH} {h0 : gH} {m : Nat} {ad : Nat → Nat} {f : Nat → Int} {g : Nat → Int → Int} (M : mSt G h0 h m ad f g) (hf8 : f 8 = 0 ∨ f 8 = 1) (hO8 : f 8 = 1 → mOk (g 6) (g 18)) : gC G yX3_worse (.code yX3_worse cX3_worse 4 (some .int)) 4 0 0 [.ref m] h (fun r h' => r = some (.int (iI (mAns (mW1 (decide (f 8 = 1))) (mWorse (mMean (g 6) (g 18) 0 0) (mMean (g 6) (g 18) 0 1))))) ∧ mSt G h0 h' m ad (mRef f (mW1 (decide (f 8 = 1)))) g) := by
  refine gC.of (by decide) (Nat.le_of_ble_eq_true rfl) rfl ?_
  intro X C E hI
  have C : gCtx G X cX3_worse 4 RX3 4 (some .int) := C
  rcases id hf8 with e8 | e8
  · refine g_aload_n C dX3_worse_0 0 rfl ?_
    refine g_aload_n C dX3_worse_1 0 rfl ?_
    refine g_get C dX3_worse_2 kcX3 8 q1471 (fun _ _ _ _ h9 => h9) M.o (Nat.le_of_ble_eq_true rfl) rfl ?_
    rw [show f 8 = 0 from e8]
    refine g_callS C dX3_worse_5 lkX3_191 (As := [.int (iI 0)]) (c_X3_unless false) rfl rfl ⟨Nat.le_of_ble_eq_true rfl, Nat.le_of_ble_eq_true rfl⟩ (Nat.le_of_ble_eq_true rfl) ?_
    rintro _ _ ⟨rfl, rfl⟩
    show gW X h 0 0 8 [(0, .ref m)] [.int (iI 1), .ref m]
    refine g_callV C dX3_worse_8 lkX3_156 M.o rfl (As := [.int (iI 1)]) (c_X3_isRefused M 1 (by decide) (by decide)) rfl rfl ⟨Nat.le_of_ble_eq_true rfl, Nat.le_of_ble_eq_true rfl⟩ (Nat.le_of_ble_eq_true rfl) ?_
    rintro _ h1 ⟨rfl, M2⟩
    show gW X h1 0 0 11 [(0, .ref m)] [.int (iI (gb true))]
    refine g_ifF C dX3_worse_11 (tgt := 16) (by decide) (fun q => absurd q (by decide)) (fun q => ?_)
    refine g_iconst C dX3_worse_14 ?_
    refine g_iret C E dX3_worse_15 rfl ?_
    try rw [e8]
    exact ⟨rfl, M2⟩
  · have hO := hO8 e8
    obtain ⟨hI_, hr, hn, hT, hS_⟩ := id hO
    obtain ⟨hi0, hi1, hi2, hi3, hi4, hi5, hiA, hiR⟩ := id hI_
    obtain ⟨hs1, hs3, hs4, hs5, hs6, hs7, hs8, hs11, hs2⟩ := id hS_
    refine g_aload_n C dX3_worse_0 0 rfl ?_
    refine g_aload_n C dX3_worse_1 0 rfl ?_
    refine g_get C dX3_worse_2 kcX3 8 q1471 (fun _ _ _ _ h9 => h9) M.o (Nat.le_of_ble_eq_true rfl) rfl ?_
    rw [show f 8 = 1 from e8]
    refine g_callS C dX3_worse_5 lkX3_191 (As := [.int (iI 1)]) (c_X3_unless true) rfl rfl ⟨Nat.le_of_ble_eq_true rfl, Nat.le_of_ble_eq_true rfl⟩ (Nat.le_of_ble_eq_true rfl) ?_
    rintro _ _ ⟨rfl, rfl⟩
    show gW X h 0 0 8 [(0, .ref m)] [.int (iI 0), .ref m]
    refine g_callV C dX3_worse_8 lkX3_156 M.o rfl (As := [.int (iI 0)]) (c_X3_isRefused M 0 (by decide) (by decide)) rfl rfl ⟨Nat.le_of_ble_eq_true rfl, Nat.le_of_ble_eq_true rfl⟩ (Nat.le_of_ble_eq_true rfl) ?_
    rintro _ h3 ⟨rfl, M4⟩
    show gW X h3 0 0 11 [(0, .ref m)] [.int (iI (gb false))]
    refine g_ifF C dX3_worse_11 (tgt := 16) (by decide) (fun q => ?_) (fun q => absurd q (by decide))
    refine g_aload_n C dX3_worse_16 0 rfl ?_
    refine g_iconst C dX3_worse_17 ?_
    refine g_iconst C dX3_worse_18 ?_
    refine g_callV C dX3_worse_19 lkX3_327 M4.o rfl (As := [.int (iI 0), .int (iI 0)]) (c_X3_meanOf M4 0 0 hO (by omega) (by omega)) rfl rfl ⟨Nat.le_of_ble_eq_true rfl, Nat.le_of_ble_eq_true rfl⟩ (Nat.le_of_ble_eq_true rfl) ?_
    rintro _ _ ⟨rfl, rfl⟩
    show gW X h3 0 0 22 [(0, .ref m)] [.int (iI (mMean (g 6) (g 18) 0 0))]
    have b5 := mMean_b hO (route := 0) (ear := 0) (by omega) (by omega)
    refine g_istore_n C dX3_worse_22 (lv' := [(1, .int (iI (mMean (g 6) (g 18) 0 0))), (0, .ref m)]) 1 rfl (Nat.le_of_ble_eq_true rfl) rfl ?_
    refine g_aload_n C dX3_worse_23 1 rfl ?_
    refine g_iconst C dX3_worse_24 ?_
    refine g_iconst C dX3_worse_25 ?_
    refine g_callV C dX3_worse_26 lkX3_327 M4.o rfl (As := [.int (iI 0), .int (iI 1)]) (c_X3_meanOf M4 0 1 hO (by omega) (by omega)) rfl rfl ⟨Nat.le_of_ble_eq_true rfl, Nat.le_of_ble_eq_true rfl⟩ (Nat.le_of_ble_eq_true rfl) ?_
    rintro _ _ ⟨rfl, rfl⟩
    show gW X h3 0 0 29 [(1, .int (iI (mMean (g 6) (g 18) 0 0))), (0, .ref m)] [.int (iI (mMean (g 6) (g 18) 0 1))]
    have b6 := mMean_b hO (route := 0) (ear := 1) (by omega) (by omega)
    refine g_istore_n C dX3_worse_29 (lv' := [(2, .int (iI (mMean (g 6) (g 18) 0 1))), (1, .int (iI (mMean (g 6) (g 18) 0 0))), (0, .ref m)]) 2 rfl (Nat.le_of_ble_eq_true rfl) rfl ?_
    refine g_iload_n C dX3_worse_30 1 rfl ?_
    refine g_iload_n C dX3_worse_31 0 rfl ?_
    refine g_callS C dX3_worse_32 lkX3_309 (As := [.int (iI (mMean (g 6) (g 18) 0 0)), .int (iI (mMean (g 6) (g 18) 0 1))]) (c_X3_lacks (mMean (g 6) (g 18) 0 0) (mMean (g 6) (g 18) 0 1) (by omega) (by omega) (by omega) (by omega)) rfl rfl ⟨Nat.le_of_ble_eq_true rfl, Nat.le_of_ble_eq_true rfl⟩ (Nat.le_of_ble_eq_true rfl) ?_
    rintro _ _ ⟨rfl, rfl⟩
    have b7 := mLacks_b (mMean (g 6) (g 18) 0 0) (mMean (g 6) (g 18) 0 1)
    refine g_istore_n C dX3_worse_35 (lv' := [(3, .int (iI (mLacks (mMean (g 6) (g 18) 0 0) (mMean (g 6) (g 18) 0 1)))), (2, .int (iI (mMean (g 6) (g 18) 0 1))), (1, .int (iI (mMean (g 6) (g 18) 0 0))), (0, .ref m)]) 3 rfl (Nat.le_of_ble_eq_true rfl) rfl ?_
    refine g_iload_n C dX3_worse_36 0 rfl ?_
    refine g_if_eq C dX3_worse_37 (tgt := 44) (by decide) (gRo (by omega) (by omega)) (fun c37 => ?_) (fun c37 => ?_)
    · refine g_iload_n C dX3_worse_44 1 rfl ?_
      refine g_iload_n C dX3_worse_45 2 rfl ?_
      refine g_icmp_le C dX3_worse_46 (tgt := 53) (by decide) (gRo (by omega) (by omega)) (gRo (by omega) (by omega)) (fun c46 => ?_) (fun c46 => ?_)
      · refine g_iconst C dX3_worse_53 ?_
        refine g_iret C E dX3_worse_54 rfl ?_
        try rw [e8]
        exact ⟨rI (show 0 = mWorse (mMean (g 6) (g 18) 0 0) (mMean (g 6) (g 18) 0 1) from by unfold mWorse; grind), M4⟩
      · refine g_iconst C dX3_worse_49 ?_
        refine g_goto C dX3_worse_50 (tgt := 54) (by decide) ?_
        refine g_iret C E dX3_worse_54 rfl ?_
        try rw [e8]
        exact ⟨rI (show 1 = mWorse (mMean (g 6) (g 18) 0 0) (mMean (g 6) (g 18) 0 1) from by unfold mWorse; grind), M4⟩
    · refine g_iload_n C dX3_worse_40 0 rfl ?_
      refine g_goto C dX3_worse_41 (tgt := 54) (by decide) ?_
      refine g_iret C E dX3_worse_54 rfl ?_
      try rw [e8]
      exact ⟨rI (show mLacks (mMean (g 6) (g 18) 0 0) (mMean (g 6) (g 18) 0 1) = mWorse (mMean (g 6) (g 18) 0 0) (mMean (g 6) (g 18) 0 1) from by unfold mWorse; grind), M4⟩
theorem c_X3_right {G : gG} {h : gH} {h0 : gH} {m : Nat} {ad : Nat → Nat} {f : Nat → Int} {g : Nat → Int → Int} (M : mSt G h0 h m ad f g) (what : Int) (hwhat1 : -2147483648 ≤ what) (hwhat2 : what ≤ 2147483647) (hf8 : f 8 = 0 ∨ f 8 = 1) (hO8 : f 8 = 1 → mOk (g 6) (g 18)) : gC G yX3_right (.code yX3_right cX3_right 10 (some .int)) 3 0 0 [.ref m, .int (iI what)] h (fun r h' => r = some (.int (iI (mAns (mW1 (decide (f 8 = 1) && mIn what 0 3)) (mRight (g 6) (g 18) what)))) ∧ mSt G h0 h' m ad (mRef f (mW1 (decide (f 8 = 1) && mIn what 0 3))) g) := by
  refine gC.of (by decide) (Nat.le_of_ble_eq_true rfl) rfl ?_
  intro X C E hI
  have C : gCtx G X cX3_right 10 RX3 3 (some .int) := C
  rcases id hf8 with e8 | e8
  · refine g_aload_n C dX3_right_0 0 rfl ?_
    refine g_aload_n C dX3_right_1 0 rfl ?_
    refine g_get C dX3_right_2 kcX3 8 q1471 (fun _ _ _ _ h9 => h9) M.o (Nat.le_of_ble_eq_true rfl) rfl ?_
    rw [show f 8 = 0 from e8]
    refine g_if_eq C dX3_right_5 (tgt := 21) (by decide) (gRo (by decide) (by decide)) (fun _ => ?_) (fun q => absurd (by decide) q)
    refine g_iconst C dX3_right_21 ?_
    refine g_callS C dX3_right_22 lkX3_191 (As := [.int (iI 0)]) (c_X3_unless false) rfl rfl ⟨Nat.le_of_ble_eq_true rfl, Nat.le_of_ble_eq_true rfl⟩ (Nat.le_of_ble_eq_true rfl) ?_
    rintro _ _ ⟨rfl, rfl⟩
    show gW X h 0 0 25 [(0, .ref m), (1, .int (iI what))] [.int (iI 1), .ref m]
    refine g_callV C dX3_right_25 lkX3_156 M.o rfl (As := [.int (iI 1)]) (c_X3_isRefused M 1 (by decide) (by decide)) rfl rfl ⟨Nat.le_of_ble_eq_true rfl, Nat.le_of_ble_eq_true rfl⟩ (Nat.le_of_ble_eq_true rfl) ?_
    rintro _ h1 ⟨rfl, M2⟩
    show gW X h1 0 0 28 [(0, .ref m), (1, .int (iI what))] [.int (iI (gb true))]
    refine g_ifF C dX3_right_28 (tgt := 33) (by decide) (fun q => absurd q (by decide)) (fun q => ?_)
    refine g_iconst C dX3_right_31 ?_
    refine g_iret C E dX3_right_32 rfl ?_
    try rw [e8]
    exact ⟨rfl, M2⟩
  · have hO := hO8 e8
    obtain ⟨hI_, hr, hn, hT, hS_⟩ := id hO
    obtain ⟨hi0, hi1, hi2, hi3, hi4, hi5, hiA, hiR⟩ := id hI_
    obtain ⟨hs1, hs3, hs4, hs5, hs6, hs7, hs8, hs11, hs2⟩ := id hS_
    refine g_aload_n C dX3_right_0 0 rfl ?_
    refine g_aload_n C dX3_right_1 0 rfl ?_
    refine g_get C dX3_right_2 kcX3 8 q1471 (fun _ _ _ _ h9 => h9) M.o (Nat.le_of_ble_eq_true rfl) rfl ?_
    rw [show f 8 = 1 from e8]
    refine g_if_eq C dX3_right_5 (tgt := 21) (by decide) (gRo (by decide) (by decide)) (fun q => absurd q (by decide)) (fun _ => ?_)
    refine g_iload_n C dX3_right_8 1 rfl ?_
    refine g_iconst C dX3_right_9 ?_
    refine g_iconst C dX3_right_10 ?_
    refine g_callS C dX3_right_11 lkX3_70 (As := [.int (iI what), .int (iI 0), .int (iI 3)]) (c_X3_in what 0 3 (by omega) (by omega) (by decide) (by decide) (by decide) (by decide)) rfl rfl ⟨Nat.le_of_ble_eq_true rfl, Nat.le_of_ble_eq_true rfl⟩ (Nat.le_of_ble_eq_true rfl) ?_
    rintro _ _ ⟨rfl, rfl⟩
    refine g_ifF C dX3_right_14 (tgt := 21) (by decide) (fun c14 => ?_) (fun c14 => ?_)
    · have fb3 := mIn_f.mp c14
      refine g_iconst C dX3_right_21 ?_
      refine g_callS C dX3_right_22 lkX3_191 (As := [.int (iI 0)]) (c_X3_unless false) rfl rfl ⟨Nat.le_of_ble_eq_true rfl, Nat.le_of_ble_eq_true rfl⟩ (Nat.le_of_ble_eq_true rfl) ?_
      rintro _ _ ⟨rfl, rfl⟩
      show gW X h 0 0 25 [(0, .ref m), (1, .int (iI what))] [.int (iI 1), .ref m]
      refine g_callV C dX3_right_25 lkX3_156 M.o rfl (As := [.int (iI 1)]) (c_X3_isRefused M 1 (by decide) (by decide)) rfl rfl ⟨Nat.le_of_ble_eq_true rfl, Nat.le_of_ble_eq_true rfl⟩ (Nat.le_of_ble_eq_true rfl) ?_
      rintro _ h4 ⟨rfl, M5⟩
      show gW X h4 0 0 28 [(0, .ref m), (1, .int (iI what))] [.int (iI (gb true))]
      refine g_ifF C dX3_right_28 (tgt := 33) (by decide) (fun q => absurd q (by decide)) (fun q => ?_)
      refine g_iconst C dX3_right_31 ?_
      refine g_iret C E dX3_right_32 rfl ?_
      try rw [c14]
      try rw [e8]
      exact ⟨rfl, M5⟩
    · have fb6 := mIn_t.mp c14
      refine g_iconst C dX3_right_17 ?_
      refine g_goto C dX3_right_18 (tgt := 22) (by decide) ?_
      refine g_callS C dX3_right_22 lkX3_191 (As := [.int (iI 1)]) (c_X3_unless true) rfl rfl ⟨Nat.le_of_ble_eq_true rfl, Nat.le_of_ble_eq_true rfl⟩ (Nat.le_of_ble_eq_true rfl) ?_
      rintro _ _ ⟨rfl, rfl⟩
      show gW X h 0 0 25 [(0, .ref m), (1, .int (iI what))] [.int (iI 0), .ref m]
      refine g_callV C dX3_right_25 lkX3_156 M.o rfl (As := [.int (iI 0)]) (c_X3_isRefused M 0 (by decide) (by decide)) rfl rfl ⟨Nat.le_of_ble_eq_true rfl, Nat.le_of_ble_eq_true rfl⟩ (Nat.le_of_ble_eq_true rfl) ?_
      rintro _ h7 ⟨rfl, M8⟩
      show gW X h7 0 0 28 [(0, .ref m), (1, .int (iI what))] [.int (iI (gb false))]
      refine g_ifF C dX3_right_28 (tgt := 33) (by decide) (fun q => ?_) (fun q => absurd q (by decide))
      refine g_iconst C dX3_right_33 ?_
      refine g_istore_n C dX3_right_34 (lv' := [(2, .int (iI 0)), (0, .ref m), (1, .int (iI what))]) 2 rfl (Nat.le_of_ble_eq_true rfl) rfl ?_
      refine g_iconst C dX3_right_35 ?_
      refine g_istore_n C dX3_right_36 (lv' := [(3, .int (iI 0)), (2, .int (iI 0)), (0, .ref m), (1, .int (iI what))]) 3 rfl (Nat.le_of_ble_eq_true rfl) rfl ?_
      have L37 : ∀ (n : Nat) (k : Int) (a : Int) (hk : 0 ≤ k ∧ k ≤ (4 * g 6 0)) (hn9 : (4 * g 6 0) - k < n) (ha : 0 ≤ a ∧ a ≤ k) (hs : a + mCount (mRightP (g 6) (g 18) what) ((4 * g 6 0) - k).toNat k = mRight (g 6) (g 18) what), gW X h7 0 0 37 [(3, .int (iI k)), (2, .int (iI a)), (0, .ref m), (1, .int (iI what))] [] := by
        intro n
        induction n with
        | zero => intro k a hk hn9 ha hs; exfalso; omega
        | succ n ih =>
          intro k a hk hn9 ha hs
          refine g_iload_n C dX3_right_37 0 rfl ?_
          refine g_iconst C dX3_right_38 ?_
          refine g_aload_n C dX3_right_39 2 rfl ?_
          refine g_get C dX3_right_40 kcX3 6 q1469 (fun _ _ _ _ h9 => h9) M8.o (Nat.le_of_ble_eq_true rfl) (w := .ref (ad 6)) rfl ?_
          refine g_iconst C dX3_right_43 ?_
          refine g_iald C dX3_right_44 (v := g 6 0) M8.a6 (by decide) (by decide) (by decide) rfl ?_
          refine g_imul C dX3_right_45 (v := 4 * (g 6 0)) rfl ?_
          refine g_icmp_ge C dX3_right_46 (tgt := 179) (by decide) (gRo (by omega) (by omega)) (gRo (by omega) (by omega)) (fun c46 => ?_) (fun c46 => ?_)
          · refine g_iload_n C dX3_right_179 1 rfl ?_
            refine g_iret C E dX3_right_180 rfl ?_
            try rw [c14]
            try rw [e8]
            exact ⟨rI (show a = mRight (g 6) (g 18) what from (by rw [← hs, mCount_end (by omega)]; omega)), M8⟩
          · obtain ⟨hT0, hT1, hT2, hT3, hT4, hT5, hT6⟩ := mOk_t hO (k := k) (by omega) (by omega)
            refine g_aload_n C dX3_right_49 2 rfl ?_
            refine g_get C dX3_right_50 kcX3 18 q1481 (fun _ _ _ _ h9 => h9) M8.o (Nat.le_of_ble_eq_true rfl) (w := .ref (ad 18)) rfl ?_
            refine g_iload_n C dX3_right_53 0 rfl ?_
            refine g_iconst C dX3_right_54 ?_
            refine g_callS C dX3_right_55 lkX3_213 (As := [.int (iI k), .int (iI 0)]) (c_X3_at k 0) rfl rfl ⟨Nat.le_of_ble_eq_true rfl, Nat.le_of_ble_eq_true rfl⟩ (Nat.le_of_ble_eq_true rfl) ?_
            rintro _ _ ⟨rfl, rfl⟩
            refine g_iald C dX3_right_58 (v := g 18 (112 + 11 * k + 0)) M8.a18 (by decide) (by omega) (by omega) rfl ?_
            refine g_istore C dX3_right_59 (lv' := [(4, .int (iI (g 18 (112 + 11 * k + 0)))), (3, .int (iI k)), (2, .int (iI a)), (0, .ref m), (1, .int (iI what))]) (Nat.le_of_ble_eq_true rfl) rfl ?_
            refine g_aload_n C dX3_right_61 3 rfl ?_
            refine g_get C dX3_right_62 kcX3 18 q1481 (fun _ _ _ _ h9 => h9) M8.o (Nat.le_of_ble_eq_true rfl) (w := .ref (ad 18)) rfl ?_
            refine g_iload_n C dX3_right_65 1 rfl ?_
            refine g_iconst C dX3_right_66 ?_
            refine g_callS C dX3_right_67 lkX3_213 (As := [.int (iI k), .int (iI 1)]) (c_X3_at k 1) rfl rfl ⟨Nat.le_of_ble_eq_true rfl, Nat.le_of_ble_eq_true rfl⟩ (Nat.le_of_ble_eq_true rfl) ?_
            rintro _ _ ⟨rfl, rfl⟩
            refine g_iald C dX3_right_70 (v := g 18 (112 + 11 * k + 1)) M8.a18 (by decide) (by omega) (by omega) rfl ?_
            refine g_istore C dX3_right_71 (lv' := [(5, .int (iI (g 18 (112 + 11 * k + 1)))), (4, .int (iI (g 18 (112 + 11 * k + 0)))), (3, .int (iI k)), (2, .int (iI a)), (0, .ref m), (1, .int (iI what))]) (Nat.le_of_ble_eq_true rfl) rfl ?_
            refine g_aload_n C dX3_right_73 4 rfl ?_
            refine g_get C dX3_right_74 kcX3 18 q1481 (fun _ _ _ _ h9 => h9) M8.o (Nat.le_of_ble_eq_true rfl) (w := .ref (ad 18)) rfl ?_
            refine g_iload_n C dX3_right_77 2 rfl ?_
            refine g_iconst C dX3_right_78 ?_
            refine g_callS C dX3_right_79 lkX3_213 (As := [.int (iI k), .int (iI 2)]) (c_X3_at k 2) rfl rfl ⟨Nat.le_of_ble_eq_true rfl, Nat.le_of_ble_eq_true rfl⟩ (Nat.le_of_ble_eq_true rfl) ?_
            rintro _ _ ⟨rfl, rfl⟩
            refine g_iald C dX3_right_82 (v := g 18 (112 + 11 * k + 2)) M8.a18 (by decide) (by omega) (by omega) rfl ?_
            refine g_istore C dX3_right_83 (lv' := [(6, .int (iI (g 18 (112 + 11 * k + 2)))), (5, .int (iI (g 18 (112 + 11 * k + 1)))), (4, .int (iI (g 18 (112 + 11 * k + 0)))), (3, .int (iI k)), (2, .int (iI a)), (0, .ref m), (1, .int (iI what))]) (Nat.le_of_ble_eq_true rfl) rfl ?_
            refine g_aload_n C dX3_right_85 5 rfl ?_
            refine g_iload C dX3_right_86 2 rfl ?_
            refine g_iload C dX3_right_88 1 rfl ?_
            refine g_iload C dX3_right_90 0 rfl ?_
            refine g_callV C dX3_right_92 lkX3_303 M8.o rfl (As := [.int (iI (g 18 (112 + 11 * k + 0))), .int (iI (g 18 (112 + 11 * k + 1))), .int (iI (g 18 (112 + 11 * k + 2)))]) (c_X3_toldOf M8 (g 18 (112 + 11 * k + 0)) (g 18 (112 + 11 * k + 1)) (g 18 (112 + 11 * k + 2)) hO (by omega) (by omega) (show 0 ≤ (g 18 (112 + 11 * k + 2)) ∧ (g 18 (112 + 11 * k + 2)) < g 6 0 from by omega)) rfl rfl ⟨Nat.le_of_ble_eq_true rfl, Nat.le_of_ble_eq_true rfl⟩ (Nat.le_of_ble_eq_true rfl) ?_
            rintro _ _ ⟨rfl, rfl⟩
            show gW X h7 0 0 95 [(6, .int (iI (g 18 (112 + 11 * k + 2)))), (5, .int (iI (g 18 (112 + 11 * k + 1)))), (4, .int (iI (g 18 (112 + 11 * k + 0)))), (3, .int (iI k)), (2, .int (iI a)), (0, .ref m), (1, .int (iI what))] [.int (iI (mTold (g 6) (g 18) (g 18 (112 + 11 * k + 0)) (g 18 (112 + 11 * k + 1)) (g 18 (112 + 11 * k + 2))))]
            have b9 := mTold_b hO (route := (g 18 (112 + 11 * k + 0))) (ear := (g 18 (112 + 11 * k + 1))) (tone := (g 18 (112 + 11 * k + 2))) (by omega) (by omega) (by omega)
            refine g_istore C dX3_right_95 (lv' := [(7, .int (iI (mTold (g 6) (g 18) (g 18 (112 + 11 * k + 0)) (g 18 (112 + 11 * k + 1)) (g 18 (112 + 11 * k + 2))))), (6, .int (iI (g 18 (112 + 11 * k + 2)))), (5, .int (iI (g 18 (112 + 11 * k + 1)))), (4, .int (iI (g 18 (112 + 11 * k + 0)))), (3, .int (iI k)), (2, .int (iI a)), (0, .ref m), (1, .int (iI what))]) (Nat.le_of_ble_eq_true rfl) rfl ?_
            have J121 : ∀ (due : Int) (hd : due = g 6 (6 + 12 * g 18 (112 + 11 * k + 0) + 6 * g 18 (112 + 11 * k + 1) + g 18 (112 + 11 * k + 2))), gW X h7 0 0 121 [(7, .int (iI (mTold (g 6) (g 18) (g 18 (112 + 11 * k + 0)) (g 18 (112 + 11 * k + 1)) (g 18 (112 + 11 * k + 2))))), (6, .int (iI (g 18 (112 + 11 * k + 2)))), (5, .int (iI (g 18 (112 + 11 * k + 1)))), (4, .int (iI (g 18 (112 + 11 * k + 0)))), (3, .int (iI k)), (2, .int (iI a)), (0, .ref m), (1, .int (iI what))] [.int (iI due)] := by
              intro due hd
              have hbd := hiA (6 + 12 * g 18 (112 + 11 * k + 0) + 6 * g 18 (112 + 11 * k + 1) + g 18 (112 + 11 * k + 2)) (by omega) (by omega); rw [← hd] at hbd
              refine g_istore C dX3_right_121 (lv' := [(8, .int (iI due)), (7, .int (iI (mTold (g 6) (g 18) (g 18 (112 + 11 * k + 0)) (g 18 (112 + 11 * k + 1)) (g 18 (112 + 11 * k + 2))))), (6, .int (iI (g 18 (112 + 11 * k + 2)))), (5, .int (iI (g 18 (112 + 11 * k + 1)))), (4, .int (iI (g 18 (112 + 11 * k + 0)))), (3, .int (iI k)), (2, .int (iI a)), (0, .ref m), (1, .int (iI what))]) (Nat.le_of_ble_eq_true rfl) rfl ?_
              have J157 : ∀ (z : Int) (hz : z = mStand (mTold (g 6) (g 18) (g 18 (112 + 11 * k + 0)) (g 18 (112 + 11 * k + 1)) (g 18 (112 + 11 * k + 2))) due), gW X h7 0 0 157 [(8, .int (iI due)), (7, .int (iI (mTold (g 6) (g 18) (g 18 (112 + 11 * k + 0)) (g 18 (112 + 11 * k + 1)) (g 18 (112 + 11 * k + 2))))), (6, .int (iI (g 18 (112 + 11 * k + 2)))), (5, .int (iI (g 18 (112 + 11 * k + 1)))), (4, .int (iI (g 18 (112 + 11 * k + 0)))), (3, .int (iI k)), (2, .int (iI a)), (0, .ref m), (1, .int (iI what))] [.int (iI z)] := by
                intro z hz
                have hbz := mStand_b (mTold (g 6) (g 18) (g 18 (112 + 11 * k + 0)) (g 18 (112 + 11 * k + 1)) (g 18 (112 + 11 * k + 2))) due; rw [← hz] at hbz
                refine g_istore C dX3_right_157 (lv' := [(9, .int (iI z)), (8, .int (iI due)), (7, .int (iI (mTold (g 6) (g 18) (g 18 (112 + 11 * k + 0)) (g 18 (112 + 11 * k + 1)) (g 18 (112 + 11 * k + 2))))), (6, .int (iI (g 18 (112 + 11 * k + 2)))), (5, .int (iI (g 18 (112 + 11 * k + 1)))), (4, .int (iI (g 18 (112 + 11 * k + 0)))), (3, .int (iI k)), (2, .int (iI a)), (0, .ref m), (1, .int (iI what))]) (Nat.le_of_ble_eq_true rfl) rfl ?_
                refine g_iload_n C dX3_right_159 7 rfl ?_
                refine g_iload C dX3_right_160 0 rfl ?_
                refine g_iload_n C dX3_right_162 9 rfl ?_
                refine g_icmp_ne C dX3_right_163 (tgt := 170) (by decide) (gRo (by omega) (by omega)) (gRo (by omega) (by omega)) (fun c163 => ?_) (fun c163 => ?_)
                · refine g_iconst C dX3_right_170 ?_
                  refine g_iadd C dX3_right_171 (v := a + 0) rfl ?_
                  refine g_istore_n C dX3_right_172 (lv' := [(2, .int (iI (a + 0))), (9, .int (iI z)), (8, .int (iI due)), (7, .int (iI (mTold (g 6) (g 18) (g 18 (112 + 11 * k + 0)) (g 18 (112 + 11 * k + 1)) (g 18 (112 + 11 * k + 2))))), (6, .int (iI (g 18 (112 + 11 * k + 2)))), (5, .int (iI (g 18 (112 + 11 * k + 1)))), (4, .int (iI (g 18 (112 + 11 * k + 0)))), (3, .int (iI k)), (0, .ref m), (1, .int (iI what))]) 2 rfl (Nat.le_of_ble_eq_true rfl) rfl ?_
                  refine g_iinc C dX3_right_173 (v := k + 1) (lv' := [(3, .int (iI (k + 1))), (2, .int (iI (a + 0))), (9, .int (iI z)), (8, .int (iI due)), (7, .int (iI (mTold (g 6) (g 18) (g 18 (112 + 11 * k + 0)) (g 18 (112 + 11 * k + 1)) (g 18 (112 + 11 * k + 2))))), (6, .int (iI (g 18 (112 + 11 * k + 2)))), (5, .int (iI (g 18 (112 + 11 * k + 1)))), (4, .int (iI (g 18 (112 + 11 * k + 0)))), (0, .ref m), (1, .int (iI what))]) 7 rfl rfl (Nat.le_of_ble_eq_true rfl) rfl ?_
                  refine g_goto C dX3_right_176 (tgt := 37) (by decide) ?_
                  refine gW.loc [0, 1, 8, 9] (lv' := [(3, .int (iI (k + 1))), (2, .int (iI (a + 0))), (0, .ref m), (1, .int (iI what))]) rfl ?_
                  exact ih (k + 1) (a + 0) (by omega) (by omega) (by omega) (by first | (have := mCount_t (p := mRightP (g 6) (g 18) what) (b := (4 * g 6 0)) (k := k) (by omega) (decide_eq_true (by show mStand (mTold (g 6) (g 18) (g 18 (112 + 11 * k + 0)) (g 18 (112 + 11 * k + 1)) (g 18 (112 + 11 * k + 2))) (g 6 (6 + 12 * g 18 (112 + 11 * k + 0) + 6 * g 18 (112 + 11 * k + 1) + g 18 (112 + 11 * k + 2))) = what; rw [← hd, ← hz]; assumption)); omega) | (have := mCount_f (p := mRightP (g 6) (g 18) what) (b := (4 * g 6 0)) (k := k) (by omega) (decide_eq_false (by show ¬ mStand (mTold (g 6) (g 18) (g 18 (112 + 11 * k + 0)) (g 18 (112 + 11 * k + 1)) (g 18 (112 + 11 * k + 2))) (g 6 (6 + 12 * g 18 (112 + 11 * k + 0) + 6 * g 18 (112 + 11 * k + 1) + g 18 (112 + 11 * k + 2))) = what; rw [← hd, ← hz]; assumption)); omega))
                · refine g_iconst C dX3_right_166 ?_
                  refine g_goto C dX3_right_167 (tgt := 171) (by decide) ?_
                  refine g_iadd C dX3_right_171 (v := a + 1) rfl ?_
                  refine g_istore_n C dX3_right_172 (lv' := [(2, .int (iI (a + 1))), (9, .int (iI z)), (8, .int (iI due)), (7, .int (iI (mTold (g 6) (g 18) (g 18 (112 + 11 * k + 0)) (g 18 (112 + 11 * k + 1)) (g 18 (112 + 11 * k + 2))))), (6, .int (iI (g 18 (112 + 11 * k + 2)))), (5, .int (iI (g 18 (112 + 11 * k + 1)))), (4, .int (iI (g 18 (112 + 11 * k + 0)))), (3, .int (iI k)), (0, .ref m), (1, .int (iI what))]) 2 rfl (Nat.le_of_ble_eq_true rfl) rfl ?_
                  refine g_iinc C dX3_right_173 (v := k + 1) (lv' := [(3, .int (iI (k + 1))), (2, .int (iI (a + 1))), (9, .int (iI z)), (8, .int (iI due)), (7, .int (iI (mTold (g 6) (g 18) (g 18 (112 + 11 * k + 0)) (g 18 (112 + 11 * k + 1)) (g 18 (112 + 11 * k + 2))))), (6, .int (iI (g 18 (112 + 11 * k + 2)))), (5, .int (iI (g 18 (112 + 11 * k + 1)))), (4, .int (iI (g 18 (112 + 11 * k + 0)))), (0, .ref m), (1, .int (iI what))]) 7 rfl rfl (Nat.le_of_ble_eq_true rfl) rfl ?_
                  refine g_goto C dX3_right_176 (tgt := 37) (by decide) ?_
                  refine gW.loc [0, 1, 8, 9] (lv' := [(3, .int (iI (k + 1))), (2, .int (iI (a + 1))), (0, .ref m), (1, .int (iI what))]) rfl ?_
                  exact ih (k + 1) (a + 1) (by omega) (by omega) (by omega) (by first | (have := mCount_t (p := mRightP (g 6) (g 18) what) (b := (4 * g 6 0)) (k := k) (by omega) (decide_eq_true (by show mStand (mTold (g 6) (g 18) (g 18 (112 + 11 * k + 0)) (g 18 (112 + 11 * k + 1)) (g 18 (112 + 11 * k + 2))) (g 6 (6 + 12 * g 18 (112 + 11 * k + 0) + 6 * g 18 (112 + 11 * k + 1) + g 18 (112 + 11 * k + 2))) = what; rw [← hd, ← hz]; assumption)); omega) | (have := mCount_f (p := mRightP (g 6) (g 18) what) (b := (4 * g 6 0)) (k := k) (by omega) (decide_eq_false (by show ¬ mStand (mTold (g 6) (g 18) (g 18 (112 + 11 * k + 0)) (g 18 (112 + 11 * k + 1)) (g 18 (112 + 11 * k + 2))) (g 6 (6 + 12 * g 18 (112 + 11 * k + 0) + 6 * g 18 (112 + 11 * k + 1) + g 18 (112 + 11 * k + 2))) = what; rw [← hd, ← hz]; assumption)); omega))
              refine g_iload C dX3_right_123 1 rfl ?_
              refine g_bipush C dX3_right_125 (by decide) ?_
              refine g_icmp_ne C dX3_right_127 (tgt := 134) (by decide) (gRo (by omega) (by omega)) (gRo (by decide) (by decide)) (fun c127 => ?_) (fun c127 => ?_)
              · refine g_iload C dX3_right_134 1 rfl ?_
                refine g_bipush C dX3_right_136 (by decide) ?_
                refine g_icmp_ne C dX3_right_138 (tgt := 145) (by decide) (gRo (by omega) (by omega)) (gRo (by decide) (by decide)) (fun c138 => ?_) (fun c138 => ?_)
                · refine g_iload C dX3_right_145 1 rfl ?_
                  refine g_iload C dX3_right_147 0 rfl ?_
                  refine g_icmp_ne C dX3_right_149 (tgt := 156) (by decide) (gRo (by omega) (by omega)) (gRo (by omega) (by omega)) (fun c149 => ?_) (fun c149 => ?_)
                  · refine g_iconst C dX3_right_156 ?_
                    exact J157 1 (by unfold mStand; grind)
                  · refine g_iconst C dX3_right_152 ?_
                    refine g_goto C dX3_right_153 (tgt := 157) (by decide) ?_
                    exact J157 0 (by unfold mStand; grind)
                · refine g_iconst C dX3_right_141 ?_
                  refine g_goto C dX3_right_142 (tgt := 157) (by decide) ?_
                  exact J157 2 (by unfold mStand; grind)
              · refine g_iconst C dX3_right_130 ?_
                refine g_goto C dX3_right_131 (tgt := 157) (by decide) ?_
                exact J157 3 (by unfold mStand; grind)
            refine g_iload C dX3_right_97 3 rfl ?_
            refine g_if_ne C dX3_right_99 (tgt := 113) (by decide) (hr _) (fun c99 => ?_) (fun c99 => ?_)
            · refine g_aload_n C dX3_right_113 6 rfl ?_
              refine g_iload C dX3_right_114 2 rfl ?_
              refine g_iload C dX3_right_116 1 rfl ?_
              refine g_callV C dX3_right_118 lkX3_177 M8.o rfl (As := [.int (iI (g 18 (112 + 11 * k + 1))), .int (iI (g 18 (112 + 11 * k + 2)))]) (c_X3_boneOf M8 (g 18 (112 + 11 * k + 1)) (g 18 (112 + 11 * k + 2)) (by omega) (by omega)) rfl rfl ⟨Nat.le_of_ble_eq_true rfl, Nat.le_of_ble_eq_true rfl⟩ (Nat.le_of_ble_eq_true rfl) ?_
              rintro _ _ ⟨rfl, rfl⟩
              show gW X h7 0 0 121 [(7, .int (iI (mTold (g 6) (g 18) (g 18 (112 + 11 * k + 0)) (g 18 (112 + 11 * k + 1)) (g 18 (112 + 11 * k + 2))))), (6, .int (iI (g 18 (112 + 11 * k + 2)))), (5, .int (iI (g 18 (112 + 11 * k + 1)))), (4, .int (iI (g 18 (112 + 11 * k + 0)))), (3, .int (iI k)), (2, .int (iI a)), (0, .ref m), (1, .int (iI what))] [.int (iI (g 6 (18 + 6 * (g 18 (112 + 11 * k + 1)) + (g 18 (112 + 11 * k + 2)))))]
              have b10 := hiA (18 + 6 * (g 18 (112 + 11 * k + 1)) + (g 18 (112 + 11 * k + 2))) (by omega) (by omega)
              exact J121 (g 6 (18 + 6 * (g 18 (112 + 11 * k + 1)) + (g 18 (112 + 11 * k + 2)))) (by congr 1; omega)
            · refine g_aload_n C dX3_right_102 6 rfl ?_
              refine g_iload C dX3_right_103 2 rfl ?_
              refine g_iload C dX3_right_105 1 rfl ?_
              refine g_callV C dX3_right_107 lkX3_181 M8.o rfl (As := [.int (iI (g 18 (112 + 11 * k + 1))), .int (iI (g 18 (112 + 11 * k + 2)))]) (c_X3_airOf M8 (g 18 (112 + 11 * k + 1)) (g 18 (112 + 11 * k + 2)) (by omega) (by omega)) rfl rfl ⟨Nat.le_of_ble_eq_true rfl, Nat.le_of_ble_eq_true rfl⟩ (Nat.le_of_ble_eq_true rfl) ?_
              rintro _ _ ⟨rfl, rfl⟩
              show gW X h7 0 0 110 [(7, .int (iI (mTold (g 6) (g 18) (g 18 (112 + 11 * k + 0)) (g 18 (112 + 11 * k + 1)) (g 18 (112 + 11 * k + 2))))), (6, .int (iI (g 18 (112 + 11 * k + 2)))), (5, .int (iI (g 18 (112 + 11 * k + 1)))), (4, .int (iI (g 18 (112 + 11 * k + 0)))), (3, .int (iI k)), (2, .int (iI a)), (0, .ref m), (1, .int (iI what))] [.int (iI (g 6 (6 + 6 * (g 18 (112 + 11 * k + 1)) + (g 18 (112 + 11 * k + 2)))))]
              have b11 := hiA (6 + 6 * (g 18 (112 + 11 * k + 1)) + (g 18 (112 + 11 * k + 2))) (by omega) (by omega)
              refine g_goto C dX3_right_110 (tgt := 121) (by decide) ?_
              exact J121 (g 6 (6 + 6 * (g 18 (112 + 11 * k + 1)) + (g 18 (112 + 11 * k + 2)))) (by congr 1; omega)
      exact L37 ((4 * g 6 0) + 1 : Int).toNat 0 0 (by omega) (by omega) (by omega) (by show 0 + mRight (g 6) (g 18) what = mRight (g 6) (g 18) what; omega)
theorem c_X3_signAt {G : gG} {h : gH} {h0 : gH} {m : Nat} {ad : Nat → Nat} {f : Nat → Int} {g : Nat → Int → Int} (M : mSt G h0 h m ad f g) (ear : Int) (level : Int) (tone : Int) (hO : mOk (g 6) (g 18)) (he : 0 ≤ ear ∧ ear ≤ 1) (hl : -1000 ≤ level ∧ level ≤ 1000) (ht : 0 ≤ tone ∧ tone < g 6 0) : gC G yX3_signAt (.code yX3_signAt cX3_signAt 6 (some .int)) 3 0 0 [.ref m, .int (iI ear), .int (iI level), .int (iI tone)] h (fun r h' => r = some (.int (iI (mSign (g 6) (g 18) ear level tone))) ∧ h = h') := by
  refine gC.of (by decide) (Nat.le_of_ble_eq_true rfl) rfl ?_
  intro X C E hI
  have C : gCtx G X cX3_signAt 6 RX3 3 (some .int) := C
  obtain ⟨hI_, hr, hn, hT, hS_⟩ := id hO
  obtain ⟨hi0, hi1, hi2, hi3, hi4, hi5, hiA, hiR⟩ := id hI_
  obtain ⟨hs1, hs3, hs4, hs5, hs6, hs7, hs8, hs11, hs2⟩ := id hS_
  refine g_aload_n C dX3_signAt_0 0 rfl ?_
  refine g_iconst C dX3_signAt_1 ?_
  refine g_iload_n C dX3_signAt_2 1 rfl ?_
  refine g_iload_n C dX3_signAt_3 3 rfl ?_
  refine g_callV C dX3_signAt_4 lkX3_303 M.o rfl (As := [.int (iI 0), .int (iI ear), .int (iI tone)]) (c_X3_toldOf M 0 ear tone hO (by omega) (by omega) (by omega)) rfl rfl ⟨Nat.le_of_ble_eq_true rfl, Nat.le_of_ble_eq_true rfl⟩ (Nat.le_of_ble_eq_true rfl) ?_
  rintro _ _ ⟨rfl, rfl⟩
  have b1 := mTold_b hO (route := 0) (ear := ear) (tone := tone) (by omega) (by omega) (by omega)
  refine g_istore C dX3_signAt_7 (lv' := [(4, .int (iI (mTold (g 6) (g 18) 0 ear tone))), (0, .ref m), (1, .int (iI ear)), (2, .int (iI level)), (3, .int (iI tone))]) (Nat.le_of_ble_eq_true rfl) rfl ?_
  refine g_aload_n C dX3_signAt_9 1 rfl ?_
  refine g_iconst C dX3_signAt_10 ?_
  refine g_iload_n C dX3_signAt_11 2 rfl ?_
  refine g_iload_n C dX3_signAt_12 4 rfl ?_
  refine g_callV C dX3_signAt_13 lkX3_303 M.o rfl (As := [.int (iI 1), .int (iI ear), .int (iI tone)]) (c_X3_toldOf M 1 ear tone hO (by omega) (by omega) (by omega)) rfl rfl ⟨Nat.le_of_ble_eq_true rfl, Nat.le_of_ble_eq_true rfl⟩ (Nat.le_of_ble_eq_true rfl) ?_
  rintro _ _ ⟨rfl, rfl⟩
  have b2 := mTold_b hO (route := 1) (ear := ear) (tone := tone) (by omega) (by omega) (by omega)
  refine g_istore C dX3_signAt_16 (lv' := [(5, .int (iI (mTold (g 6) (g 18) 1 ear tone))), (4, .int (iI (mTold (g 6) (g 18) 0 ear tone))), (0, .ref m), (1, .int (iI ear)), (2, .int (iI level)), (3, .int (iI tone))]) (Nat.le_of_ble_eq_true rfl) rfl ?_
  refine g_iload C dX3_signAt_18 1 rfl ?_
  refine g_iload_n C dX3_signAt_20 4 rfl ?_
  refine g_icmp_ne C dX3_signAt_21 (tgt := 33) (by decide) (gRo (by omega) (by omega)) (gRo (by omega) (by omega)) (fun c21 => ?_) (fun c21 => ?_)
  · refine g_iload C dX3_signAt_33 1 rfl ?_
    refine g_iload_n C dX3_signAt_35 4 rfl ?_
    refine g_icmp_ne C dX3_signAt_36 (tgt := 59) (by decide) (gRo (by omega) (by omega)) (gRo (by omega) (by omega)) (fun c36 => ?_) (fun c36 => ?_)
    · refine g_iload C dX3_signAt_59 0 rfl ?_
      refine g_iload_n C dX3_signAt_61 4 rfl ?_
      refine g_icmp_ne C dX3_signAt_62 (tgt := 85) (by decide) (gRo (by omega) (by omega)) (gRo (by omega) (by omega)) (fun c62 => ?_) (fun c62 => ?_)
      · refine g_iload_n C dX3_signAt_85 4 rfl ?_
        refine g_bipush C dX3_signAt_86 (by decide) ?_
        refine g_icmp_ne C dX3_signAt_88 (tgt := 110) (by decide) (gRo (by omega) (by omega)) (gRo (by decide) (by decide)) (fun c88 => ?_) (fun c88 => ?_)
        · refine g_bipush C dX3_signAt_110 (by decide) ?_
          refine g_iret C E dX3_signAt_112 rfl ?_
          exact ⟨rI (by unfold mSign; grind), rfl⟩
        · refine g_iload C dX3_signAt_91 1 rfl ?_
          refine g_bipush C dX3_signAt_93 (by decide) ?_
          refine g_icmp_eq C dX3_signAt_95 (tgt := 105) (by decide) (gRo (by omega) (by omega)) (gRo (by decide) (by decide)) (fun c95 => ?_) (fun c95 => ?_)
          · refine g_bipush C dX3_signAt_105 (by decide) ?_
            refine g_goto C dX3_signAt_107 (tgt := 112) (by decide) ?_
            refine g_iret C E dX3_signAt_112 rfl ?_
            exact ⟨rI (by unfold mSign; grind), rfl⟩
          · refine g_iload C dX3_signAt_98 0 rfl ?_
            refine g_bipush C dX3_signAt_100 (by decide) ?_
            refine g_icmp_ne C dX3_signAt_102 (tgt := 110) (by decide) (gRo (by omega) (by omega)) (gRo (by decide) (by decide)) (fun c102 => ?_) (fun c102 => ?_)
            · refine g_bipush C dX3_signAt_110 (by decide) ?_
              refine g_iret C E dX3_signAt_112 rfl ?_
              exact ⟨rI (by unfold mSign; grind), rfl⟩
            · refine g_bipush C dX3_signAt_105 (by decide) ?_
              refine g_goto C dX3_signAt_107 (tgt := 112) (by decide) ?_
              refine g_iret C E dX3_signAt_112 rfl ?_
              exact ⟨rI (by unfold mSign; grind), rfl⟩
      · refine g_aload_n C dX3_signAt_65 2 rfl ?_
        refine g_iconst C dX3_signAt_66 ?_
        refine g_iload_n C dX3_signAt_67 3 rfl ?_
        refine g_iload_n C dX3_signAt_68 5 rfl ?_
        refine g_callV C dX3_signAt_69 lkX3_300 M.o rfl (As := [.int (iI 1), .int (iI ear), .int (iI tone)]) (c_X3_masked M 1 ear tone hO (by omega) (by omega) (by omega)) rfl rfl ⟨Nat.le_of_ble_eq_true rfl, Nat.le_of_ble_eq_true rfl⟩ (Nat.le_of_ble_eq_true rfl) ?_
        rintro _ _ ⟨rfl, rfl⟩
        have b3 := mMk_b hO 1 ear tone
        refine g_bipush C dX3_signAt_72 (by decide) ?_
        refine g_icmp_ne C dX3_signAt_74 (tgt := 82) (by decide) (gRo (by omega) (by omega)) (gRo (by decide) (by decide)) (fun c74 => ?_) (fun c74 => ?_)
        · refine g_bipush C dX3_signAt_82 (by decide) ?_
          refine g_iret C E dX3_signAt_84 rfl ?_
          exact ⟨rI (by unfold mSign; grind), rfl⟩
        · refine g_bipush C dX3_signAt_77 (by decide) ?_
          refine g_goto C dX3_signAt_79 (tgt := 84) (by decide) ?_
          refine g_iret C E dX3_signAt_84 rfl ?_
          exact ⟨rI (by unfold mSign; grind), rfl⟩
    · refine g_aload_n C dX3_signAt_39 2 rfl ?_
      refine g_iconst C dX3_signAt_40 ?_
      refine g_iload_n C dX3_signAt_41 3 rfl ?_
      refine g_iload_n C dX3_signAt_42 5 rfl ?_
      refine g_callV C dX3_signAt_43 lkX3_300 M.o rfl (As := [.int (iI 0), .int (iI ear), .int (iI tone)]) (c_X3_masked M 0 ear tone hO (by omega) (by omega) (by omega)) rfl rfl ⟨Nat.le_of_ble_eq_true rfl, Nat.le_of_ble_eq_true rfl⟩ (Nat.le_of_ble_eq_true rfl) ?_
      rintro _ _ ⟨rfl, rfl⟩
      have b4 := mMk_b hO 0 ear tone
      refine g_bipush C dX3_signAt_46 (by decide) ?_
      refine g_icmp_ne C dX3_signAt_48 (tgt := 56) (by decide) (gRo (by omega) (by omega)) (gRo (by decide) (by decide)) (fun c48 => ?_) (fun c48 => ?_)
      · refine g_bipush C dX3_signAt_56 (by decide) ?_
        refine g_iret C E dX3_signAt_58 rfl ?_
        exact ⟨rI (by unfold mSign; grind), rfl⟩
      · refine g_bipush C dX3_signAt_51 (by decide) ?_
        refine g_goto C dX3_signAt_53 (tgt := 58) (by decide) ?_
        refine g_iret C E dX3_signAt_58 rfl ?_
        exact ⟨rI (by unfold mSign; grind), rfl⟩
  · refine g_iload C dX3_signAt_24 0 rfl ?_
    refine g_iload_n C dX3_signAt_26 4 rfl ?_
    refine g_icmp_ne C dX3_signAt_27 (tgt := 33) (by decide) (gRo (by omega) (by omega)) (gRo (by omega) (by omega)) (fun c27 => ?_) (fun c27 => ?_)
    · refine g_iload C dX3_signAt_33 1 rfl ?_
      refine g_iload_n C dX3_signAt_35 4 rfl ?_
      refine g_icmp_ne C dX3_signAt_36 (tgt := 59) (by decide) (gRo (by omega) (by omega)) (gRo (by omega) (by omega)) (fun c36 => ?_) (fun c36 => ?_)
      · refine g_iload C dX3_signAt_59 0 rfl ?_
        refine g_iload_n C dX3_signAt_61 4 rfl ?_
        refine g_icmp_ne C dX3_signAt_62 (tgt := 85) (by decide) (gRo (by omega) (by omega)) (gRo (by omega) (by omega)) (fun c62 => ?_) (fun c62 => ?_)
        · refine g_iload_n C dX3_signAt_85 4 rfl ?_
          refine g_bipush C dX3_signAt_86 (by decide) ?_
          refine g_icmp_ne C dX3_signAt_88 (tgt := 110) (by decide) (gRo (by omega) (by omega)) (gRo (by decide) (by decide)) (fun c88 => ?_) (fun c88 => ?_)
          · refine g_bipush C dX3_signAt_110 (by decide) ?_
            refine g_iret C E dX3_signAt_112 rfl ?_
            exact ⟨rI (by unfold mSign; grind), rfl⟩
          · refine g_iload C dX3_signAt_91 1 rfl ?_
            refine g_bipush C dX3_signAt_93 (by decide) ?_
            refine g_icmp_eq C dX3_signAt_95 (tgt := 105) (by decide) (gRo (by omega) (by omega)) (gRo (by decide) (by decide)) (fun c95 => ?_) (fun c95 => ?_)
            · refine g_bipush C dX3_signAt_105 (by decide) ?_
              refine g_goto C dX3_signAt_107 (tgt := 112) (by decide) ?_
              refine g_iret C E dX3_signAt_112 rfl ?_
              exact ⟨rI (by unfold mSign; grind), rfl⟩
            · refine g_iload C dX3_signAt_98 0 rfl ?_
              refine g_bipush C dX3_signAt_100 (by decide) ?_
              refine g_icmp_ne C dX3_signAt_102 (tgt := 110) (by decide) (gRo (by omega) (by omega)) (gRo (by decide) (by decide)) (fun c102 => ?_) (fun c102 => ?_)
              · refine g_bipush C dX3_signAt_110 (by decide) ?_
                refine g_iret C E dX3_signAt_112 rfl ?_
                exact ⟨rI (by unfold mSign; grind), rfl⟩
              · refine g_bipush C dX3_signAt_105 (by decide) ?_
                refine g_goto C dX3_signAt_107 (tgt := 112) (by decide) ?_
                refine g_iret C E dX3_signAt_112 rfl ?_
                exact ⟨rI (by unfold mSign; grind), rfl⟩
        · refine g_aload_n C dX3_signAt_65 2 rfl ?_
          refine g_iconst C dX3_signAt_66 ?_
          refine g_iload_n C dX3_signAt_67 3 rfl ?_
          refine g_iload_n C dX3_signAt_68 5 rfl ?_
          refine g_callV C dX3_signAt_69 lkX3_300 M.o rfl (As := [.int (iI 1), .int (iI ear), .int (iI tone)]) (c_X3_masked M 1 ear tone hO (by omega) (by omega) (by omega)) rfl rfl ⟨Nat.le_of_ble_eq_true rfl, Nat.le_of_ble_eq_true rfl⟩ (Nat.le_of_ble_eq_true rfl) ?_
          rintro _ _ ⟨rfl, rfl⟩
          have b5 := mMk_b hO 1 ear tone
          refine g_bipush C dX3_signAt_72 (by decide) ?_
          refine g_icmp_ne C dX3_signAt_74 (tgt := 82) (by decide) (gRo (by omega) (by omega)) (gRo (by decide) (by decide)) (fun c74 => ?_) (fun c74 => ?_)
          · refine g_bipush C dX3_signAt_82 (by decide) ?_
            refine g_iret C E dX3_signAt_84 rfl ?_
            exact ⟨rI (by unfold mSign; grind), rfl⟩
          · refine g_bipush C dX3_signAt_77 (by decide) ?_
            refine g_goto C dX3_signAt_79 (tgt := 84) (by decide) ?_
            refine g_iret C E dX3_signAt_84 rfl ?_
            exact ⟨rI (by unfold mSign; grind), rfl⟩
      · refine g_aload_n C dX3_signAt_39 2 rfl ?_
        refine g_iconst C dX3_signAt_40 ?_
        refine g_iload_n C dX3_signAt_41 3 rfl ?_
        refine g_iload_n C dX3_signAt_42 5 rfl ?_
        refine g_callV C dX3_signAt_43 lkX3_300 M.o rfl (As := [.int (iI 0), .int (iI ear), .int (iI tone)]) (c_X3_masked M 0 ear tone hO (by omega) (by omega) (by omega)) rfl rfl ⟨Nat.le_of_ble_eq_true rfl, Nat.le_of_ble_eq_true rfl⟩ (Nat.le_of_ble_eq_true rfl) ?_
        rintro _ _ ⟨rfl, rfl⟩
        have b6 := mMk_b hO 0 ear tone
        refine g_bipush C dX3_signAt_46 (by decide) ?_
        refine g_icmp_ne C dX3_signAt_48 (tgt := 56) (by decide) (gRo (by omega) (by omega)) (gRo (by decide) (by decide)) (fun c48 => ?_) (fun c48 => ?_)
        · refine g_bipush C dX3_signAt_56 (by decide) ?_
          refine g_iret C E dX3_signAt_58 rfl ?_
          exact ⟨rI (by unfold mSign; grind), rfl⟩
        · refine g_bipush C dX3_signAt_51 (by decide) ?_
          refine g_goto C dX3_signAt_53 (tgt := 58) (by decide) ?_
          refine g_iret C E dX3_signAt_58 rfl ?_
          exact ⟨rI (by unfold mSign; grind), rfl⟩
    · refine g_bipush C dX3_signAt_30 (by decide) ?_
      refine g_iret C E dX3_signAt_32 rfl ?_
      exact ⟨rI (by unfold mSign; grind), rfl⟩
theorem c_X3_chart {G : gG} {h : gH} {h0 : gH} {m : Nat} {ad : Nat → Nat} {f : Nat → Int} {g : Nat → Int → Int} (M : mSt G h0 h m ad f g) (ear : Int) (k : Int) (hear1 : -2147483648 ≤ ear) (hear2 : ear ≤ 2147483647) (hk1 : -2147483648 ≤ k) (hk2 : k ≤ 2147483647) (hf8 : f 8 = 0 ∨ f 8 = 1) (hO8 : f 8 = 1 → mOk (g 6) (g 18)) : gC G yX3_chart (.code yX3_chart cX3_chart 4 (some .int)) 4 0 0 [.ref m, .int (iI ear), .int (iI k)] h (fun r h' => r = some (.int (iI (mAns (mW1 (mOne (f 8) (g 6) 0 ear 0 && decide (0 ≤ k))) (mChart (g 6) (g 18) ear k)))) ∧ mSt G h0 h' m ad (mRef f (mW1 (mOne (f 8) (g 6) 0 ear 0 && decide (0 ≤ k)))) g) := by
  refine gC.of (by decide) (Nat.le_of_ble_eq_true rfl) rfl ?_
  intro X C E hI
  have C : gCtx G X cX3_chart 4 RX3 4 (some .int) := C
  refine g_aload_n C dX3_chart_0 0 rfl ?_
  refine g_aload_n C dX3_chart_1 0 rfl ?_
  refine g_iconst C dX3_chart_2 ?_
  refine g_iload_n C dX3_chart_3 1 rfl ?_
  refine g_iconst C dX3_chart_4 ?_
  refine g_callV C dX3_chart_5 lkX3_188 M.o rfl (As := [.int (iI 0), .int (iI ear), .int (iI 0)]) (c_X3_isOne M 0 ear 0 (by decide) (by decide) (by omega) (by omega) (by decide) (by decide) hf8 hO8) rfl rfl ⟨Nat.le_of_ble_eq_true rfl, Nat.le_of_ble_eq_true rfl⟩ (Nat.le_of_ble_eq_true rfl) ?_
  rintro _ _ ⟨rfl, rfl⟩
  refine g_ifF C dX3_chart_8 (tgt := 19) (by decide) (fun c8 => ?_) (fun c8 => ?_)
  · refine g_iconst C dX3_chart_19 ?_
    refine g_callS C dX3_chart_20 lkX3_191 (As := [.int (iI 0)]) (c_X3_unless false) rfl rfl ⟨Nat.le_of_ble_eq_true rfl, Nat.le_of_ble_eq_true rfl⟩ (Nat.le_of_ble_eq_true rfl) ?_
    rintro _ _ ⟨rfl, rfl⟩
    show gW X h 0 0 23 [(0, .ref m), (1, .int (iI ear)), (2, .int (iI k))] [.int (iI 1), .ref m]
    refine g_callV C dX3_chart_23 lkX3_156 M.o rfl (As := [.int (iI 1)]) (c_X3_isRefused M 1 (by decide) (by decide)) rfl rfl ⟨Nat.le_of_ble_eq_true rfl, Nat.le_of_ble_eq_true rfl⟩ (Nat.le_of_ble_eq_true rfl) ?_
    rintro _ h1 ⟨rfl, M2⟩
    show gW X h1 0 0 26 [(0, .ref m), (1, .int (iI ear)), (2, .int (iI k))] [.int (iI (gb true))]
    refine g_ifF C dX3_chart_26 (tgt := 31) (by decide) (fun q => absurd q (by decide)) (fun q => ?_)
    refine g_iconst C dX3_chart_29 ?_
    refine g_iret C E dX3_chart_30 rfl ?_
    try rw [c8]
    exact ⟨rfl, M2⟩
  · have fb3 := mOne_t c8
    have hO := hO8 fb3.1
    obtain ⟨hI_, hr, hn, hT, hS_⟩ := id hO
    obtain ⟨hi0, hi1, hi2, hi3, hi4, hi5, hiA, hiR⟩ := id hI_
    obtain ⟨hs1, hs3, hs4, hs5, hs6, hs7, hs8, hs11, hs2⟩ := id hS_
    refine g_iload_n C dX3_chart_11 2 rfl ?_
    refine g_if_lt C dX3_chart_12 (tgt := 19) (by decide) (gRo (by omega) (by omega)) (fun c12 => ?_) (fun c12 => ?_)
    · refine g_iconst C dX3_chart_19 ?_
      refine g_callS C dX3_chart_20 lkX3_191 (As := [.int (iI 0)]) (c_X3_unless false) rfl rfl ⟨Nat.le_of_ble_eq_true rfl, Nat.le_of_ble_eq_true rfl⟩ (Nat.le_of_ble_eq_true rfl) ?_
      rintro _ _ ⟨rfl, rfl⟩
      show gW X h 0 0 23 [(0, .ref m), (1, .int (iI ear)), (2, .int (iI k))] [.int (iI 1), .ref m]
      refine g_callV C dX3_chart_23 lkX3_156 M.o rfl (As := [.int (iI 1)]) (c_X3_isRefused M 1 (by decide) (by decide)) rfl rfl ⟨Nat.le_of_ble_eq_true rfl, Nat.le_of_ble_eq_true rfl⟩ (Nat.le_of_ble_eq_true rfl) ?_
      rintro _ h4 ⟨rfl, M5⟩
      show gW X h4 0 0 26 [(0, .ref m), (1, .int (iI ear)), (2, .int (iI k))] [.int (iI (gb true))]
      refine g_ifF C dX3_chart_26 (tgt := 31) (by decide) (fun q => absurd q (by decide)) (fun q => ?_)
      refine g_iconst C dX3_chart_29 ?_
      refine g_iret C E dX3_chart_30 rfl ?_
      try rw [c8]
      try rw [show decide (0 ≤ k) = false from decide_eq_false (by omega)]
      exact ⟨rfl, M5⟩
    · refine g_iconst C dX3_chart_15 ?_
      refine g_goto C dX3_chart_16 (tgt := 20) (by decide) ?_
      refine g_callS C dX3_chart_20 lkX3_191 (As := [.int (iI 1)]) (c_X3_unless true) rfl rfl ⟨Nat.le_of_ble_eq_true rfl, Nat.le_of_ble_eq_true rfl⟩ (Nat.le_of_ble_eq_true rfl) ?_
      rintro _ _ ⟨rfl, rfl⟩
      show gW X h 0 0 23 [(0, .ref m), (1, .int (iI ear)), (2, .int (iI k))] [.int (iI 0), .ref m]
      refine g_callV C dX3_chart_23 lkX3_156 M.o rfl (As := [.int (iI 0)]) (c_X3_isRefused M 0 (by decide) (by decide)) rfl rfl ⟨Nat.le_of_ble_eq_true rfl, Nat.le_of_ble_eq_true rfl⟩ (Nat.le_of_ble_eq_true rfl) ?_
      rintro _ h6 ⟨rfl, M7⟩
      show gW X h6 0 0 26 [(0, .ref m), (1, .int (iI ear)), (2, .int (iI k))] [.int (iI (gb false))]
      refine g_ifF C dX3_chart_26 (tgt := 31) (by decide) (fun q => ?_) (fun q => absurd q (by decide))
      refine g_aload_n C dX3_chart_31 0 rfl ?_
      refine g_get C dX3_chart_32 kcX3 6 q1469 (fun _ _ _ _ h9 => h9) M7.o (Nat.le_of_ble_eq_true rfl) (w := .ref (ad 6)) rfl ?_
      refine g_iconst C dX3_chart_35 ?_
      refine g_iald C dX3_chart_36 (v := g 6 0) M7.a6 (by decide) (by decide) (by decide) rfl ?_
      refine g_iconst C dX3_chart_37 ?_
      refine g_iadd C dX3_chart_38 (v := g 6 0 + 1) rfl ?_
      refine g_istore_n C dX3_chart_39 (lv' := [(3, .int (iI (g 6 0 + 1))), (0, .ref m), (1, .int (iI ear)), (2, .int (iI k))]) 3 rfl (Nat.le_of_ble_eq_true rfl) rfl ?_
      refine g_iload_n C dX3_chart_40 3 rfl ?_
      refine g_iload_n C dX3_chart_41 0 rfl ?_
      refine g_bipush C dX3_chart_42 (by decide) ?_
      refine g_imul C dX3_chart_44 (v := (g 6 0 + 1) * 26) rfl ?_
      refine g_icmp_lt C dX3_chart_45 (tgt := 50) (by decide) (gRo (by omega) (by omega)) (gRo (by omega) (by omega)) (fun c45 => ?_) (fun c45 => ?_)
      · have hdw := divw (k := k) (w := g 6 0 + 1) (by omega) (by omega) (by omega)
        refine g_iload_n C dX3_chart_50 3 rfl ?_
        refine g_iload_n C dX3_chart_51 0 rfl ?_
        refine g_irem C dX3_chart_52 ⟨by omega, by omega⟩ ⟨by omega, by omega⟩ rfl ?_
        refine g_iload_n C dX3_chart_53 0 rfl ?_
        refine g_iconst C dX3_chart_54 ?_
        refine g_isub C dX3_chart_55 (v := g 6 0 + 1 - 1) rfl ?_
        refine g_icmp_ne C dX3_chart_56 (tgt := 64) (by decide) (gRo (by omega) (by omega)) (gRo (by omega) (by omega)) (fun c56 => ?_) (fun c56 => ?_)
        · refine g_aload_n C dX3_chart_64 1 rfl ?_
          refine g_iload_n C dX3_chart_65 2 rfl ?_
          refine g_iload_n C dX3_chart_66 3 rfl ?_
          refine g_iload_n C dX3_chart_67 0 rfl ?_
          refine g_idiv C dX3_chart_68 ⟨by omega, by omega⟩ ⟨by omega, by omega⟩ rfl ?_
          refine g_iload_n C dX3_chart_69 3 rfl ?_
          refine g_iload_n C dX3_chart_70 0 rfl ?_
          refine g_irem C dX3_chart_71 ⟨by omega, by omega⟩ ⟨by omega, by omega⟩ rfl ?_
          refine g_callV C dX3_chart_72 lkX3_330 M7.o rfl (As := [.int (iI ear), .int (iI (k / (g 6 0 + 1))), .int (iI (k % (g 6 0 + 1)))]) (c_X3_signAt M7 ear (k / (g 6 0 + 1)) (k % (g 6 0 + 1)) hO (by omega) (by omega) (show 0 ≤ (k % (g 6 0 + 1)) ∧ (k % (g 6 0 + 1)) < g 6 0 from by omega)) rfl rfl ⟨Nat.le_of_ble_eq_true rfl, Nat.le_of_ble_eq_true rfl⟩ (Nat.le_of_ble_eq_true rfl) ?_
          rintro _ _ ⟨rfl, rfl⟩
          show gW X h6 0 0 75 [(3, .int (iI (g 6 0 + 1))), (0, .ref m), (1, .int (iI ear)), (2, .int (iI k))] [.int (iI (mSign (g 6) (g 18) ear (k / (g 6 0 + 1)) (k % (g 6 0 + 1))))]
          refine g_iret C E dX3_chart_75 rfl ?_
          try rw [c8]
          try rw [show decide (0 ≤ k) = true from decide_eq_true (by omega)]
          exact ⟨rI (show mSign (g 6) (g 18) ear (k / (g 6 0 + 1)) (k % (g 6 0 + 1)) = mChart (g 6) (g 18) ear k from by unfold mChart; grind), M7⟩
        · refine g_bipush C dX3_chart_59 (by decide) ?_
          refine g_goto C dX3_chart_61 (tgt := 75) (by decide) ?_
          refine g_iret C E dX3_chart_75 rfl ?_
          try rw [c8]
          try rw [show decide (0 ≤ k) = true from decide_eq_true (by omega)]
          exact ⟨rI (show 10 = mChart (g 6) (g 18) ear k from by unfold mChart; grind), M7⟩
      · refine g_iconst C dX3_chart_48 ?_
        refine g_iret C E dX3_chart_49 rfl ?_
        try rw [c8]
        try rw [show decide (0 ≤ k) = true from decide_eq_true (by omega)]
        exact ⟨rI (show -1 = mChart (g 6) (g 18) ear k from by unfold mChart; grind), M7⟩
theorem c_X3_log {G : gG} {h : gH} {h0 : gH} {m : Nat} {ad : Nat → Nat} {f : Nat → Int} {g : Nat → Int → Int} (M : mSt G h0 h m ad f g) (i : Int) (what : Int) (hi1 : -2147483648 ≤ i) (hi2 : i ≤ 2147483647) (hwhat1 : -2147483648 ≤ what) (hwhat2 : what ≤ 2147483647) (hf8 : f 8 = 0 ∨ f 8 = 1) (hO8 : f 8 = 1 → mOk (g 6) (g 18)) : gC G yX3_log (.code yX3_log cX3_log 3 (some .int)) 1 0 0 [.ref m, .int (iI i), .int (iI what)] h (fun r h' => r = some (.int (iI (mAns (mW1 (decide (f 8 = 1) && (mIn i 0 (g 18 11 - 1) && mIn what 0 5))) (g 18 (640 + 6 * i + what))))) ∧ mSt G h0 h' m ad (mRef f (mW1 (decide (f 8 = 1) && (mIn i 0 (g 18 11 - 1) && mIn what 0 5)))) g) := by
  refine gC.of (by decide) (Nat.le_of_ble_eq_true rfl) rfl ?_
  intro X C E hI
  have C : gCtx G X cX3_log 3 RX3 1 (some .int) := C
  rcases id hf8 with e8 | e8
  · refine g_aload_n C dX3_log_0 0 rfl ?_
    refine g_aload_n C dX3_log_1 0 rfl ?_
    refine g_get C dX3_log_2 kcX3 8 q1471 (fun _ _ _ _ h9 => h9) M.o (Nat.le_of_ble_eq_true rfl) rfl ?_
    rw [show f 8 = 0 from e8]
    refine g_if_eq C dX3_log_5 (tgt := 38) (by decide) (gRo (by decide) (by decide)) (fun _ => ?_) (fun q => absurd (by decide) q)
    refine g_iconst C dX3_log_38 ?_
    refine g_callS C dX3_log_39 lkX3_191 (As := [.int (iI 0)]) (c_X3_unless false) rfl rfl ⟨Nat.le_of_ble_eq_true rfl, Nat.le_of_ble_eq_true rfl⟩ (Nat.le_of_ble_eq_true rfl) ?_
    rintro _ _ ⟨rfl, rfl⟩
    show gW X h 0 0 42 [(0, .ref m), (1, .int (iI i)), (2, .int (iI what))] [.int (iI 1), .ref m]
    refine g_callV C dX3_log_42 lkX3_156 M.o rfl (As := [.int (iI 1)]) (c_X3_isRefused M 1 (by decide) (by decide)) rfl rfl ⟨Nat.le_of_ble_eq_true rfl, Nat.le_of_ble_eq_true rfl⟩ (Nat.le_of_ble_eq_true rfl) ?_
    rintro _ h1 ⟨rfl, M2⟩
    show gW X h1 0 0 45 [(0, .ref m), (1, .int (iI i)), (2, .int (iI what))] [.int (iI (gb true))]
    refine g_ifF C dX3_log_45 (tgt := 52) (by decide) (fun q => absurd q (by decide)) (fun q => ?_)
    refine g_iconst C dX3_log_48 ?_
    refine g_goto C dX3_log_49 (tgt := 67) (by decide) ?_
    refine g_iret C E dX3_log_67 rfl ?_
    try rw [e8]
    exact ⟨rfl, M2⟩
  · have hO := hO8 e8
    obtain ⟨hI_, hr, hn, hT, hS_⟩ := id hO
    obtain ⟨hi0, hi1, hi2, hi3, hi4, hi5, hiA, hiR⟩ := id hI_
    obtain ⟨hs1, hs3, hs4, hs5, hs6, hs7, hs8, hs11, hs2⟩ := id hS_
    refine g_aload_n C dX3_log_0 0 rfl ?_
    refine g_aload_n C dX3_log_1 0 rfl ?_
    refine g_get C dX3_log_2 kcX3 8 q1471 (fun _ _ _ _ h9 => h9) M.o (Nat.le_of_ble_eq_true rfl) rfl ?_
    rw [show f 8 = 1 from e8]
    refine g_if_eq C dX3_log_5 (tgt := 38) (by decide) (gRo (by decide) (by decide)) (fun q => absurd q (by decide)) (fun _ => ?_)
    refine g_iload_n C dX3_log_8 1 rfl ?_
    refine g_iconst C dX3_log_9 ?_
    refine g_aload_n C dX3_log_10 0 rfl ?_
    refine g_get C dX3_log_11 kcX3 18 q1481 (fun _ _ _ _ h9 => h9) M.o (Nat.le_of_ble_eq_true rfl) rfl ?_
    refine g_bipush C dX3_log_14 (by decide) ?_
    refine g_iald C dX3_log_16 (v := g 18 11) M.a18 (by decide) (by decide) (by decide) rfl ?_
    refine g_iconst C dX3_log_17 ?_
    refine g_isub C dX3_log_18 (v := g 18 11 - 1) rfl ?_
    refine g_callS C dX3_log_19 lkX3_70 (As := [.int (iI i), .int (iI 0), .int (iI (g 18 11 - 1))]) (c_X3_in i 0 (g 18 11 - 1) (by omega) (by omega) (by decide) (by decide) (by omega) (by omega)) rfl rfl ⟨Nat.le_of_ble_eq_true rfl, Nat.le_of_ble_eq_true rfl⟩ (Nat.le_of_ble_eq_true rfl) ?_
    rintro _ _ ⟨rfl, rfl⟩
    refine g_ifF C dX3_log_22 (tgt := 38) (by decide) (fun c22 => ?_) (fun c22 => ?_)
    · have fb3 := mIn_f.mp c22
      refine g_iconst C dX3_log_38 ?_
      refine g_callS C dX3_log_39 lkX3_191 (As := [.int (iI 0)]) (c_X3_unless false) rfl rfl ⟨Nat.le_of_ble_eq_true rfl, Nat.le_of_ble_eq_true rfl⟩ (Nat.le_of_ble_eq_true rfl) ?_
      rintro _ _ ⟨rfl, rfl⟩
      show gW X h 0 0 42 [(0, .ref m), (1, .int (iI i)), (2, .int (iI what))] [.int (iI 1), .ref m]
      refine g_callV C dX3_log_42 lkX3_156 M.o rfl (As := [.int (iI 1)]) (c_X3_isRefused M 1 (by decide) (by decide)) rfl rfl ⟨Nat.le_of_ble_eq_true rfl, Nat.le_of_ble_eq_true rfl⟩ (Nat.le_of_ble_eq_true rfl) ?_
      rintro _ h4 ⟨rfl, M5⟩
      show gW X h4 0 0 45 [(0, .ref m), (1, .int (iI i)), (2, .int (iI what))] [.int (iI (gb true))]
      refine g_ifF C dX3_log_45 (tgt := 52) (by decide) (fun q => absurd q (by decide)) (fun q => ?_)
      refine g_iconst C dX3_log_48 ?_
      refine g_goto C dX3_log_49 (tgt := 67) (by decide) ?_
      refine g_iret C E dX3_log_67 rfl ?_
      try rw [c22]
      try rw [e8]
      exact ⟨rfl, M5⟩
    · have fb6 := mIn_t.mp c22
      refine g_iload_n C dX3_log_25 2 rfl ?_
      refine g_iconst C dX3_log_26 ?_
      refine g_iconst C dX3_log_27 ?_
      refine g_callS C dX3_log_28 lkX3_70 (As := [.int (iI what), .int (iI 0), .int (iI 5)]) (c_X3_in what 0 5 (by omega) (by omega) (by decide) (by decide) (by decide) (by decide)) rfl rfl ⟨Nat.le_of_ble_eq_true rfl, Nat.le_of_ble_eq_true rfl⟩ (Nat.le_of_ble_eq_true rfl) ?_
      rintro _ _ ⟨rfl, rfl⟩
      refine g_ifF C dX3_log_31 (tgt := 38) (by decide) (fun c31 => ?_) (fun c31 => ?_)
      · have fb7 := mIn_f.mp c31
        refine g_iconst C dX3_log_38 ?_
        refine g_callS C dX3_log_39 lkX3_191 (As := [.int (iI 0)]) (c_X3_unless false) rfl rfl ⟨Nat.le_of_ble_eq_true rfl, Nat.le_of_ble_eq_true rfl⟩ (Nat.le_of_ble_eq_true rfl) ?_
        rintro _ _ ⟨rfl, rfl⟩
        show gW X h 0 0 42 [(0, .ref m), (1, .int (iI i)), (2, .int (iI what))] [.int (iI 1), .ref m]
        refine g_callV C dX3_log_42 lkX3_156 M.o rfl (As := [.int (iI 1)]) (c_X3_isRefused M 1 (by decide) (by decide)) rfl rfl ⟨Nat.le_of_ble_eq_true rfl, Nat.le_of_ble_eq_true rfl⟩ (Nat.le_of_ble_eq_true rfl) ?_
        rintro _ h8 ⟨rfl, M9⟩
        show gW X h8 0 0 45 [(0, .ref m), (1, .int (iI i)), (2, .int (iI what))] [.int (iI (gb true))]
        refine g_ifF C dX3_log_45 (tgt := 52) (by decide) (fun q => absurd q (by decide)) (fun q => ?_)
        refine g_iconst C dX3_log_48 ?_
        refine g_goto C dX3_log_49 (tgt := 67) (by decide) ?_
        refine g_iret C E dX3_log_67 rfl ?_
        try rw [c22]
        try rw [c31]
        try rw [e8]
        exact ⟨rfl, M9⟩
      · have fb10 := mIn_t.mp c31
        refine g_iconst C dX3_log_34 ?_
        refine g_goto C dX3_log_35 (tgt := 39) (by decide) ?_
        refine g_callS C dX3_log_39 lkX3_191 (As := [.int (iI 1)]) (c_X3_unless true) rfl rfl ⟨Nat.le_of_ble_eq_true rfl, Nat.le_of_ble_eq_true rfl⟩ (Nat.le_of_ble_eq_true rfl) ?_
        rintro _ _ ⟨rfl, rfl⟩
        show gW X h 0 0 42 [(0, .ref m), (1, .int (iI i)), (2, .int (iI what))] [.int (iI 0), .ref m]
        refine g_callV C dX3_log_42 lkX3_156 M.o rfl (As := [.int (iI 0)]) (c_X3_isRefused M 0 (by decide) (by decide)) rfl rfl ⟨Nat.le_of_ble_eq_true rfl, Nat.le_of_ble_eq_true rfl⟩ (Nat.le_of_ble_eq_true rfl) ?_
        rintro _ h11 ⟨rfl, M12⟩
        show gW X h11 0 0 45 [(0, .ref m), (1, .int (iI i)), (2, .int (iI what))] [.int (iI (gb false))]
        refine g_ifF C dX3_log_45 (tgt := 52) (by decide) (fun q => ?_) (fun q => absurd q (by decide))
        refine g_aload_n C dX3_log_52 0 rfl ?_
        refine g_get C dX3_log_53 kcX3 18 q1481 (fun _ _ _ _ h9 => h9) M12.o (Nat.le_of_ble_eq_true rfl) (w := .ref (ad 18)) rfl ?_
        refine g_sipush C dX3_log_56 (by decide) ?_
        refine g_bipush C dX3_log_59 (by decide) ?_
        refine g_iload_n C dX3_log_61 1 rfl ?_
        refine g_imul C dX3_log_62 (v := 6 * i) rfl ?_
        refine g_iadd C dX3_log_63 (v := 640 + 6 * i) rfl ?_
        refine g_iload_n C dX3_log_64 2 rfl ?_
        refine g_iadd C dX3_log_65 (v := 640 + 6 * i + what) rfl ?_
        refine g_iald C dX3_log_66 (v := g 18 (640 + 6 * i + what)) M12.a18 (by decide) (by omega) (by omega) rfl ?_
        refine g_iret C E dX3_log_67 rfl ?_
        try rw [c22]
        try rw [c31]
        try rw [e8]
        exact ⟨rI (show g 18 (640 + 6 * i + what) = g 18 (640 + 6 * i + what) from rfl), M12⟩
theorem c_X3_trouble {G : gG} {h : gH} {h0 : gH} {m : Nat} {ad : Nat → Nat} {f : Nat → Int} {g : Nat → Int → Int} (M : mSt G h0 h m ad f g)  : gC G yX3_trouble (.code yX3_trouble cX3_trouble 1 (some .int)) 0 0 0 [.ref m] h (fun r h' => r = some (.int (iI (f 1))) ∧ mSt G h0 h' m ad (va_up f 0 0) g) := by
  refine gC.of (by decide) (Nat.le_of_ble_eq_true rfl) rfl ?_
  intro X C E hI
  have C : gCtx G X cX3_trouble 1 RX3 0 (some .int) := C
  refine g_aload_n C dX3_trouble_0 0 rfl ?_
  refine g_iconst C dX3_trouble_1 ?_
  refine g_put C dX3_trouble_2 kcX3 0 q1463 (fun _ _ _ _ h9 => h9) M.o rfl (Nat.le_of_ble_eq_true rfl) rfl rfl (Nat.le_of_ble_eq_true rfl) (fs2 := mFs ad (va_up f 0 0)) rfl (fun h1 hh2 => ?_)
  have M3 : mSt G h0 h1 m ad (va_up f 0 0) g := M.put hh2 rfl
  refine g_aload_n C dX3_trouble_5 0 rfl ?_
  refine g_get C dX3_trouble_6 kcX3 1 q1464 (fun _ _ _ _ h9 => h9) M3.o (Nat.le_of_ble_eq_true rfl) (w := .int (iI (f 1))) rfl ?_
  refine g_iret C E dX3_trouble_9 rfl ?_
  exact ⟨rI (rfl), M3⟩
theorem c_X3_fault {G : gG} {h : gH} {h0 : gH} {m : Nat} {ad : Nat → Nat} {f : Nat → Int} {g : Nat → Int → Int} (M : mSt G h0 h m ad f g)  : gC G yX3_fault (.code yX3_fault cX3_fault 1 (some .int)) 0 0 0 [.ref m] h (fun r h' => r = some (.int (iI (f 2))) ∧ mSt G h0 h' m ad (va_up f 0 0) g) := by
  refine gC.of (by decide) (Nat.le_of_ble_eq_true rfl) rfl ?_
  intro X C E hI
  have C : gCtx G X cX3_fault 1 RX3 0 (some .int) := C
  refine g_aload_n C dX3_fault_0 0 rfl ?_
  refine g_iconst C dX3_fault_1 ?_
  refine g_put C dX3_fault_2 kcX3 0 q1463 (fun _ _ _ _ h9 => h9) M.o rfl (Nat.le_of_ble_eq_true rfl) rfl rfl (Nat.le_of_ble_eq_true rfl) (fs2 := mFs ad (va_up f 0 0)) rfl (fun h1 hh2 => ?_)
  have M3 : mSt G h0 h1 m ad (va_up f 0 0) g := M.put hh2 rfl
  refine g_aload_n C dX3_fault_5 0 rfl ?_
  refine g_get C dX3_fault_6 kcX3 2 q1465 (fun _ _ _ _ h9 => h9) M3.o (Nat.le_of_ble_eq_true rfl) (w := .int (iI (f 2))) rfl ?_
  refine g_iret C E dX3_fault_9 rfl ?_
  exact ⟨rI (rfl), M3⟩
theorem c_X3_where {G : gG} {h : gH} {h0 : gH} {m : Nat} {ad : Nat → Nat} {f : Nat → Int} {g : Nat → Int → Int} (M : mSt G h0 h m ad f g) (hf1 : -1000 ≤ f 1 ∧ f 1 ≤ 1000) : gC G yX3_where (.code yX3_where cX3_where 1 (some .int)) 0 0 0 [.ref m] h (fun r h' => r = some (.int (iI (if f 1 = 4 then f 3 else -1))) ∧ mSt G h0 h' m ad (va_up f 0 0) g) := by
  refine gC.of (by decide) (Nat.le_of_ble_eq_true rfl) rfl ?_
  intro X C E hI
  have C : gCtx G X cX3_where 1 RX3 0 (some .int) := C
  refine g_aload_n C dX3_where_0 0 rfl ?_
  refine g_iconst C dX3_where_1 ?_
  refine g_put C dX3_where_2 kcX3 0 q1463 (fun _ _ _ _ h9 => h9) M.o rfl (Nat.le_of_ble_eq_true rfl) rfl rfl (Nat.le_of_ble_eq_true rfl) (fs2 := mFs ad (va_up f 0 0)) rfl (fun h1 hh2 => ?_)
  have M3 : mSt G h0 h1 m ad (va_up f 0 0) g := M.put hh2 rfl
  refine g_aload_n C dX3_where_5 0 rfl ?_
  refine g_get C dX3_where_6 kcX3 1 q1464 (fun _ _ _ _ h9 => h9) M3.o (Nat.le_of_ble_eq_true rfl) (w := .int (iI (f 1))) rfl ?_
  refine g_iconst C dX3_where_9 ?_
  refine g_icmp_ne C dX3_where_10 (tgt := 20) (by decide) (gRo (by omega) (by omega)) (gRo (by decide) (by decide)) (fun c10 => ?_) (fun c10 => ?_)
  · refine g_iconst C dX3_where_20 ?_
    refine g_iret C E dX3_where_21 rfl ?_
    exact ⟨rI (by grind), M3⟩
  · refine g_aload_n C dX3_where_13 0 rfl ?_
    refine g_get C dX3_where_14 kcX3 3 q1466 (fun _ _ _ _ h9 => h9) M3.o (Nat.le_of_ble_eq_true rfl) (w := .int (iI (f 3))) rfl ?_
    refine g_goto C dX3_where_17 (tgt := 21) (by decide) ?_
    refine g_iret C E dX3_where_21 rfl ?_
    exact ⟨rI (by grind), M3⟩
theorem c_X3_size {G : gG} {h : gH} {h0 : gH} {m : Nat} {ad : Nat → Nat} {f : Nat → Int} {g : Nat → Int → Int} (M : mSt G h0 h m ad f g) (what : Int) (hwhat1 : -2147483648 ≤ what) (hwhat2 : what ≤ 2147483647) (hf8 : f 8 = 0 ∨ f 8 = 1) (hO8 : f 8 = 1 → mOk (g 6) (g 18)) : gC G yX3_size (.code yX3_size cX3_size 2 (some .int)) 0 0 0 [.ref m, .int (iI what)] h (fun r h' => r = some (.int (iI (if what = 0 then f 5 else if what = 1 then (if f 8 = 1 then g 18 11 else 0) else -1))) ∧ mSt G h0 h' m ad (va_up f 0 0) g) := by
  refine gC.of (by decide) (Nat.le_of_ble_eq_true rfl) rfl ?_
  intro X C E hI
  have C : gCtx G X cX3_size 2 RX3 0 (some .int) := C
  rcases id hf8 with e8 | e8
  · refine g_aload_n C dX3_size_0 0 rfl ?_
    refine g_iconst C dX3_size_1 ?_
    refine g_put C dX3_size_2 kcX3 0 q1463 (fun _ _ _ _ h9 => h9) M.o rfl (Nat.le_of_ble_eq_true rfl) rfl rfl (Nat.le_of_ble_eq_true rfl) (fs2 := mFs ad (va_up f 0 0)) rfl (fun h1 hh2 => ?_)
    have M3 : mSt G h0 h1 m ad (va_up f 0 0) g := M.put hh2 rfl
    refine g_iload_n C dX3_size_5 1 rfl ?_
    rcases (show what = 0 ∨ what = 1 ∨ (¬ what = 0 ∧ ¬ what = 1) by omega) with e6 | e6 | e6
    · refine g_lookup C dX3_size_6 (tgt := 32) (off := 26) rfl (gRo (by omega) (by omega)) (by rw [e6]; rfl) (by decide) ?_
      refine g_aload_n C dX3_size_32 0 rfl ?_
      refine g_get C dX3_size_33 kcX3 5 q1468 (fun _ _ _ _ h9 => h9) M3.o (Nat.le_of_ble_eq_true rfl) (w := .int (iI (f 5))) rfl ?_
      refine g_iret C E dX3_size_36 rfl ?_
      exact ⟨rI (by grind), M3⟩
    · refine g_lookup C dX3_size_6 (tgt := 37) (off := 31) rfl (gRo (by omega) (by omega)) (by rw [e6]; rfl) (by decide) ?_
      refine g_aload_n C dX3_size_37 0 rfl ?_
      refine g_get C dX3_size_38 kcX3 8 q1471 (fun _ _ _ _ h9 => h9) M3.o (Nat.le_of_ble_eq_true rfl) (w := .int (iI (f 8))) rfl ?_
      rw [show f 8 = 0 from e8]
      refine g_if_eq C dX3_size_41 (tgt := 54) (by decide) (gRo (by decide) (by decide)) (fun _ => ?_) (fun q => absurd (by decide) q)
      refine g_iconst C dX3_size_54 ?_
      refine g_iret C E dX3_size_55 rfl ?_
      exact ⟨rI (by grind), M3⟩
    · refine g_lookup C dX3_size_6 (tgt := 56) (off := 50) rfl (gRo (by omega) (by omega)) (by simp [Op.lookupswitch.offset]; grind) (by decide) ?_
      refine g_iconst C dX3_size_56 ?_
      refine g_iret C E dX3_size_57 rfl ?_
      exact ⟨rI (by grind), M3⟩
  · have hO := hO8 e8
    obtain ⟨hI_, hr, hn, hT, hS_⟩ := id hO
    obtain ⟨hi0, hi1, hi2, hi3, hi4, hi5, hiA, hiR⟩ := id hI_
    obtain ⟨hs1, hs3, hs4, hs5, hs6, hs7, hs8, hs11, hs2⟩ := id hS_
    refine g_aload_n C dX3_size_0 0 rfl ?_
    refine g_iconst C dX3_size_1 ?_
    refine g_put C dX3_size_2 kcX3 0 q1463 (fun _ _ _ _ h9 => h9) M.o rfl (Nat.le_of_ble_eq_true rfl) rfl rfl (Nat.le_of_ble_eq_true rfl) (fs2 := mFs ad (va_up f 0 0)) rfl (fun h4 hh5 => ?_)
    have M6 : mSt G h0 h4 m ad (va_up f 0 0) g := M.put hh5 rfl
    refine g_iload_n C dX3_size_5 1 rfl ?_
    rcases (show what = 0 ∨ what = 1 ∨ (¬ what = 0 ∧ ¬ what = 1) by omega) with e6 | e6 | e6
    · refine g_lookup C dX3_size_6 (tgt := 32) (off := 26) rfl (gRo (by omega) (by omega)) (by rw [e6]; rfl) (by decide) ?_
      refine g_aload_n C dX3_size_32 0 rfl ?_
      refine g_get C dX3_size_33 kcX3 5 q1468 (fun _ _ _ _ h9 => h9) M6.o (Nat.le_of_ble_eq_true rfl) (w := .int (iI (f 5))) rfl ?_
      refine g_iret C E dX3_size_36 rfl ?_
      exact ⟨rI (by grind), M6⟩
    · refine g_lookup C dX3_size_6 (tgt := 37) (off := 31) rfl (gRo (by omega) (by omega)) (by rw [e6]; rfl) (by decide) ?_
      refine g_aload_n C dX3_size_37 0 rfl ?_
      refine g_get C dX3_size_38 kcX3 8 q1471 (fun _ _ _ _ h9 => h9) M6.o (Nat.le_of_ble_eq_true rfl) (w := .int (iI (f 8))) rfl ?_
      rw [show f 8 = 1 from e8]
      refine g_if_eq C dX3_size_41 (tgt := 54) (by decide) (gRo (by decide) (by decide)) (fun q => absurd q (by decide)) (fun _ => ?_)
      refine g_aload_n C dX3_size_44 0 rfl ?_
      refine g_get C dX3_size_45 kcX3 18 q1481 (fun _ _ _ _ h9 => h9) M6.o (Nat.le_of_ble_eq_true rfl) (w := .ref (ad 18)) rfl ?_
      refine g_bipush C dX3_size_48 (by decide) ?_
      refine g_iald C dX3_size_50 (v := g 18 11) M6.a18 (by decide) (by decide) (by decide) rfl ?_
      refine g_goto C dX3_size_51 (tgt := 55) (by decide) ?_
      refine g_iret C E dX3_size_55 rfl ?_
      exact ⟨rI (by grind), M6⟩
    · refine g_lookup C dX3_size_6 (tgt := 56) (off := 50) rfl (gRo (by omega) (by omega)) (by simp [Op.lookupswitch.offset]; grind) (by decide) ?_
      refine g_iconst C dX3_size_56 ?_
      refine g_iret C E dX3_size_57 rfl ?_
      exact ⟨rI (by grind), M6⟩
theorem c_X3_now {G : gG} {h : gH} {h0 : gH} {m : Nat} {ad : Nat → Nat} {f : Nat → Int} {g : Nat → Int → Int} (M : mSt G h0 h m ad f g) (what : Int) (hwhat1 : -2147483648 ≤ what) (hwhat2 : what ≤ 2147483647) (hf8 : f 8 = 0 ∨ f 8 = 1) (hO8 : f 8 = 1 → mOk (g 6) (g 18)) : gC G yX3_now (.code yX3_now cX3_now 3 (some .int)) 1 0 0 [.ref m, .int (iI what)] h (fun r h' => r = some (.int (iI (mAns (mW1 (decide (f 8 = 1) && mIn what 0 9)) (mNow (g 18) what)))) ∧ mSt G h0 h' m ad (mRef f (mW1 (decide (f 8 = 1) && mIn what 0 9))) g) := by
  refine gC.of (by decide) (Nat.le_of_ble_eq_true rfl) rfl ?_
  intro X C E hI
  have C : gCtx G X cX3_now 3 RX3 1 (some .int) := C
  rcases id hf8 with e8 | e8
  · refine g_aload_n C dX3_now_0 0 rfl ?_
    refine g_aload_n C dX3_now_1 0 rfl ?_
    refine g_get C dX3_now_2 kcX3 8 q1471 (fun _ _ _ _ h9 => h9) M.o (Nat.le_of_ble_eq_true rfl) rfl ?_
    rw [show f 8 = 0 from e8]
    refine g_if_eq C dX3_now_5 (tgt := 22) (by decide) (gRo (by decide) (by decide)) (fun _ => ?_) (fun q => absurd (by decide) q)
    refine g_iconst C dX3_now_22 ?_
    refine g_callS C dX3_now_23 lkX3_191 (As := [.int (iI 0)]) (c_X3_unless false) rfl rfl ⟨Nat.le_of_ble_eq_true rfl, Nat.le_of_ble_eq_true rfl⟩ (Nat.le_of_ble_eq_true rfl) ?_
    rintro _ _ ⟨rfl, rfl⟩
    show gW X h 0 0 26 [(0, .ref m), (1, .int (iI what))] [.int (iI 1), .ref m]
    refine g_callV C dX3_now_26 lkX3_156 M.o rfl (As := [.int (iI 1)]) (c_X3_isRefused M 1 (by decide) (by decide)) rfl rfl ⟨Nat.le_of_ble_eq_true rfl, Nat.le_of_ble_eq_true rfl⟩ (Nat.le_of_ble_eq_true rfl) ?_
    rintro _ h1 ⟨rfl, M2⟩
    show gW X h1 0 0 29 [(0, .ref m), (1, .int (iI what))] [.int (iI (gb true))]
    refine g_ifF C dX3_now_29 (tgt := 34) (by decide) (fun q => absurd q (by decide)) (fun q => ?_)
    refine g_iconst C dX3_now_32 ?_
    refine g_iret C E dX3_now_33 rfl ?_
    try rw [e8]
    exact ⟨rfl, M2⟩
  · have hO := hO8 e8
    obtain ⟨hI_, hr, hn, hT, hS_⟩ := id hO
    obtain ⟨hi0, hi1, hi2, hi3, hi4, hi5, hiA, hiR⟩ := id hI_
    obtain ⟨hs1, hs3, hs4, hs5, hs6, hs7, hs8, hs11, hs2⟩ := id hS_
    refine g_aload_n C dX3_now_0 0 rfl ?_
    refine g_aload_n C dX3_now_1 0 rfl ?_
    refine g_get C dX3_now_2 kcX3 8 q1471 (fun _ _ _ _ h9 => h9) M.o (Nat.le_of_ble_eq_true rfl) rfl ?_
    rw [show f 8 = 1 from e8]
    refine g_if_eq C dX3_now_5 (tgt := 22) (by decide) (gRo (by decide) (by decide)) (fun q => absurd q (by decide)) (fun _ => ?_)
    refine g_iload_n C dX3_now_8 1 rfl ?_
    refine g_iconst C dX3_now_9 ?_
    refine g_bipush C dX3_now_10 (by decide) ?_
    refine g_callS C dX3_now_12 lkX3_70 (As := [.int (iI what), .int (iI 0), .int (iI 9)]) (c_X3_in what 0 9 (by omega) (by omega) (by decide) (by decide) (by decide) (by decide)) rfl rfl ⟨Nat.le_of_ble_eq_true rfl, Nat.le_of_ble_eq_true rfl⟩ (Nat.le_of_ble_eq_true rfl) ?_
    rintro _ _ ⟨rfl, rfl⟩
    refine g_ifF C dX3_now_15 (tgt := 22) (by decide) (fun c15 => ?_) (fun c15 => ?_)
    · have fb3 := mIn_f.mp c15
      refine g_iconst C dX3_now_22 ?_
      refine g_callS C dX3_now_23 lkX3_191 (As := [.int (iI 0)]) (c_X3_unless false) rfl rfl ⟨Nat.le_of_ble_eq_true rfl, Nat.le_of_ble_eq_true rfl⟩ (Nat.le_of_ble_eq_true rfl) ?_
      rintro _ _ ⟨rfl, rfl⟩
      show gW X h 0 0 26 [(0, .ref m), (1, .int (iI what))] [.int (iI 1), .ref m]
      refine g_callV C dX3_now_26 lkX3_156 M.o rfl (As := [.int (iI 1)]) (c_X3_isRefused M 1 (by decide) (by decide)) rfl rfl ⟨Nat.le_of_ble_eq_true rfl, Nat.le_of_ble_eq_true rfl⟩ (Nat.le_of_ble_eq_true rfl) ?_
      rintro _ h4 ⟨rfl, M5⟩
      show gW X h4 0 0 29 [(0, .ref m), (1, .int (iI what))] [.int (iI (gb true))]
      refine g_ifF C dX3_now_29 (tgt := 34) (by decide) (fun q => absurd q (by decide)) (fun q => ?_)
      refine g_iconst C dX3_now_32 ?_
      refine g_iret C E dX3_now_33 rfl ?_
      try rw [c15]
      try rw [e8]
      exact ⟨rfl, M5⟩
    · have fb6 := mIn_t.mp c15
      refine g_iconst C dX3_now_18 ?_
      refine g_goto C dX3_now_19 (tgt := 23) (by decide) ?_
      refine g_callS C dX3_now_23 lkX3_191 (As := [.int (iI 1)]) (c_X3_unless true) rfl rfl ⟨Nat.le_of_ble_eq_true rfl, Nat.le_of_ble_eq_true rfl⟩ (Nat.le_of_ble_eq_true rfl) ?_
      rintro _ _ ⟨rfl, rfl⟩
      show gW X h 0 0 26 [(0, .ref m), (1, .int (iI what))] [.int (iI 0), .ref m]
      refine g_callV C dX3_now_26 lkX3_156 M.o rfl (As := [.int (iI 0)]) (c_X3_isRefused M 0 (by decide) (by decide)) rfl rfl ⟨Nat.le_of_ble_eq_true rfl, Nat.le_of_ble_eq_true rfl⟩ (Nat.le_of_ble_eq_true rfl) ?_
      rintro _ h7 ⟨rfl, M8⟩
      show gW X h7 0 0 29 [(0, .ref m), (1, .int (iI what))] [.int (iI (gb false))]
      refine g_ifF C dX3_now_29 (tgt := 34) (by decide) (fun q => ?_) (fun q => absurd q (by decide))
      refine g_aload_n C dX3_now_34 0 rfl ?_
      refine g_callV C dX3_now_35 lkX3_276 M8.o rfl (As := []) (c_X3_isOn M8 hf8 hO8) rfl rfl ⟨Nat.le_of_ble_eq_true rfl, Nat.le_of_ble_eq_true rfl⟩ (Nat.le_of_ble_eq_true rfl) ?_
      rintro _ _ ⟨rfl, rfl⟩
      show gW X h7 0 0 38 [(0, .ref m), (1, .int (iI what))] [.int (iI (gb (mOnB (f 8) (g 18))))]
      refine g_ifT C dX3_now_38 (tgt := 44) (by decide) (fun c38 => ?_) (fun c38 => ?_)
      · have fb9 := mOnB_t c38
        have hrn := hS_.1
        refine g_aload_n C dX3_now_44 0 rfl ?_
        refine g_get C dX3_now_45 kcX3 18 q1481 (fun _ _ _ _ h9 => h9) M8.o (Nat.le_of_ble_eq_true rfl) (w := .ref (ad 18)) rfl ?_
        refine g_iconst C dX3_now_48 ?_
        refine g_iald C dX3_now_49 (v := g 18 1) M8.a18 (by decide) (by decide) (by decide) rfl ?_
        refine g_istore_n C dX3_now_50 (lv' := [(2, .int (iI (g 18 1))), (0, .ref m), (1, .int (iI what))]) 2 rfl (Nat.le_of_ble_eq_true rfl) rfl ?_
        refine g_iload_n C dX3_now_51 2 rfl ?_
        rcases (show what < 0 ∨ 9 < what ∨ what = 0 ∨ what = 1 ∨ what = 2 ∨ what = 3 ∨ what = 4 ∨ what = 5 ∨ what = 6 ∨ what = 7 ∨ what = 8 ∨ what = 9 by omega) with e52 | e52 | e52 | e52 | e52 | e52 | e52 | e52 | e52 | e52 | e52 | e52
        · refine g_tableOut C dX3_now_52 (tgt := 152) (gRo (by omega) (by omega)) (Or.inl e52) (by decide) ?_
          refine g_aload_n C dX3_now_152 1 rfl ?_
          refine g_get C dX3_now_153 kcX3 18 q1481 (fun _ _ _ _ h9 => h9) M8.o (Nat.le_of_ble_eq_true rfl) (w := .ref (ad 18)) rfl ?_
          refine g_iload_n C dX3_now_156 0 rfl ?_
          refine g_iload_n C dX3_now_157 2 rfl ?_
          refine g_iconst C dX3_now_158 ?_
          refine g_isub C dX3_now_159 (v := what - 1) rfl ?_
          refine g_callS C dX3_now_160 lkX3_213 (As := [.int (iI (g 18 1)), .int (iI (what - 1))]) (c_X3_at (g 18 1) (what - 1)) rfl rfl ⟨Nat.le_of_ble_eq_true rfl, Nat.le_of_ble_eq_true rfl⟩ (Nat.le_of_ble_eq_true rfl) ?_
          rintro _ _ ⟨rfl, rfl⟩
          refine g_iald C dX3_now_163 (v := g 18 (112 + 11 * (g 18 1) + (what - 1))) M8.a18 (by decide) (by omega) (by omega) rfl ?_
          refine g_iret C E dX3_now_164 rfl ?_
          try rw [c15]
          try rw [e8]
          exact ⟨rI (show g 18 (112 + 11 * (g 18 1) + (what - 1)) = mNow (g 18) what from by unfold mNow; grind [mOnB]), M8⟩
        · refine g_tableOut C dX3_now_52 (tgt := 152) (gRo (by omega) (by omega)) (Or.inr e52) (by decide) ?_
          refine g_aload_n C dX3_now_152 1 rfl ?_
          refine g_get C dX3_now_153 kcX3 18 q1481 (fun _ _ _ _ h9 => h9) M8.o (Nat.le_of_ble_eq_true rfl) (w := .ref (ad 18)) rfl ?_
          refine g_iload_n C dX3_now_156 0 rfl ?_
          refine g_iload_n C dX3_now_157 2 rfl ?_
          refine g_iconst C dX3_now_158 ?_
          refine g_isub C dX3_now_159 (v := what - 1) rfl ?_
          refine g_callS C dX3_now_160 lkX3_213 (As := [.int (iI (g 18 1)), .int (iI (what - 1))]) (c_X3_at (g 18 1) (what - 1)) rfl rfl ⟨Nat.le_of_ble_eq_true rfl, Nat.le_of_ble_eq_true rfl⟩ (Nat.le_of_ble_eq_true rfl) ?_
          rintro _ _ ⟨rfl, rfl⟩
          refine g_iald C dX3_now_163 (v := g 18 (112 + 11 * (g 18 1) + (what - 1))) M8.a18 (by decide) (by omega) (by omega) rfl ?_
          refine g_iret C E dX3_now_164 rfl ?_
          try rw [c15]
          try rw [e8]
          exact ⟨rI (show g 18 (112 + 11 * (g 18 1) + (what - 1)) = mNow (g 18) what from by unfold mNow; grind [mOnB]), M8⟩
        · refine g_tableIn C dX3_now_52 (tgt := 108) (gRo (by omega) (by omega)) (by omega) (by omega) (by rw [e52]; rfl) (by decide) ?_
          refine g_iload_n C dX3_now_108 0 rfl ?_
          refine g_iret C E dX3_now_109 rfl ?_
          try rw [c15]
          try rw [e8]
          exact ⟨rI (show g 18 1 = mNow (g 18) what from by unfold mNow; grind [mOnB]), M8⟩
        · refine g_tableIn C dX3_now_52 (tgt := 152) (gRo (by omega) (by omega)) (by omega) (by omega) (by rw [e52]; rfl) (by decide) ?_
          refine g_aload_n C dX3_now_152 1 rfl ?_
          refine g_get C dX3_now_153 kcX3 18 q1481 (fun _ _ _ _ h9 => h9) M8.o (Nat.le_of_ble_eq_true rfl) (w := .ref (ad 18)) rfl ?_
          refine g_iload_n C dX3_now_156 0 rfl ?_
          refine g_iload_n C dX3_now_157 2 rfl ?_
          refine g_iconst C dX3_now_158 ?_
          refine g_isub C dX3_now_159 (v := what - 1) rfl ?_
          refine g_callS C dX3_now_160 lkX3_213 (As := [.int (iI (g 18 1)), .int (iI (what - 1))]) (c_X3_at (g 18 1) (what - 1)) rfl rfl ⟨Nat.le_of_ble_eq_true rfl, Nat.le_of_ble_eq_true rfl⟩ (Nat.le_of_ble_eq_true rfl) ?_
          rintro _ _ ⟨rfl, rfl⟩
          refine g_iald C dX3_now_163 (v := g 18 (112 + 11 * (g 18 1) + (what - 1))) M8.a18 (by decide) (by omega) (by omega) rfl ?_
          refine g_iret C E dX3_now_164 rfl ?_
          try rw [c15]
          try rw [e8]
          exact ⟨rI (show g 18 (112 + 11 * (g 18 1) + (what - 1)) = mNow (g 18) what from by unfold mNow; grind [mOnB]), M8⟩
        · refine g_tableIn C dX3_now_52 (tgt := 152) (gRo (by omega) (by omega)) (by omega) (by omega) (by rw [e52]; rfl) (by decide) ?_
          refine g_aload_n C dX3_now_152 1 rfl ?_
          refine g_get C dX3_now_153 kcX3 18 q1481 (fun _ _ _ _ h9 => h9) M8.o (Nat.le_of_ble_eq_true rfl) (w := .ref (ad 18)) rfl ?_
          refine g_iload_n C dX3_now_156 0 rfl ?_
          refine g_iload_n C dX3_now_157 2 rfl ?_
          refine g_iconst C dX3_now_158 ?_
          refine g_isub C dX3_now_159 (v := what - 1) rfl ?_
          refine g_callS C dX3_now_160 lkX3_213 (As := [.int (iI (g 18 1)), .int (iI (what - 1))]) (c_X3_at (g 18 1) (what - 1)) rfl rfl ⟨Nat.le_of_ble_eq_true rfl, Nat.le_of_ble_eq_true rfl⟩ (Nat.le_of_ble_eq_true rfl) ?_
          rintro _ _ ⟨rfl, rfl⟩
          refine g_iald C dX3_now_163 (v := g 18 (112 + 11 * (g 18 1) + (what - 1))) M8.a18 (by decide) (by omega) (by omega) rfl ?_
          refine g_iret C E dX3_now_164 rfl ?_
          try rw [c15]
          try rw [e8]
          exact ⟨rI (show g 18 (112 + 11 * (g 18 1) + (what - 1)) = mNow (g 18) what from by unfold mNow; grind [mOnB]), M8⟩
        · refine g_tableIn C dX3_now_52 (tgt := 152) (gRo (by omega) (by omega)) (by omega) (by omega) (by rw [e52]; rfl) (by decide) ?_
          refine g_aload_n C dX3_now_152 1 rfl ?_
          refine g_get C dX3_now_153 kcX3 18 q1481 (fun _ _ _ _ h9 => h9) M8.o (Nat.le_of_ble_eq_true rfl) (w := .ref (ad 18)) rfl ?_
          refine g_iload_n C dX3_now_156 0 rfl ?_
          refine g_iload_n C dX3_now_157 2 rfl ?_
          refine g_iconst C dX3_now_158 ?_
          refine g_isub C dX3_now_159 (v := what - 1) rfl ?_
          refine g_callS C dX3_now_160 lkX3_213 (As := [.int (iI (g 18 1)), .int (iI (what - 1))]) (c_X3_at (g 18 1) (what - 1)) rfl rfl ⟨Nat.le_of_ble_eq_true rfl, Nat.le_of_ble_eq_true rfl⟩ (Nat.le_of_ble_eq_true rfl) ?_
          rintro _ _ ⟨rfl, rfl⟩
          refine g_iald C dX3_now_163 (v := g 18 (112 + 11 * (g 18 1) + (what - 1))) M8.a18 (by decide) (by omega) (by omega) rfl ?_
          refine g_iret C E dX3_now_164 rfl ?_
          try rw [c15]
          try rw [e8]
          exact ⟨rI (show g 18 (112 + 11 * (g 18 1) + (what - 1)) = mNow (g 18) what from by unfold mNow; grind [mOnB]), M8⟩
        · refine g_tableIn C dX3_now_52 (tgt := 152) (gRo (by omega) (by omega)) (by omega) (by omega) (by rw [e52]; rfl) (by decide) ?_
          refine g_aload_n C dX3_now_152 1 rfl ?_
          refine g_get C dX3_now_153 kcX3 18 q1481 (fun _ _ _ _ h9 => h9) M8.o (Nat.le_of_ble_eq_true rfl) (w := .ref (ad 18)) rfl ?_
          refine g_iload_n C dX3_now_156 0 rfl ?_
          refine g_iload_n C dX3_now_157 2 rfl ?_
          refine g_iconst C dX3_now_158 ?_
          refine g_isub C dX3_now_159 (v := what - 1) rfl ?_
          refine g_callS C dX3_now_160 lkX3_213 (As := [.int (iI (g 18 1)), .int (iI (what - 1))]) (c_X3_at (g 18 1) (what - 1)) rfl rfl ⟨Nat.le_of_ble_eq_true rfl, Nat.le_of_ble_eq_true rfl⟩ (Nat.le_of_ble_eq_true rfl) ?_
          rintro _ _ ⟨rfl, rfl⟩
          refine g_iald C dX3_now_163 (v := g 18 (112 + 11 * (g 18 1) + (what - 1))) M8.a18 (by decide) (by omega) (by omega) rfl ?_
          refine g_iret C E dX3_now_164 rfl ?_
          try rw [c15]
          try rw [e8]
          exact ⟨rI (show g 18 (112 + 11 * (g 18 1) + (what - 1)) = mNow (g 18) what from by unfold mNow; grind [mOnB]), M8⟩
        · refine g_tableIn C dX3_now_52 (tgt := 110) (gRo (by omega) (by omega)) (by omega) (by omega) (by rw [e52]; rfl) (by decide) ?_
          refine g_aload_n C dX3_now_110 1 rfl ?_
          refine g_get C dX3_now_111 kcX3 18 q1481 (fun _ _ _ _ h9 => h9) M8.o (Nat.le_of_ble_eq_true rfl) (w := .ref (ad 18)) rfl ?_
          refine g_iconst C dX3_now_114 ?_
          refine g_iald C dX3_now_115 (v := g 18 3) M8.a18 (by decide) (by decide) (by decide) rfl ?_
          refine g_iret C E dX3_now_116 rfl ?_
          try rw [c15]
          try rw [e8]
          exact ⟨rI (show g 18 3 = mNow (g 18) what from by unfold mNow; grind [mOnB]), M8⟩
        · refine g_tableIn C dX3_now_52 (tgt := 117) (gRo (by omega) (by omega)) (by omega) (by omega) (by rw [e52]; rfl) (by decide) ?_
          refine g_aload_n C dX3_now_117 1 rfl ?_
          refine g_get C dX3_now_118 kcX3 18 q1481 (fun _ _ _ _ h9 => h9) M8.o (Nat.le_of_ble_eq_true rfl) (w := .ref (ad 18)) rfl ?_
          refine g_iconst C dX3_now_121 ?_
          refine g_iald C dX3_now_122 (v := g 18 5) M8.a18 (by decide) (by decide) (by decide) rfl ?_
          refine g_iret C E dX3_now_123 rfl ?_
          try rw [c15]
          try rw [e8]
          exact ⟨rI (show g 18 5 = mNow (g 18) what from by unfold mNow; grind [mOnB]), M8⟩
        · refine g_tableIn C dX3_now_52 (tgt := 124) (gRo (by omega) (by omega)) (by omega) (by omega) (by rw [e52]; rfl) (by decide) ?_
          refine g_aload_n C dX3_now_124 1 rfl ?_
          refine g_get C dX3_now_125 kcX3 18 q1481 (fun _ _ _ _ h9 => h9) M8.o (Nat.le_of_ble_eq_true rfl) (w := .ref (ad 18)) rfl ?_
          refine g_bipush C dX3_now_128 (by decide) ?_
          refine g_iald C dX3_now_130 (v := g 18 6) M8.a18 (by decide) (by decide) (by decide) rfl ?_
          refine g_iret C E dX3_now_131 rfl ?_
          try rw [c15]
          try rw [e8]
          exact ⟨rI (show g 18 6 = mNow (g 18) what from by unfold mNow; grind [mOnB]), M8⟩
        · refine g_tableIn C dX3_now_52 (tgt := 132) (gRo (by omega) (by omega)) (by omega) (by omega) (by rw [e52]; rfl) (by decide) ?_
          refine g_aload_n C dX3_now_132 1 rfl ?_
          refine g_get C dX3_now_133 kcX3 18 q1481 (fun _ _ _ _ h9 => h9) M8.o (Nat.le_of_ble_eq_true rfl) (w := .ref (ad 18)) rfl ?_
          refine g_iload_n C dX3_now_136 0 rfl ?_
          refine g_bipush C dX3_now_137 (by decide) ?_
          refine g_callS C dX3_now_139 lkX3_213 (As := [.int (iI (g 18 1)), .int (iI 7)]) (c_X3_at (g 18 1) 7) rfl rfl ⟨Nat.le_of_ble_eq_true rfl, Nat.le_of_ble_eq_true rfl⟩ (Nat.le_of_ble_eq_true rfl) ?_
          rintro _ _ ⟨rfl, rfl⟩
          refine g_iald C dX3_now_142 (v := g 18 (112 + 11 * (g 18 1) + 7)) M8.a18 (by decide) (by omega) (by omega) rfl ?_
          refine g_iret C E dX3_now_143 rfl ?_
          try rw [c15]
          try rw [e8]
          exact ⟨rI (show g 18 (112 + 11 * (g 18 1) + 7) = mNow (g 18) what from by unfold mNow; grind [mOnB]), M8⟩
        · refine g_tableIn C dX3_now_52 (tgt := 144) (gRo (by omega) (by omega)) (by omega) (by omega) (by rw [e52]; rfl) (by decide) ?_
          refine g_aload_n C dX3_now_144 1 rfl ?_
          refine g_get C dX3_now_145 kcX3 18 q1481 (fun _ _ _ _ h9 => h9) M8.o (Nat.le_of_ble_eq_true rfl) (w := .ref (ad 18)) rfl ?_
          refine g_bipush C dX3_now_148 (by decide) ?_
          refine g_iald C dX3_now_150 (v := g 18 7) M8.a18 (by decide) (by decide) (by decide) rfl ?_
          refine g_iret C E dX3_now_151 rfl ?_
          try rw [c15]
          try rw [e8]
          exact ⟨rI (show g 18 7 = mNow (g 18) what from by unfold mNow; grind [mOnB]), M8⟩
      · refine g_bipush C dX3_now_41 (by decide) ?_
        refine g_iret C E dX3_now_43 rfl ?_
        try rw [c15]
        try rw [e8]
        exact ⟨rI (show -2 = mNow (g 18) what from by unfold mNow; grind [mOnB]), M8⟩
theorem c_X3_onesOf {G : gG} {h : gH}  (x : Int) (hx1 : -2147483648 ≤ x) (hx2 : x ≤ 2147483647) : gC G yX3_onesOf (.code yX3_onesOf cX3_onesOf 1 (some .int)) 0 0 0 [.int (iI x)] h (fun r h' => r = some (.int (iI (mOnes x))) ∧ h = h') := by
  refine gC.of (by decide) (Nat.le_of_ble_eq_true rfl) rfl ?_
  intro X C E hI
  have C : gCtx G X cX3_onesOf 1 RX3 0 (some .int) := C
  refine g_iload_n C dX3_onesOf_0 0 rfl ?_
  refine g_iconst C dX3_onesOf_1 ?_
  refine g_iand C dX3_onesOf_2 (v := x % 2) (iI_and 1 (by decide) (by decide)) ?_
  refine g_iload_n C dX3_onesOf_3 0 rfl ?_
  refine g_iconst C dX3_onesOf_4 ?_
  refine g_ishr C dX3_onesOf_5 (v := x / 2) (iI_shr (gRo (by omega) (by omega)) 1 (by decide)) ?_
  refine g_iconst C dX3_onesOf_6 ?_
  refine g_iand C dX3_onesOf_7 (v := (x / 2) % 2) (iI_and 1 (by decide) (by decide)) ?_
  refine g_iadd C dX3_onesOf_8 (v := (x % 2) + ((x / 2) % 2)) rfl ?_
  refine g_iload_n C dX3_onesOf_9 0 rfl ?_
  refine g_iconst C dX3_onesOf_10 ?_
  refine g_ishr C dX3_onesOf_11 (v := x / 4) (iI_shr (gRo (by omega) (by omega)) 2 (by decide)) ?_
  refine g_iconst C dX3_onesOf_12 ?_
  refine g_iand C dX3_onesOf_13 (v := (x / 4) % 2) (iI_and 1 (by decide) (by decide)) ?_
  refine g_iadd C dX3_onesOf_14 (v := ((x % 2) + ((x / 2) % 2)) + ((x / 4) % 2)) rfl ?_
  refine g_iret C E dX3_onesOf_15 rfl ?_
  exact ⟨rfl, rfl⟩
theorem c_X3_tried {G : gG} {h : gH} {h0 : gH} {m : Nat} {ad : Nat → Nat} {f : Nat → Int} {g : Nat → Int → Int} (M : mSt G h0 h m ad f g) (level : Int) (what : Int) (hlevel1 : -2147483648 ≤ level) (hlevel2 : level ≤ 2147483647) (hwhat1 : -2147483648 ≤ what) (hwhat2 : what ≤ 2147483647) (hf8 : f 8 = 0 ∨ f 8 = 1) (hO8 : f 8 = 1 → mOk (g 6) (g 18)) : gC G yX3_tried (.code yX3_tried cX3_tried 4 (some .int)) 1 0 0 [.ref m, .int (iI level), .int (iI what)] h (fun r h' => r = some (.int (iI (mAns (mW2 (decide (f 8 = 1) && mIn what 0 3) (mIn level 0 24)) (mTried (g 18) level what)))) ∧ mSt G h0 h' m ad (mRef f (mW2 (decide (f 8 = 1) && mIn what 0 3) (mIn level 0 24))) g) := by
  refine gC.of (by decide) (Nat.le_of_ble_eq_true rfl) rfl ?_
  intro X C E hI
  have C : gCtx G X cX3_tried 4 RX3 1 (some .int) := C
  rcases id hf8 with e8 | e8
  · refine g_aload_n C dX3_tried_0 0 rfl ?_
    refine g_aload_n C dX3_tried_1 0 rfl ?_
    refine g_get C dX3_tried_2 kcX3 8 q1471 (fun _ _ _ _ h9 => h9) M.o (Nat.le_of_ble_eq_true rfl) rfl ?_
    rw [show f 8 = 0 from e8]
    refine g_if_eq C dX3_tried_5 (tgt := 21) (by decide) (gRo (by decide) (by decide)) (fun _ => ?_) (fun q => absurd (by decide) q)
    refine g_iconst C dX3_tried_21 ?_
    refine g_iload_n C dX3_tried_22 1 rfl ?_
    refine g_iconst C dX3_tried_23 ?_
    refine g_bipush C dX3_tried_24 (by decide) ?_
    refine g_callS C dX3_tried_26 lkX3_70 (As := [.int (iI level), .int (iI 0), .int (iI 24)]) (c_X3_in level 0 24 (by omega) (by omega) (by decide) (by decide) (by decide) (by decide)) rfl rfl ⟨Nat.le_of_ble_eq_true rfl, Nat.le_of_ble_eq_true rfl⟩ (Nat.le_of_ble_eq_true rfl) ?_
    rintro _ _ ⟨rfl, rfl⟩
    cases hb1 : mIn level 0 24
    · have fb2 := mIn_f.mp hb1
      refine g_callS C dX3_tried_29 lkX3_195 (As := [.int (iI 0), .int (iI (gb false))]) (c_X3_unless_2 false false) rfl rfl ⟨Nat.le_of_ble_eq_true rfl, Nat.le_of_ble_eq_true rfl⟩ (Nat.le_of_ble_eq_true rfl) ?_
      rintro _ _ ⟨rfl, rfl⟩
      show gW X h 0 0 32 [(0, .ref m), (1, .int (iI level)), (2, .int (iI what))] [.int (iI 1), .ref m]
      refine g_callV C dX3_tried_32 lkX3_156 M.o rfl (As := [.int (iI 1)]) (c_X3_isRefused M 1 (by decide) (by decide)) rfl rfl ⟨Nat.le_of_ble_eq_true rfl, Nat.le_of_ble_eq_true rfl⟩ (Nat.le_of_ble_eq_true rfl) ?_
      rintro _ h3 ⟨rfl, M4⟩
      show gW X h3 0 0 35 [(0, .ref m), (1, .int (iI level)), (2, .int (iI what))] [.int (iI (gb true))]
      refine g_ifF C dX3_tried_35 (tgt := 40) (by decide) (fun q => absurd q (by decide)) (fun q => ?_)
      refine g_iconst C dX3_tried_38 ?_
      refine g_iret C E dX3_tried_39 rfl ?_
      try rw [hb1]
      try rw [e8]
      exact ⟨rfl, M4⟩
    · have fb5 := mIn_t.mp hb1
      refine g_callS C dX3_tried_29 lkX3_195 (As := [.int (iI 0), .int (iI (gb true))]) (c_X3_unless_2 false true) rfl rfl ⟨Nat.le_of_ble_eq_true rfl, Nat.le_of_ble_eq_true rfl⟩ (Nat.le_of_ble_eq_true rfl) ?_
      rintro _ _ ⟨rfl, rfl⟩
      show gW X h 0 0 32 [(0, .ref m), (1, .int (iI level)), (2, .int (iI what))] [.int (iI 1), .ref m]
      refine g_callV C dX3_tried_32 lkX3_156 M.o rfl (As := [.int (iI 1)]) (c_X3_isRefused M 1 (by decide) (by decide)) rfl rfl ⟨Nat.le_of_ble_eq_true rfl, Nat.le_of_ble_eq_true rfl⟩ (Nat.le_of_ble_eq_true rfl) ?_
      rintro _ h6 ⟨rfl, M7⟩
      show gW X h6 0 0 35 [(0, .ref m), (1, .int (iI level)), (2, .int (iI what))] [.int (iI (gb true))]
      refine g_ifF C dX3_tried_35 (tgt := 40) (by decide) (fun q => absurd q (by decide)) (fun q => ?_)
      refine g_iconst C dX3_tried_38 ?_
      refine g_iret C E dX3_tried_39 rfl ?_
      try rw [hb1]
      try rw [e8]
      exact ⟨rfl, M7⟩
  · have hO := hO8 e8
    obtain ⟨hI_, hr, hn, hT, hS_⟩ := id hO
    obtain ⟨hi0, hi1, hi2, hi3, hi4, hi5, hiA, hiR⟩ := id hI_
    obtain ⟨hs1, hs3, hs4, hs5, hs6, hs7, hs8, hs11, hs2⟩ := id hS_
    refine g_aload_n C dX3_tried_0 0 rfl ?_
    refine g_aload_n C dX3_tried_1 0 rfl ?_
    refine g_get C dX3_tried_2 kcX3 8 q1471 (fun _ _ _ _ h9 => h9) M.o (Nat.le_of_ble_eq_true rfl) rfl ?_
    rw [show f 8 = 1 from e8]
    refine g_if_eq C dX3_tried_5 (tgt := 21) (by decide) (gRo (by decide) (by decide)) (fun q => absurd q (by decide)) (fun _ => ?_)
    refine g_iload_n C dX3_tried_8 2 rfl ?_
    refine g_iconst C dX3_tried_9 ?_
    refine g_iconst C dX3_tried_10 ?_
    refine g_callS C dX3_tried_11 lkX3_70 (As := [.int (iI what), .int (iI 0), .int (iI 3)]) (c_X3_in what 0 3 (by omega) (by omega) (by decide) (by decide) (by decide) (by decide)) rfl rfl ⟨Nat.le_of_ble_eq_true rfl, Nat.le_of_ble_eq_true rfl⟩ (Nat.le_of_ble_eq_true rfl) ?_
    rintro _ _ ⟨rfl, rfl⟩
    refine g_ifF C dX3_tried_14 (tgt := 21) (by decide) (fun c14 => ?_) (fun c14 => ?_)
    · have fb8 := mIn_f.mp c14
      refine g_iconst C dX3_tried_21 ?_
      refine g_iload_n C dX3_tried_22 1 rfl ?_
      refine g_iconst C dX3_tried_23 ?_
      refine g_bipush C dX3_tried_24 (by decide) ?_
      refine g_callS C dX3_tried_26 lkX3_70 (As := [.int (iI level), .int (iI 0), .int (iI 24)]) (c_X3_in level 0 24 (by omega) (by omega) (by decide) (by decide) (by decide) (by decide)) rfl rfl ⟨Nat.le_of_ble_eq_true rfl, Nat.le_of_ble_eq_true rfl⟩ (Nat.le_of_ble_eq_true rfl) ?_
      rintro _ _ ⟨rfl, rfl⟩
      cases hb9 : mIn level 0 24
      · have fb10 := mIn_f.mp hb9
        refine g_callS C dX3_tried_29 lkX3_195 (As := [.int (iI 0), .int (iI (gb false))]) (c_X3_unless_2 false false) rfl rfl ⟨Nat.le_of_ble_eq_true rfl, Nat.le_of_ble_eq_true rfl⟩ (Nat.le_of_ble_eq_true rfl) ?_
        rintro _ _ ⟨rfl, rfl⟩
        show gW X h 0 0 32 [(0, .ref m), (1, .int (iI level)), (2, .int (iI what))] [.int (iI 1), .ref m]
        refine g_callV C dX3_tried_32 lkX3_156 M.o rfl (As := [.int (iI 1)]) (c_X3_isRefused M 1 (by decide) (by decide)) rfl rfl ⟨Nat.le_of_ble_eq_true rfl, Nat.le_of_ble_eq_true rfl⟩ (Nat.le_of_ble_eq_true rfl) ?_
        rintro _ h11 ⟨rfl, M12⟩
        show gW X h11 0 0 35 [(0, .ref m), (1, .int (iI level)), (2, .int (iI what))] [.int (iI (gb true))]
        refine g_ifF C dX3_tried_35 (tgt := 40) (by decide) (fun q => absurd q (by decide)) (fun q => ?_)
        refine g_iconst C dX3_tried_38 ?_
        refine g_iret C E dX3_tried_39 rfl ?_
        try rw [c14]
        try rw [hb9]
        try rw [e8]
        exact ⟨rfl, M12⟩
      · have fb13 := mIn_t.mp hb9
        refine g_callS C dX3_tried_29 lkX3_195 (As := [.int (iI 0), .int (iI (gb true))]) (c_X3_unless_2 false true) rfl rfl ⟨Nat.le_of_ble_eq_true rfl, Nat.le_of_ble_eq_true rfl⟩ (Nat.le_of_ble_eq_true rfl) ?_
        rintro _ _ ⟨rfl, rfl⟩
        show gW X h 0 0 32 [(0, .ref m), (1, .int (iI level)), (2, .int (iI what))] [.int (iI 1), .ref m]
        refine g_callV C dX3_tried_32 lkX3_156 M.o rfl (As := [.int (iI 1)]) (c_X3_isRefused M 1 (by decide) (by decide)) rfl rfl ⟨Nat.le_of_ble_eq_true rfl, Nat.le_of_ble_eq_true rfl⟩ (Nat.le_of_ble_eq_true rfl) ?_
        rintro _ h14 ⟨rfl, M15⟩
        show gW X h14 0 0 35 [(0, .ref m), (1, .int (iI level)), (2, .int (iI what))] [.int (iI (gb true))]
        refine g_ifF C dX3_tried_35 (tgt := 40) (by decide) (fun q => absurd q (by decide)) (fun q => ?_)
        refine g_iconst C dX3_tried_38 ?_
        refine g_iret C E dX3_tried_39 rfl ?_
        try rw [c14]
        try rw [hb9]
        try rw [e8]
        exact ⟨rfl, M15⟩
    · have fb16 := mIn_t.mp c14
      refine g_iconst C dX3_tried_17 ?_
      refine g_goto C dX3_tried_18 (tgt := 22) (by decide) ?_
      refine g_iload_n C dX3_tried_22 1 rfl ?_
      refine g_iconst C dX3_tried_23 ?_
      refine g_bipush C dX3_tried_24 (by decide) ?_
      refine g_callS C dX3_tried_26 lkX3_70 (As := [.int (iI level), .int (iI 0), .int (iI 24)]) (c_X3_in level 0 24 (by omega) (by omega) (by decide) (by decide) (by decide) (by decide)) rfl rfl ⟨Nat.le_of_ble_eq_true rfl, Nat.le_of_ble_eq_true rfl⟩ (Nat.le_of_ble_eq_true rfl) ?_
      rintro _ _ ⟨rfl, rfl⟩
      cases hb17 : mIn level 0 24
      · have fb18 := mIn_f.mp hb17
        refine g_callS C dX3_tried_29 lkX3_195 (As := [.int (iI 1), .int (iI (gb false))]) (c_X3_unless_2 true false) rfl rfl ⟨Nat.le_of_ble_eq_true rfl, Nat.le_of_ble_eq_true rfl⟩ (Nat.le_of_ble_eq_true rfl) ?_
        rintro _ _ ⟨rfl, rfl⟩
        show gW X h 0 0 32 [(0, .ref m), (1, .int (iI level)), (2, .int (iI what))] [.int (iI 2), .ref m]
        refine g_callV C dX3_tried_32 lkX3_156 M.o rfl (As := [.int (iI 2)]) (c_X3_isRefused M 2 (by decide) (by decide)) rfl rfl ⟨Nat.le_of_ble_eq_true rfl, Nat.le_of_ble_eq_true rfl⟩ (Nat.le_of_ble_eq_true rfl) ?_
        rintro _ h19 ⟨rfl, M20⟩
        show gW X h19 0 0 35 [(0, .ref m), (1, .int (iI level)), (2, .int (iI what))] [.int (iI (gb true))]
        refine g_ifF C dX3_tried_35 (tgt := 40) (by decide) (fun q => absurd q (by decide)) (fun q => ?_)
        refine g_iconst C dX3_tried_38 ?_
        refine g_iret C E dX3_tried_39 rfl ?_
        try rw [c14]
        try rw [hb17]
        try rw [e8]
        exact ⟨rfl, M20⟩
      · have fb21 := mIn_t.mp hb17
        refine g_callS C dX3_tried_29 lkX3_195 (As := [.int (iI 1), .int (iI (gb true))]) (c_X3_unless_2 true true) rfl rfl ⟨Nat.le_of_ble_eq_true rfl, Nat.le_of_ble_eq_true rfl⟩ (Nat.le_of_ble_eq_true rfl) ?_
        rintro _ _ ⟨rfl, rfl⟩
        show gW X h 0 0 32 [(0, .ref m), (1, .int (iI level)), (2, .int (iI what))] [.int (iI 0), .ref m]
        refine g_callV C dX3_tried_32 lkX3_156 M.o rfl (As := [.int (iI 0)]) (c_X3_isRefused M 0 (by decide) (by decide)) rfl rfl ⟨Nat.le_of_ble_eq_true rfl, Nat.le_of_ble_eq_true rfl⟩ (Nat.le_of_ble_eq_true rfl) ?_
        rintro _ h22 ⟨rfl, M23⟩
        show gW X h22 0 0 35 [(0, .ref m), (1, .int (iI level)), (2, .int (iI what))] [.int (iI (gb false))]
        refine g_ifF C dX3_tried_35 (tgt := 40) (by decide) (fun q => ?_) (fun q => absurd q (by decide))
        refine g_aload_n C dX3_tried_40 0 rfl ?_
        refine g_callV C dX3_tried_41 lkX3_276 M23.o rfl (As := []) (c_X3_isOn M23 hf8 hO8) rfl rfl ⟨Nat.le_of_ble_eq_true rfl, Nat.le_of_ble_eq_true rfl⟩ (Nat.le_of_ble_eq_true rfl) ?_
        rintro _ _ ⟨rfl, rfl⟩
        show gW X h22 0 0 44 [(0, .ref m), (1, .int (iI level)), (2, .int (iI what))] [.int (iI (gb (mOnB (f 8) (g 18))))]
        refine g_ifT C dX3_tried_44 (tgt := 50) (by decide) (fun c44 => ?_) (fun c44 => ?_)
        · have fb24 := mOnB_t c44
          refine g_aload_n C dX3_tried_50 0 rfl ?_
          refine g_get C dX3_tried_51 kcX3 18 q1481 (fun _ _ _ _ h9 => h9) M23.o (Nat.le_of_ble_eq_true rfl) (w := .ref (ad 18)) rfl ?_
          refine g_iload_n C dX3_tried_54 1 rfl ?_
          refine g_iload_n C dX3_tried_55 2 rfl ?_
          refine g_callS C dX3_tried_56 lkX3_260 (As := [.int (iI level), .int (iI what)]) (c_X3_countAt level what) rfl rfl ⟨Nat.le_of_ble_eq_true rfl, Nat.le_of_ble_eq_true rfl⟩ (Nat.le_of_ble_eq_true rfl) ?_
          rintro _ _ ⟨rfl, rfl⟩
          refine g_iald C dX3_tried_59 (v := g 18 (12 + 4 * level + what)) M23.a18 (by decide) (by omega) (by omega) rfl ?_
          refine g_istore_n C dX3_tried_60 (lv' := [(3, .int (iI (g 18 (12 + 4 * level + what)))), (0, .ref m), (1, .int (iI level)), (2, .int (iI what))]) 3 rfl (Nat.le_of_ble_eq_true rfl) rfl ?_
          refine g_iload_n C dX3_tried_61 3 rfl ?_
          refine g_iconst C dX3_tried_62 ?_
          refine g_icmp_ne C dX3_tried_63 (tgt := 73) (by decide) (gRo (by omega) (by omega)) (gRo (by decide) (by decide)) (fun c63 => ?_) (fun c63 => ?_)
          · refine g_iload_n C dX3_tried_73 0 rfl ?_
            refine g_iret C E dX3_tried_74 rfl ?_
            try rw [c14]
            try rw [hb17]
            try rw [e8]
            exact ⟨rI (show g 18 (12 + 4 * level + what) = mTried (g 18) level what from by unfold mTried; grind [mOnB]), M23⟩
          · refine g_iload_n C dX3_tried_66 0 rfl ?_
            refine g_callS C dX3_tried_67 lkX3_270 (As := [.int (iI (g 18 (12 + 4 * level + what)))]) (c_X3_onesOf (g 18 (12 + 4 * level + what)) (hr _).1 (hr _).2) rfl rfl ⟨Nat.le_of_ble_eq_true rfl, Nat.le_of_ble_eq_true rfl⟩ (Nat.le_of_ble_eq_true rfl) ?_
            rintro _ _ ⟨rfl, rfl⟩
            refine g_goto C dX3_tried_70 (tgt := 74) (by decide) ?_
            refine g_iret C E dX3_tried_74 rfl ?_
            try rw [c14]
            try rw [hb17]
            try rw [e8]
            exact ⟨rI (show mOnes (g 18 (12 + 4 * level + what)) = mTried (g 18) level what from by unfold mTried; grind [mOnB]), M23⟩
        · refine g_bipush C dX3_tried_47 (by decide) ?_
          refine g_iret C E dX3_tried_49 rfl ?_
          try rw [c14]
          try rw [hb17]
          try rw [e8]
          exact ⟨rI (show -2 = mTried (g 18) level what from by unfold mTried; grind [mOnB]), M23⟩
