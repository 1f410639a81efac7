/-! THE REFERENCE, walks 4 -/
set_option maxRecDepth 100000
theorem lkX3_333 : gLkV RX3 333 yX3_shiftOf cX3_shiftOf 6 (some .int) 3 := ⟨⟨q1967, q1969, qs104, q111, q1970⟩, ⟨by decide, by decide⟩, by decide +kernel⟩
theorem lkX3_205 : gLkV RX3 205 yX3_leastOf cX3_leastOf 6 (some .int) 4 := ⟨⟨q1742, q1744, qs79, q111, q1745⟩, ⟨by decide, by decide⟩, by decide +kernel⟩
theorem lkX3_209 : gLkV RX3 209 yX3_ownOf cX3_ownOf 4 (some .int) 3 := ⟨⟨q1746, q1748, qs80, q111, q1749⟩, ⟨by decide, by decide⟩, by decide +kernel⟩
theorem c_X3_shiftOf_ {G : gG} {h : gH} {h0 : gH} {m : Nat} {ad : Nat → Nat} {f : Nat → Int} {g : Nat → Int → Int} (M : mSt G h0 h m ad f g) (route : Int) (ear : Int) (tone : Int) (hO : mOk (g 6) (g 18)) (hrt : 0 ≤ route ∧ route ≤ 1) (he : 0 ≤ ear ∧ ear ≤ 1) (ht : 0 ≤ tone ∧ tone < g 6 0) (hf25 : f 25 = 0 ∨ f 25 = 1) (he24 : mEOk (g 24)) : gC G yX3_shiftOf (.code yX3_shiftOf cX3_shiftOf 6 (some .int)) 3 0 0 [.ref m, .int (iI route), .int (iI ear), .int (iI tone)] h (fun r h' => r = some (.int (iI (mShift (g 6) (g 18) (g 24) (f 25) route ear tone))) ∧ h = h') := by
  refine gC.of (by decide) (Nat.le_of_ble_eq_true rfl) rfl ?_
  intro X C E hI
  have C : gCtx G X cX3_shiftOf 6 RX3 3 (some .int) := C
  obtain ⟨hI_, hr, hn, hT, hS_⟩ := id hO
  obtain ⟨hi0, hi1, hi2, hi3, hi4, hi5, hiA, hiR⟩ := id hI_
  obtain ⟨hs1, hs3, hs4, hs5, hs6, hs7, hs8, hs11, hs2⟩ := id hS_
  refine g_aload_n C dX3_shiftOf_0 0 rfl ?_
  refine g_iload_n C dX3_shiftOf_1 1 rfl ?_
  refine g_iload_n C dX3_shiftOf_2 2 rfl ?_
  refine g_iload_n C dX3_shiftOf_3 3 rfl ?_
  refine g_callV C dX3_shiftOf_4 lkX3_303 M.o rfl (As := [.int (iI route), .int (iI ear), .int (iI tone)]) (c_X3_toldOf M route ear tone hO (by omega) (by omega) (by omega)) rfl rfl ⟨Nat.le_of_ble_eq_true rfl, Nat.le_of_ble_eq_true rfl⟩ (Nat.le_of_ble_eq_true rfl) ?_
  rintro _ _ ⟨rfl, rfl⟩
  have b1 := mTold_b hO (route := route) (ear := ear) (tone := tone) (by omega) (by omega) (by omega)
  refine g_istore C dX3_shiftOf_7 (lv' := [(4, .int (iI (mTold (g 6) (g 18) route ear tone))), (0, .ref m), (1, .int (iI route)), (2, .int (iI ear)), (3, .int (iI tone))]) (Nat.le_of_ble_eq_true rfl) rfl ?_
  refine g_aload_n C dX3_shiftOf_9 1 rfl ?_
  refine g_get C dX3_shiftOf_10 kcX3 25 q1488 (fun _ _ _ _ h9 => h9) M.o (Nat.le_of_ble_eq_true rfl) rfl ?_
  refine g_if_eq C dX3_shiftOf_13 (tgt := 31) (by decide) (gRo (by omega) (by omega)) (fun c13 => ?_) (fun c13 => ?_)
  · refine g_bipush C dX3_shiftOf_31 (by decide) ?_
    refine g_istore C dX3_shiftOf_33 (lv' := [(5, .int (iI (-2))), (4, .int (iI (mTold (g 6) (g 18) route ear tone))), (0, .ref m), (1, .int (iI route)), (2, .int (iI ear)), (3, .int (iI tone))]) (Nat.le_of_ble_eq_true rfl) rfl ?_
    refine g_iload C dX3_shiftOf_35 1 rfl ?_
    refine g_if_lt C dX3_shiftOf_37 (tgt := 45) (by decide) (gRo (by omega) (by omega)) (fun c37 => ?_) (fun c37 => ?_)
    · refine g_bipush C dX3_shiftOf_45 (by decide) ?_
      refine g_goto C dX3_shiftOf_47 (tgt := 58) (by decide) ?_
      refine g_iret C E dX3_shiftOf_58 rfl ?_
      exact ⟨rI (by unfold mShift; grind), rfl⟩
    · refine g_iload C dX3_shiftOf_40 0 rfl ?_
      refine g_if_ge C dX3_shiftOf_42 (tgt := 50) (by decide) (gRo (by decide) (by decide)) (fun q => absurd q (by decide)) (fun _ => ?_)
      refine g_bipush C dX3_shiftOf_45 (by decide) ?_
      refine g_goto C dX3_shiftOf_47 (tgt := 58) (by decide) ?_
      refine g_iret C E dX3_shiftOf_58 rfl ?_
      exact ⟨rI (by unfold mShift; grind), rfl⟩
  · refine g_aload_n C dX3_shiftOf_16 1 rfl ?_
    refine g_get C dX3_shiftOf_17 kcX3 24 q1487 (fun _ _ _ _ h9 => h9) M.o (Nat.le_of_ble_eq_true rfl) rfl ?_
    refine g_aload_n C dX3_shiftOf_20 1 rfl ?_
    refine g_iload_n C dX3_shiftOf_21 2 rfl ?_
    refine g_iload_n C dX3_shiftOf_22 3 rfl ?_
    refine g_iload_n C dX3_shiftOf_23 4 rfl ?_
    refine g_callV C dX3_shiftOf_24 lkX3_226 M.o rfl (As := [.int (iI route), .int (iI ear), .int (iI tone)]) (c_X3_plain M route ear tone) rfl rfl ⟨Nat.le_of_ble_eq_true rfl, Nat.le_of_ble_eq_true rfl⟩ (Nat.le_of_ble_eq_true rfl) ?_
    rintro _ _ ⟨rfl, rfl⟩
    have b2 := mPlain_b hO.1 (route := route) (ear := ear) (tone := tone) (by omega) (by omega) (by omega)
    refine g_iald C dX3_shiftOf_27 (v := g 24 (mPlain (g 6) route ear tone)) M.a24 (by decide) (by omega) (by omega) rfl ?_
    refine g_goto C dX3_shiftOf_28 (tgt := 33) (by decide) ?_
    refine g_istore C dX3_shiftOf_33 (lv' := [(5, .int (iI (g 24 (mPlain (g 6) route ear tone)))), (4, .int (iI (mTold (g 6) (g 18) route ear tone))), (0, .ref m), (1, .int (iI route)), (2, .int (iI ear)), (3, .int (iI tone))]) (Nat.le_of_ble_eq_true rfl) rfl ?_
    refine g_iload C dX3_shiftOf_35 1 rfl ?_
    refine g_if_lt C dX3_shiftOf_37 (tgt := 45) (by decide) (gRo (by omega) (by omega)) (fun c37 => ?_) (fun c37 => ?_)
    · refine g_bipush C dX3_shiftOf_45 (by decide) ?_
      refine g_goto C dX3_shiftOf_47 (tgt := 58) (by decide) ?_
      refine g_iret C E dX3_shiftOf_58 rfl ?_
      exact ⟨rI (by unfold mShift; grind), rfl⟩
    · refine g_iload C dX3_shiftOf_40 0 rfl ?_
      refine g_if_ge C dX3_shiftOf_42 (tgt := 50) (by decide) (mE_R he24 _) (fun c42 => ?_) (fun c42 => ?_)
      · refine g_bipush C dX3_shiftOf_50 (by decide) ?_
        refine g_iload C dX3_shiftOf_52 1 rfl ?_
        refine g_iadd C dX3_shiftOf_54 (v := 100 + mTold (g 6) (g 18) route ear tone) rfl ?_
        refine g_iload C dX3_shiftOf_55 0 rfl ?_
        refine g_isub C dX3_shiftOf_57 (v := 100 + mTold (g 6) (g 18) route ear tone - (g 24 (mPlain (g 6) route ear tone))) rfl ?_
        refine g_iret C E dX3_shiftOf_58 rfl ?_
        exact ⟨rI (by unfold mShift; grind), rfl⟩
      · refine g_bipush C dX3_shiftOf_45 (by decide) ?_
        refine g_goto C dX3_shiftOf_47 (tgt := 58) (by decide) ?_
        refine g_iret C E dX3_shiftOf_58 rfl ?_
        exact ⟨rI (by unfold mShift; grind), rfl⟩
theorem c_X3_shift {G : gG} {h : gH} {h0 : gH} {m : Nat} {ad : Nat → Nat} {f : Nat → Int} {g : Nat → Int → Int} (M : mSt G h0 h m ad f g) (route : Int) (ear : Int) (tone : Int) (hroute1 : -2147483648 ≤ route) (hroute2 : route ≤ 2147483647) (hear1 : -2147483648 ≤ ear) (hear2 : ear ≤ 2147483647) (htone1 : -2147483648 ≤ tone) (htone2 : tone ≤ 2147483647) (hf8 : f 8 = 0 ∨ f 8 = 1) (hO8 : f 8 = 1 → mOk (g 6) (g 18)) (hf25 : f 25 = 0 ∨ f 25 = 1) (he24 : mEOk (g 24)) : gC G yX3_shift (.code yX3_shift cX3_shift 4 (some .int)) 4 0 0 [.ref m, .int (iI route), .int (iI ear), .int (iI tone)] h (fun r h' => r = some (.int (iI (mAns (mW1 (mOne (f 8) (g 6) route ear tone)) (mShift (g 6) (g 18) (g 24) (f 25) route ear tone)))) ∧ mSt G h0 h' m ad (mRef f (mW1 (mOne (f 8) (g 6) route ear tone))) g) := by
  refine gC.of (by decide) (Nat.le_of_ble_eq_true rfl) rfl ?_
  intro X C E hI
  have C : gCtx G X cX3_shift 4 RX3 4 (some .int) := C
  refine g_aload_n C dX3_shift_0 0 rfl ?_
  refine g_aload_n C dX3_shift_1 0 rfl ?_
  refine g_iload_n C dX3_shift_2 1 rfl ?_
  refine g_iload_n C dX3_shift_3 2 rfl ?_
  refine g_iload_n C dX3_shift_4 3 rfl ?_
  refine g_callV C dX3_shift_5 lkX3_188 M.o rfl (As := [.int (iI route), .int (iI ear), .int (iI tone)]) (c_X3_isOne M route ear tone (by omega) (by omega) (by omega) (by omega) (by omega) (by omega) hf8 hO8) rfl rfl ⟨Nat.le_of_ble_eq_true rfl, Nat.le_of_ble_eq_true rfl⟩ (Nat.le_of_ble_eq_true rfl) ?_
  rintro _ _ ⟨rfl, rfl⟩
  cases hb1 : mOne (f 8) (g 6) route ear tone
  · refine g_callS C dX3_shift_8 lkX3_191 (As := [.int (iI (gb false))]) (c_X3_unless false) rfl rfl ⟨Nat.le_of_ble_eq_true rfl, Nat.le_of_ble_eq_true rfl⟩ (Nat.le_of_ble_eq_true rfl) ?_
    rintro _ _ ⟨rfl, rfl⟩
    show gW X h 0 0 11 [(0, .ref m), (1, .int (iI route)), (2, .int (iI ear)), (3, .int (iI tone))] [.int (iI 1), .ref m]
    refine g_callV C dX3_shift_11 lkX3_156 M.o rfl (As := [.int (iI 1)]) (c_X3_isRefused M 1 (by decide) (by decide)) rfl rfl ⟨Nat.le_of_ble_eq_true rfl, Nat.le_of_ble_eq_true rfl⟩ (Nat.le_of_ble_eq_true rfl) ?_
    rintro _ h2 ⟨rfl, M3⟩
    show gW X h2 0 0 14 [(0, .ref m), (1, .int (iI route)), (2, .int (iI ear)), (3, .int (iI tone))] [.int (iI (gb true))]
    refine g_ifF C dX3_shift_14 (tgt := 21) (by decide) (fun q => absurd q (by decide)) (fun q => ?_)
    refine g_iconst C dX3_shift_17 ?_
    refine g_goto C dX3_shift_18 (tgt := 28) (by decide) ?_
    refine g_iret C E dX3_shift_28 rfl ?_
    try rw [hb1]
    exact ⟨rfl, M3⟩
  · have fb4 := mOne_t hb1
    have hO := hO8 fb4.1
    obtain ⟨hI_, hr, hn, hT, hS_⟩ := id hO
    obtain ⟨hi0, hi1, hi2, hi3, hi4, hi5, hiA, hiR⟩ := id hI_
    obtain ⟨hs1, hs3, hs4, hs5, hs6, hs7, hs8, hs11, hs2⟩ := id hS_
    refine g_callS C dX3_shift_8 lkX3_191 (As := [.int (iI (gb true))]) (c_X3_unless true) rfl rfl ⟨Nat.le_of_ble_eq_true rfl, Nat.le_of_ble_eq_true rfl⟩ (Nat.le_of_ble_eq_true rfl) ?_
    rintro _ _ ⟨rfl, rfl⟩
    show gW X h 0 0 11 [(0, .ref m), (1, .int (iI route)), (2, .int (iI ear)), (3, .int (iI tone))] [.int (iI 0), .ref m]
    refine g_callV C dX3_shift_11 lkX3_156 M.o rfl (As := [.int (iI 0)]) (c_X3_isRefused M 0 (by decide) (by decide)) rfl rfl ⟨Nat.le_of_ble_eq_true rfl, Nat.le_of_ble_eq_true rfl⟩ (Nat.le_of_ble_eq_true rfl) ?_
    rintro _ h5 ⟨rfl, M6⟩
    show gW X h5 0 0 14 [(0, .ref m), (1, .int (iI route)), (2, .int (iI ear)), (3, .int (iI tone))] [.int (iI (gb false))]
    refine g_ifF C dX3_shift_14 (tgt := 21) (by decide) (fun q => ?_) (fun q => absurd q (by decide))
    refine g_aload_n C dX3_shift_21 0 rfl ?_
    refine g_iload_n C dX3_shift_22 1 rfl ?_
    refine g_iload_n C dX3_shift_23 2 rfl ?_
    refine g_iload_n C dX3_shift_24 3 rfl ?_
    refine g_callV C dX3_shift_25 lkX3_333 M6.o rfl (As := [.int (iI route), .int (iI ear), .int (iI tone)]) (c_X3_shiftOf_ M6 route ear tone hO (by omega) (by omega) (show 0 ≤ tone ∧ tone < g 6 0 from by omega) hf25 he24) rfl rfl ⟨Nat.le_of_ble_eq_true rfl, Nat.le_of_ble_eq_true rfl⟩ (Nat.le_of_ble_eq_true rfl) ?_
    rintro _ _ ⟨rfl, rfl⟩
    show gW X h5 0 0 28 [(0, .ref m), (1, .int (iI route)), (2, .int (iI ear)), (3, .int (iI tone))] [.int (iI (mShift (g 6) (g 18) (g 24) (f 25) route ear tone))]
    have b7 := mShift_b hO he24 (f 25) (route := route) (ear := ear) (tone := tone) (by omega) (by omega) (by omega)
    refine g_iret C E dX3_shift_28 rfl ?_
    try rw [hb1]
    exact ⟨rI (show mShift (g 6) (g 18) (g 24) (f 25) route ear tone = mShift (g 6) (g 18) (g 24) (f 25) route ear tone from rfl), M6⟩
theorem c_X3_worsened {G : gG} {h : gH} {h0 : gH} {m : Nat} {ad : Nat → Nat} {f : Nat → Int} {g : Nat → Int → Int} (M : mSt G h0 h m ad f g) (ear : Int) (by_ : Int) (hear1 : -2147483648 ≤ ear) (hear2 : ear ≤ 2147483647) (hby_1 : -2147483648 ≤ by_) (hby_2 : by_ ≤ 2147483647) (hf8 : f 8 = 0 ∨ f 8 = 1) (hO8 : f 8 = 1 → mOk (g 6) (g 18)) (hf25 : f 25 = 0 ∨ f 25 = 1) (he24 : mEOk (g 24)) : gC G yX3_worsened (.code yX3_worsened cX3_worsened 5 (some .int)) 4 0 0 [.ref m, .int (iI ear), .int (iI by_)] h (fun r h' => r = some (.int (iI (mAns (mW2 (mOne (f 8) (g 6) 0 ear 0) (mIn by_ 1 25)) (mWs (fun tone => decide (100 + by_ ≤ mShift (g 6) (g 18) (g 24) (f 25) 0 ear tone)) (g 6 0 - 0).toNat 0 0)))) ∧ mSt G h0 h' m ad (mRef f (mW2 (mOne (f 8) (g 6) 0 ear 0) (mIn by_ 1 25))) g) := by
  refine gC.of (by decide) (Nat.le_of_ble_eq_true rfl) rfl ?_
  intro X C E hI
  have C : gCtx G X cX3_worsened 5 RX3 4 (some .int) := C
  refine g_aload_n C dX3_worsened_0 0 rfl ?_
  refine g_aload_n C dX3_worsened_1 0 rfl ?_
  refine g_iconst C dX3_worsened_2 ?_
  refine g_iload_n C dX3_worsened_3 1 rfl ?_
  refine g_iconst C dX3_worsened_4 ?_
  refine g_callV C dX3_worsened_5 lkX3_188 M.o rfl (As := [.int (iI 0), .int (iI ear), .int (iI 0)]) (c_X3_isOne M 0 ear 0 (by decide) (by decide) (by omega) (by omega) (by decide) (by decide) hf8 hO8) rfl rfl ⟨Nat.le_of_ble_eq_true rfl, Nat.le_of_ble_eq_true rfl⟩ (Nat.le_of_ble_eq_true rfl) ?_
  rintro _ _ ⟨rfl, rfl⟩
  refine g_iload_n C dX3_worsened_8 2 rfl ?_
  refine g_iconst C dX3_worsened_9 ?_
  refine g_bipush C dX3_worsened_10 (by decide) ?_
  refine g_callS C dX3_worsened_12 lkX3_70 (As := [.int (iI by_), .int (iI 1), .int (iI 25)]) (c_X3_in by_ 1 25 (by omega) (by omega) (by decide) (by decide) (by decide) (by decide)) rfl rfl ⟨Nat.le_of_ble_eq_true rfl, Nat.le_of_ble_eq_true rfl⟩ (Nat.le_of_ble_eq_true rfl) ?_
  rintro _ _ ⟨rfl, rfl⟩
  cases hb1 : mOne (f 8) (g 6) 0 ear 0
  · cases hb2 : mIn by_ 1 25
    · have fb3 := mIn_f.mp hb2
      refine g_callS C dX3_worsened_15 lkX3_195 (As := [.int (iI (gb false)), .int (iI (gb false))]) (c_X3_unless_2 false false) rfl rfl ⟨Nat.le_of_ble_eq_true rfl, Nat.le_of_ble_eq_true rfl⟩ (Nat.le_of_ble_eq_true rfl) ?_
      rintro _ _ ⟨rfl, rfl⟩
      show gW X h 0 0 18 [(0, .ref m), (1, .int (iI ear)), (2, .int (iI by_))] [.int (iI 1), .ref m]
      refine g_callV C dX3_worsened_18 lkX3_156 M.o rfl (As := [.int (iI 1)]) (c_X3_isRefused M 1 (by decide) (by decide)) rfl rfl ⟨Nat.le_of_ble_eq_true rfl, Nat.le_of_ble_eq_true rfl⟩ (Nat.le_of_ble_eq_true rfl) ?_
      rintro _ h4 ⟨rfl, M5⟩
      show gW X h4 0 0 21 [(0, .ref m), (1, .int (iI ear)), (2, .int (iI by_))] [.int (iI (gb true))]
      refine g_ifF C dX3_worsened_21 (tgt := 26) (by decide) (fun q => absurd q (by decide)) (fun q => ?_)
      refine g_iconst C dX3_worsened_24 ?_
      refine g_iret C E dX3_worsened_25 rfl ?_
      try rw [hb1]
      try rw [hb2]
      exact ⟨rfl, M5⟩
    · have fb6 := mIn_t.mp hb2
      refine g_callS C dX3_worsened_15 lkX3_195 (As := [.int (iI (gb false)), .int (iI (gb true))]) (c_X3_unless_2 false true) rfl rfl ⟨Nat.le_of_ble_eq_true rfl, Nat.le_of_ble_eq_true rfl⟩ (Nat.le_of_ble_eq_true rfl) ?_
      rintro _ _ ⟨rfl, rfl⟩
      show gW X h 0 0 18 [(0, .ref m), (1, .int (iI ear)), (2, .int (iI by_))] [.int (iI 1), .ref m]
      refine g_callV C dX3_worsened_18 lkX3_156 M.o rfl (As := [.int (iI 1)]) (c_X3_isRefused M 1 (by decide) (by decide)) rfl rfl ⟨Nat.le_of_ble_eq_true rfl, Nat.le_of_ble_eq_true rfl⟩ (Nat.le_of_ble_eq_true rfl) ?_
      rintro _ h7 ⟨rfl, M8⟩
      show gW X h7 0 0 21 [(0, .ref m), (1, .int (iI ear)), (2, .int (iI by_))] [.int (iI (gb true))]
      refine g_ifF C dX3_worsened_21 (tgt := 26) (by decide) (fun q => absurd q (by decide)) (fun q => ?_)
      refine g_iconst C dX3_worsened_24 ?_
      refine g_iret C E dX3_worsened_25 rfl ?_
      try rw [hb1]
      try rw [hb2]
      exact ⟨rfl, M8⟩
  · have fb9 := mOne_t hb1
    have hO := hO8 fb9.1
    obtain ⟨hI_, hr, hn, hT, hS_⟩ := id hO
    obtain ⟨hi0, hi1, hi2, hi3, hi4, hi5, hiA, hiR⟩ := id hI_
    obtain ⟨hs1, hs3, hs4, hs5, hs6, hs7, hs8, hs11, hs2⟩ := id hS_
    cases hb10 : mIn by_ 1 25
    · have fb11 := mIn_f.mp hb10
      refine g_callS C dX3_worsened_15 lkX3_195 (As := [.int (iI (gb true)), .int (iI (gb false))]) (c_X3_unless_2 true false) rfl rfl ⟨Nat.le_of_ble_eq_true rfl, Nat.le_of_ble_eq_true rfl⟩ (Nat.le_of_ble_eq_true rfl) ?_
      rintro _ _ ⟨rfl, rfl⟩
      show gW X h 0 0 18 [(0, .ref m), (1, .int (iI ear)), (2, .int (iI by_))] [.int (iI 2), .ref m]
      refine g_callV C dX3_worsened_18 lkX3_156 M.o rfl (As := [.int (iI 2)]) (c_X3_isRefused M 2 (by decide) (by decide)) rfl rfl ⟨Nat.le_of_ble_eq_true rfl, Nat.le_of_ble_eq_true rfl⟩ (Nat.le_of_ble_eq_true rfl) ?_
      rintro _ h12 ⟨rfl, M13⟩
      show gW X h12 0 0 21 [(0, .ref m), (1, .int (iI ear)), (2, .int (iI by_))] [.int (iI (gb true))]
      refine g_ifF C dX3_worsened_21 (tgt := 26) (by decide) (fun q => absurd q (by decide)) (fun q => ?_)
      refine g_iconst C dX3_worsened_24 ?_
      refine g_iret C E dX3_worsened_25 rfl ?_
      try rw [hb1]
      try rw [hb10]
      exact ⟨rfl, M13⟩
    · have fb14 := mIn_t.mp hb10
      refine g_callS C dX3_worsened_15 lkX3_195 (As := [.int (iI (gb true)), .int (iI (gb true))]) (c_X3_unless_2 true true) rfl rfl ⟨Nat.le_of_ble_eq_true rfl, Nat.le_of_ble_eq_true rfl⟩ (Nat.le_of_ble_eq_true rfl) ?_
      rintro _ _ ⟨rfl, rfl⟩
      show gW X h 0 0 18 [(0, .ref m), (1, .int (iI ear)), (2, .int (iI by_))] [.int (iI 0), .ref m]
      refine g_callV C dX3_worsened_18 lkX3_156 M.o rfl (As := [.int (iI 0)]) (c_X3_isRefused M 0 (by decide) (by decide)) rfl rfl ⟨Nat.le_of_ble_eq_true rfl, Nat.le_of_ble_eq_true rfl⟩ (Nat.le_of_ble_eq_true rfl) ?_
      rintro _ h15 ⟨rfl, M16⟩
      show gW X h15 0 0 21 [(0, .ref m), (1, .int (iI ear)), (2, .int (iI by_))] [.int (iI (gb false))]
      refine g_ifF C dX3_worsened_21 (tgt := 26) (by decide) (fun q => ?_) (fun q => absurd q (by decide))
      refine g_iconst C dX3_worsened_26 ?_
      refine g_istore_n C dX3_worsened_27 (lv' := [(3, .int (iI 0)), (0, .ref m), (1, .int (iI ear)), (2, .int (iI by_))]) 3 rfl (Nat.le_of_ble_eq_true rfl) rfl ?_
      refine g_iconst C dX3_worsened_28 ?_
      refine g_istore C dX3_worsened_29 (lv' := [(4, .int (iI 0)), (3, .int (iI 0)), (0, .ref m), (1, .int (iI ear)), (2, .int (iI by_))]) (Nat.le_of_ble_eq_true rfl) rfl ?_
      have L31 : ∀ (n : Nat) (k : Int) (a : Int) (hk : 0 ≤ k ∧ k ≤ g 6 0) (hn9 : g 6 0 - k < n) (ha : 0 ≤ a ∧ a < 2 ^ k.toNat) (hs : mWs (fun tone => decide (100 + by_ ≤ mShift (g 6) (g 18) (g 24) (f 25) 0 ear tone)) (g 6 0 - k).toNat k a = mWs (fun tone => decide (100 + by_ ≤ mShift (g 6) (g 18) (g 24) (f 25) 0 ear tone)) (g 6 0 - 0).toNat 0 0), gW X h15 0 0 31 [(4, .int (iI k)), (3, .int (iI a)), (0, .ref m), (1, .int (iI ear)), (2, .int (iI by_))] [] := by
        intro n
        induction n with
        | zero => intro k a hk hn9 ha hs; exfalso; omega
        | succ n ih =>
          intro k a hk hn9 ha hs
          refine g_iload C dX3_worsened_31 0 rfl ?_
          refine g_aload_n C dX3_worsened_33 2 rfl ?_
          refine g_get C dX3_worsened_34 kcX3 6 q1469 (fun _ _ _ _ h9 => h9) M16.o (Nat.le_of_ble_eq_true rfl) (w := .ref (ad 6)) rfl ?_
          refine g_iconst C dX3_worsened_37 ?_
          refine g_iald C dX3_worsened_38 (v := g 6 0) M16.a6 (by decide) (by decide) (by decide) rfl ?_
          refine g_icmp_ge C dX3_worsened_39 (tgt := 74) (by decide) (gRo (by omega) (by omega)) (hiR _) (fun c39 => ?_) (fun c39 => ?_)
          · refine g_iload_n C dX3_worsened_74 1 rfl ?_
            refine g_iret C E dX3_worsened_75 rfl ?_
            try rw [hb1]
            try rw [hb10]
            exact ⟨rI (show a = mWs (fun tone => decide (100 + by_ ≤ mShift (g 6) (g 18) (g 24) (f 25) 0 ear tone)) (g 6 0 - 0).toNat 0 0 from (by rw [← hs, mWs_end (by omega)])), M16⟩
          · refine g_iload_n C dX3_worsened_42 1 rfl ?_
            refine g_aload_n C dX3_worsened_43 2 rfl ?_
            refine g_iconst C dX3_worsened_44 ?_
            refine g_iload_n C dX3_worsened_45 3 rfl ?_
            refine g_iload C dX3_worsened_46 0 rfl ?_
            refine g_callV C dX3_worsened_48 lkX3_333 M16.o rfl (As := [.int (iI 0), .int (iI ear), .int (iI k)]) (c_X3_shiftOf_ M16 0 ear k hO (by omega) (by omega) (show 0 ≤ k ∧ k < g 6 0 from by omega) hf25 he24) rfl rfl ⟨Nat.le_of_ble_eq_true rfl, Nat.le_of_ble_eq_true rfl⟩ (Nat.le_of_ble_eq_true rfl) ?_
            rintro _ _ ⟨rfl, rfl⟩
            show gW X h15 0 0 51 [(4, .int (iI k)), (3, .int (iI a)), (0, .ref m), (1, .int (iI ear)), (2, .int (iI by_))] [.int (iI (mShift (g 6) (g 18) (g 24) (f 25) 0 ear k)), .int (iI a)]
            have b17 := mShift_b hO he24 (f 25) (route := 0) (ear := ear) (tone := k) (by omega) (by omega) (by omega)
            refine g_bipush C dX3_worsened_51 (by decide) ?_
            refine g_iload_n C dX3_worsened_53 4 rfl ?_
            refine g_iadd C dX3_worsened_54 (v := 100 + by_) rfl ?_
            refine g_icmp_lt C dX3_worsened_55 (tgt := 65) (by decide) (gRo (by omega) (by omega)) (gRo (by omega) (by omega)) (fun c55 => ?_) (fun c55 => ?_)
            · refine g_iconst C dX3_worsened_65 ?_
              refine g_ior C dX3_worsened_66 (v := a) (or_0 a) ?_
              refine g_istore_n C dX3_worsened_67 (lv' := [(3, .int (iI a)), (4, .int (iI k)), (0, .ref m), (1, .int (iI ear)), (2, .int (iI by_))]) 3 rfl (Nat.le_of_ble_eq_true rfl) rfl ?_
              refine g_iinc C dX3_worsened_68 (v := k + 1) (lv' := [(4, .int (iI (k + 1))), (3, .int (iI a)), (0, .ref m), (1, .int (iI ear)), (2, .int (iI by_))]) 1 rfl rfl (Nat.le_of_ble_eq_true rfl) rfl ?_
              refine g_goto C dX3_worsened_71 (tgt := 31) (by decide) ?_
              exact ih (k + 1) a (by omega) (by omega) (by have h2 : (2 : Int) ^ (k + 1).toNat = 2 ^ k.toNat + 2 ^ k.toNat := (by rw [show (k + 1).toNat = k.toNat + 1 by omega, Int.pow_succ]; try omega); omega) (by rw [← hs, mWs_step (b := g 6 0) (k := k) (by omega)]; congr 1; rw [if_neg (by simp; omega)]; omega)
            · refine g_iconst C dX3_worsened_58 ?_
              refine g_iload C dX3_worsened_59 0 rfl ?_
              refine g_ishl C dX3_worsened_61 (v := 2 ^ k.toNat) (shl_pow (by omega)) ?_
              refine g_goto C dX3_worsened_62 (tgt := 66) (by decide) ?_
              refine g_ior C dX3_worsened_66 (v := a + 2 ^ k.toNat) (or_pow (by omega) ha.1 ha.2) ?_
              refine g_istore_n C dX3_worsened_67 (lv' := [(3, .int (iI (a + 2 ^ k.toNat))), (4, .int (iI k)), (0, .ref m), (1, .int (iI ear)), (2, .int (iI by_))]) 3 rfl (Nat.le_of_ble_eq_true rfl) rfl ?_
              refine g_iinc C dX3_worsened_68 (v := k + 1) (lv' := [(4, .int (iI (k + 1))), (3, .int (iI (a + 2 ^ k.toNat))), (0, .ref m), (1, .int (iI ear)), (2, .int (iI by_))]) 1 rfl rfl (Nat.le_of_ble_eq_true rfl) rfl ?_
              refine g_goto C dX3_worsened_71 (tgt := 31) (by decide) ?_
              exact ih (k + 1) (a + 2 ^ k.toNat) (by omega) (by omega) (by have h2 : (2 : Int) ^ (k + 1).toNat = 2 ^ k.toNat + 2 ^ k.toNat := (by rw [show (k + 1).toNat = k.toNat + 1 by omega, Int.pow_succ]; try omega); omega) (by rw [← hs, mWs_step (b := g 6 0) (k := k) (by omega)]; congr 1; rw [if_pos (decide_eq_true (by omega))])
      exact L31 (g 6 0 + 1).toNat 0 0 (by omega) (by omega) (by decide) rfl
theorem c_X3_steepest {G : gG} {h : gH} {h0 : gH} {m : Nat} {ad : Nat → Nat} {f : Nat → Int} {g : Nat → Int → Int} (M : mSt G h0 h m ad f g) (ear : Int) (hear1 : -2147483648 ≤ ear) (hear2 : ear ≤ 2147483647) (hf8 : f 8 = 0 ∨ f 8 = 1) (hO8 : f 8 = 1 → mOk (g 6) (g 18)) : gC G yX3_steepest (.code yX3_steepest cX3_steepest 6 (some .int)) 4 0 0 [.ref m, .int (iI ear)] h (fun r h' => r = some (.int (iI (mAns (mW1 (mOne (f 8) (g 6) 0 ear 0)) (if mMean (g 6) (g 18) 0 ear < 0 then mMean (g 6) (g 18) 0 ear else mSteep (fun tone => mTold (g 6) (g 18) 0 ear tone) (g 6 0 - 1).toNat 1 0)))) ∧ mSt G h0 h' m ad (mRef f (mW1 (mOne (f 8) (g 6) 0 ear 0))) g) := by
  refine gC.of (by decide) (Nat.le_of_ble_eq_true rfl) rfl ?_
  intro X C E hI
  have C : gCtx G X cX3_steepest 6 RX3 4 (some .int) := C
  refine g_aload_n C dX3_steepest_0 0 rfl ?_
  refine g_aload_n C dX3_steepest_1 0 rfl ?_
  refine g_iconst C dX3_steepest_2 ?_
  refine g_iload_n C dX3_steepest_3 1 rfl ?_
  refine g_iconst C dX3_steepest_4 ?_
  refine g_callV C dX3_steepest_5 lkX3_188 M.o rfl (As := [.int (iI 0), .int (iI ear), .int (iI 0)]) (c_X3_isOne M 0 ear 0 (by decide) (by decide) (by omega) (by omega) (by decide) (by decide) hf8 hO8) rfl rfl ⟨Nat.le_of_ble_eq_true rfl, Nat.le_of_ble_eq_true rfl⟩ (Nat.le_of_ble_eq_true rfl) ?_
  rintro _ _ ⟨rfl, rfl⟩
  cases hb1 : mOne (f 8) (g 6) 0 ear 0
  · refine g_callS C dX3_steepest_8 lkX3_191 (As := [.int (iI (gb false))]) (c_X3_unless false) rfl rfl ⟨Nat.le_of_ble_eq_true rfl, Nat.le_of_ble_eq_true rfl⟩ (Nat.le_of_ble_eq_true rfl) ?_
    rintro _ _ ⟨rfl, rfl⟩
    show gW X h 0 0 11 [(0, .ref m), (1, .int (iI ear))] [.int (iI 1), .ref m]
    refine g_callV C dX3_steepest_11 lkX3_156 M.o rfl (As := [.int (iI 1)]) (c_X3_isRefused M 1 (by decide) (by decide)) rfl rfl ⟨Nat.le_of_ble_eq_true rfl, Nat.le_of_ble_eq_true rfl⟩ (Nat.le_of_ble_eq_true rfl) ?_
    rintro _ h2 ⟨rfl, M3⟩
    show gW X h2 0 0 14 [(0, .ref m), (1, .int (iI ear))] [.int (iI (gb true))]
    refine g_ifF C dX3_steepest_14 (tgt := 19) (by decide) (fun q => absurd q (by decide)) (fun q => ?_)
    refine g_iconst C dX3_steepest_17 ?_
    refine g_iret C E dX3_steepest_18 rfl ?_
    try rw [hb1]
    exact ⟨rfl, M3⟩
  · have fb4 := mOne_t hb1
    have hO := hO8 fb4.1
    obtain ⟨hI_, hr, hn, hT, hS_⟩ := id hO
    obtain ⟨hi0, hi1, hi2, hi3, hi4, hi5, hiA, hiR⟩ := id hI_
    obtain ⟨hs1, hs3, hs4, hs5, hs6, hs7, hs8, hs11, hs2⟩ := id hS_
    refine g_callS C dX3_steepest_8 lkX3_191 (As := [.int (iI (gb true))]) (c_X3_unless true) rfl rfl ⟨Nat.le_of_ble_eq_true rfl, Nat.le_of_ble_eq_true rfl⟩ (Nat.le_of_ble_eq_true rfl) ?_
    rintro _ _ ⟨rfl, rfl⟩
    show gW X h 0 0 11 [(0, .ref m), (1, .int (iI ear))] [.int (iI 0), .ref m]
    refine g_callV C dX3_steepest_11 lkX3_156 M.o rfl (As := [.int (iI 0)]) (c_X3_isRefused M 0 (by decide) (by decide)) rfl rfl ⟨Nat.le_of_ble_eq_true rfl, Nat.le_of_ble_eq_true rfl⟩ (Nat.le_of_ble_eq_true rfl) ?_
    rintro _ h5 ⟨rfl, M6⟩
    show gW X h5 0 0 14 [(0, .ref m), (1, .int (iI ear))] [.int (iI (gb false))]
    refine g_ifF C dX3_steepest_14 (tgt := 19) (by decide) (fun q => ?_) (fun q => absurd q (by decide))
    refine g_aload_n C dX3_steepest_19 0 rfl ?_
    refine g_iconst C dX3_steepest_20 ?_
    refine g_iload_n C dX3_steepest_21 1 rfl ?_
    refine g_callV C dX3_steepest_22 lkX3_327 M6.o rfl (As := [.int (iI 0), .int (iI ear)]) (c_X3_meanOf M6 0 ear hO (by omega) (by omega)) rfl rfl ⟨Nat.le_of_ble_eq_true rfl, Nat.le_of_ble_eq_true rfl⟩ (Nat.le_of_ble_eq_true rfl) ?_
    rintro _ _ ⟨rfl, rfl⟩
    show gW X h5 0 0 25 [(0, .ref m), (1, .int (iI ear))] [.int (iI (mMean (g 6) (g 18) 0 ear))]
    have b7 := mMean_b hO (route := 0) (ear := ear) (by omega) (by omega)
    refine g_istore_n C dX3_steepest_25 (lv' := [(2, .int (iI (mMean (g 6) (g 18) 0 ear))), (0, .ref m), (1, .int (iI ear))]) 2 rfl (Nat.le_of_ble_eq_true rfl) rfl ?_
    refine g_iload_n C dX3_steepest_26 0 rfl ?_
    refine g_if_ge C dX3_steepest_27 (tgt := 32) (by decide) (gRo (by omega) (by omega)) (fun c27 => ?_) (fun c27 => ?_)
    · refine g_iconst C dX3_steepest_32 ?_
      refine g_istore_n C dX3_steepest_33 (lv' := [(3, .int (iI 0)), (2, .int (iI (mMean (g 6) (g 18) 0 ear))), (0, .ref m), (1, .int (iI ear))]) 3 rfl (Nat.le_of_ble_eq_true rfl) rfl ?_
      refine g_iconst C dX3_steepest_34 ?_
      refine g_istore C dX3_steepest_35 (lv' := [(4, .int (iI 1)), (3, .int (iI 0)), (2, .int (iI (mMean (g 6) (g 18) 0 ear))), (0, .ref m), (1, .int (iI ear))]) (Nat.le_of_ble_eq_true rfl) rfl ?_
      have L37 : ∀ (n : Nat) (k : Int) (a : Int) (hk : 1 ≤ k ∧ k ≤ g 6 0) (hn9 : g 6 0 - k < n) (ha : 0 ≤ a ∧ a ≤ 100) (hs : mSteep (fun tone => mTold (g 6) (g 18) 0 ear tone) (g 6 0 - k).toNat k a = mSteep (fun tone => mTold (g 6) (g 18) 0 ear tone) (g 6 0 - 1).toNat 1 0), gW X h5 0 0 37 [(4, .int (iI k)), (3, .int (iI a)), (2, .int (iI (mMean (g 6) (g 18) 0 ear))), (0, .ref m), (1, .int (iI ear))] [] := by
        intro n
        induction n with
        | zero => intro k a hk hn9 ha hs; exfalso; omega
        | succ n ih =>
          intro k a hk hn9 ha hs
          refine g_iload C dX3_steepest_37 0 rfl ?_
          refine g_aload_n C dX3_steepest_39 3 rfl ?_
          refine g_get C dX3_steepest_40 kcX3 6 q1469 (fun _ _ _ _ h9 => h9) M6.o (Nat.le_of_ble_eq_true rfl) (w := .ref (ad 6)) rfl ?_
          refine g_iconst C dX3_steepest_43 ?_
          refine g_iald C dX3_steepest_44 (v := g 6 0) M6.a6 (by decide) (by decide) (by decide) rfl ?_
          refine g_icmp_ge C dX3_steepest_45 (tgt := 103) (by decide) (gRo (by omega) (by omega)) (hiR _) (fun c45 => ?_) (fun c45 => ?_)
          · refine g_iload_n C dX3_steepest_103 1 rfl ?_
            refine g_iret C E dX3_steepest_104 rfl ?_
            try rw [hb1]
            exact ⟨rI (show a = if mMean (g 6) (g 18) 0 ear < 0 then mMean (g 6) (g 18) 0 ear else mSteep (fun tone => mTold (g 6) (g 18) 0 ear tone) (g 6 0 - 1).toNat 1 0 from (by rw [if_neg (by omega), ← hs, mSteep_end (by omega)])), M6⟩
          · refine g_aload_n C dX3_steepest_48 3 rfl ?_
            refine g_iconst C dX3_steepest_49 ?_
            refine g_iload_n C dX3_steepest_50 4 rfl ?_
            refine g_iload C dX3_steepest_51 0 rfl ?_
            refine g_callV C dX3_steepest_53 lkX3_303 M6.o rfl (As := [.int (iI 0), .int (iI ear), .int (iI k)]) (c_X3_toldOf M6 0 ear k hO (by omega) (by omega) (show 0 ≤ k ∧ k < g 6 0 from by omega)) rfl rfl ⟨Nat.le_of_ble_eq_true rfl, Nat.le_of_ble_eq_true rfl⟩ (Nat.le_of_ble_eq_true rfl) ?_
            rintro _ _ ⟨rfl, rfl⟩
            show gW X h5 0 0 56 [(4, .int (iI k)), (3, .int (iI a)), (2, .int (iI (mMean (g 6) (g 18) 0 ear))), (0, .ref m), (1, .int (iI ear))] [.int (iI (mTold (g 6) (g 18) 0 ear k))]
            have b8 := mTold_b hO (route := 0) (ear := ear) (tone := k) (by omega) (by omega) (by omega)
            refine g_aload_n C dX3_steepest_56 3 rfl ?_
            refine g_iconst C dX3_steepest_57 ?_
            refine g_iload_n C dX3_steepest_58 4 rfl ?_
            refine g_iload C dX3_steepest_59 0 rfl ?_
            refine g_iconst C dX3_steepest_61 ?_
            refine g_isub C dX3_steepest_62 (v := k - 1) rfl ?_
            refine g_callV C dX3_steepest_63 lkX3_303 M6.o rfl (As := [.int (iI 0), .int (iI ear), .int (iI (k - 1))]) (c_X3_toldOf M6 0 ear (k - 1) hO (by omega) (by omega) (show 0 ≤ (k - 1) ∧ (k - 1) < g 6 0 from by omega)) rfl rfl ⟨Nat.le_of_ble_eq_true rfl, Nat.le_of_ble_eq_true rfl⟩ (Nat.le_of_ble_eq_true rfl) ?_
            rintro _ _ ⟨rfl, rfl⟩
            show gW X h5 0 0 66 [(4, .int (iI k)), (3, .int (iI a)), (2, .int (iI (mMean (g 6) (g 18) 0 ear))), (0, .ref m), (1, .int (iI ear))] [.int (iI (mTold (g 6) (g 18) 0 ear (k - 1))), .int (iI (mTold (g 6) (g 18) 0 ear k))]
            have b9 := mTold_b hO (route := 0) (ear := ear) (tone := (k - 1)) (by omega) (by omega) (by omega)
            refine g_isub C dX3_steepest_66 (v := mTold (g 6) (g 18) 0 ear k - (mTold (g 6) (g 18) 0 ear (k - 1))) rfl ?_
            refine g_istore C dX3_steepest_67 (lv' := [(5, .int (iI (mTold (g 6) (g 18) 0 ear k - (mTold (g 6) (g 18) 0 ear (k - 1))))), (4, .int (iI k)), (3, .int (iI a)), (2, .int (iI (mMean (g 6) (g 18) 0 ear))), (0, .ref m), (1, .int (iI ear))]) (Nat.le_of_ble_eq_true rfl) rfl ?_
            refine g_iload C dX3_steepest_69 0 rfl ?_
            refine g_if_ge C dX3_steepest_71 (tgt := 80) (by decide) (gRo (by omega) (by omega)) (fun c71 => ?_) (fun c71 => ?_)
            · refine g_iload C dX3_steepest_80 0 rfl ?_
              refine g_istore C dX3_steepest_82 (lv' := [(5, .int (iI (mTold (g 6) (g 18) 0 ear k - (mTold (g 6) (g 18) 0 ear (k - 1))))), (4, .int (iI k)), (3, .int (iI a)), (2, .int (iI (mMean (g 6) (g 18) 0 ear))), (0, .ref m), (1, .int (iI ear))]) (Nat.le_of_ble_eq_true rfl) rfl ?_
              refine g_iload C dX3_steepest_84 0 rfl ?_
              refine g_iload_n C dX3_steepest_86 2 rfl ?_
              refine g_icmp_le C dX3_steepest_87 (tgt := 95) (by decide) (gRo (by omega) (by omega)) (gRo (by omega) (by omega)) (fun c87 => ?_) (fun c87 => ?_)
              · refine g_iload_n C dX3_steepest_95 2 rfl ?_
                refine g_istore_n C dX3_steepest_96 (lv' := [(3, .int (iI a)), (5, .int (iI (mTold (g 6) (g 18) 0 ear k - (mTold (g 6) (g 18) 0 ear (k - 1))))), (4, .int (iI k)), (2, .int (iI (mMean (g 6) (g 18) 0 ear))), (0, .ref m), (1, .int (iI ear))]) 3 rfl (Nat.le_of_ble_eq_true rfl) rfl ?_
                refine g_iinc C dX3_steepest_97 (v := k + 1) (lv' := [(4, .int (iI (k + 1))), (3, .int (iI a)), (5, .int (iI (mTold (g 6) (g 18) 0 ear k - (mTold (g 6) (g 18) 0 ear (k - 1))))), (2, .int (iI (mMean (g 6) (g 18) 0 ear))), (0, .ref m), (1, .int (iI ear))]) 2 rfl rfl (Nat.le_of_ble_eq_true rfl) rfl ?_
                refine g_goto C dX3_steepest_100 (tgt := 37) (by decide) ?_
                refine gW.loc [0, 1, 3, 4, 5] (lv' := [(4, .int (iI (k + 1))), (3, .int (iI a)), (2, .int (iI (mMean (g 6) (g 18) 0 ear))), (0, .ref m), (1, .int (iI ear))]) rfl ?_
                exact ih (k + 1) a (by omega) (by omega) (by omega) (by rw [← hs, mSteep_step (b := g 6 0) (k := k) (by omega)]; congr 1; (try dsimp only); grind)
              · refine g_iload C dX3_steepest_90 0 rfl ?_
                refine g_goto C dX3_steepest_92 (tgt := 96) (by decide) ?_
                refine g_istore_n C dX3_steepest_96 (lv' := [(3, .int (iI (mTold (g 6) (g 18) 0 ear k - (mTold (g 6) (g 18) 0 ear (k - 1))))), (5, .int (iI (mTold (g 6) (g 18) 0 ear k - (mTold (g 6) (g 18) 0 ear (k - 1))))), (4, .int (iI k)), (2, .int (iI (mMean (g 6) (g 18) 0 ear))), (0, .ref m), (1, .int (iI ear))]) 3 rfl (Nat.le_of_ble_eq_true rfl) rfl ?_
                refine g_iinc C dX3_steepest_97 (v := k + 1) (lv' := [(4, .int (iI (k + 1))), (3, .int (iI (mTold (g 6) (g 18) 0 ear k - (mTold (g 6) (g 18) 0 ear (k - 1))))), (5, .int (iI (mTold (g 6) (g 18) 0 ear k - (mTold (g 6) (g 18) 0 ear (k - 1))))), (2, .int (iI (mMean (g 6) (g 18) 0 ear))), (0, .ref m), (1, .int (iI ear))]) 2 rfl rfl (Nat.le_of_ble_eq_true rfl) rfl ?_
                refine g_goto C dX3_steepest_100 (tgt := 37) (by decide) ?_
                refine gW.loc [0, 1, 3, 4, 5] (lv' := [(4, .int (iI (k + 1))), (3, .int (iI (mTold (g 6) (g 18) 0 ear k - (mTold (g 6) (g 18) 0 ear (k - 1))))), (2, .int (iI (mMean (g 6) (g 18) 0 ear))), (0, .ref m), (1, .int (iI ear))]) rfl ?_
                exact ih (k + 1) (mTold (g 6) (g 18) 0 ear k - (mTold (g 6) (g 18) 0 ear (k - 1))) (by omega) (by omega) (by omega) (by rw [← hs, mSteep_step (b := g 6 0) (k := k) (by omega)]; congr 1; (try dsimp only); grind)
            · refine g_iload C dX3_steepest_74 0 rfl ?_
              refine g_ineg C dX3_steepest_76 (v := -(mTold (g 6) (g 18) 0 ear k - (mTold (g 6) (g 18) 0 ear (k - 1)))) rfl ?_
              refine g_goto C dX3_steepest_77 (tgt := 82) (by decide) ?_
              refine g_istore C dX3_steepest_82 (lv' := [(5, .int (iI (-(mTold (g 6) (g 18) 0 ear k - (mTold (g 6) (g 18) 0 ear (k - 1)))))), (4, .int (iI k)), (3, .int (iI a)), (2, .int (iI (mMean (g 6) (g 18) 0 ear))), (0, .ref m), (1, .int (iI ear))]) (Nat.le_of_ble_eq_true rfl) rfl ?_
              refine g_iload C dX3_steepest_84 0 rfl ?_
              refine g_iload_n C dX3_steepest_86 2 rfl ?_
              refine g_icmp_le C dX3_steepest_87 (tgt := 95) (by decide) (gRo (by omega) (by omega)) (gRo (by omega) (by omega)) (fun c87 => ?_) (fun c87 => ?_)
              · refine g_iload_n C dX3_steepest_95 2 rfl ?_
                refine g_istore_n C dX3_steepest_96 (lv' := [(3, .int (iI a)), (5, .int (iI (-(mTold (g 6) (g 18) 0 ear k - (mTold (g 6) (g 18) 0 ear (k - 1)))))), (4, .int (iI k)), (2, .int (iI (mMean (g 6) (g 18) 0 ear))), (0, .ref m), (1, .int (iI ear))]) 3 rfl (Nat.le_of_ble_eq_true rfl) rfl ?_
                refine g_iinc C dX3_steepest_97 (v := k + 1) (lv' := [(4, .int (iI (k + 1))), (3, .int (iI a)), (5, .int (iI (-(mTold (g 6) (g 18) 0 ear k - (mTold (g 6) (g 18) 0 ear (k - 1)))))), (2, .int (iI (mMean (g 6) (g 18) 0 ear))), (0, .ref m), (1, .int (iI ear))]) 2 rfl rfl (Nat.le_of_ble_eq_true rfl) rfl ?_
                refine g_goto C dX3_steepest_100 (tgt := 37) (by decide) ?_
                refine gW.loc [0, 1, 3, 4, 5] (lv' := [(4, .int (iI (k + 1))), (3, .int (iI a)), (2, .int (iI (mMean (g 6) (g 18) 0 ear))), (0, .ref m), (1, .int (iI ear))]) rfl ?_
                exact ih (k + 1) a (by omega) (by omega) (by omega) (by rw [← hs, mSteep_step (b := g 6 0) (k := k) (by omega)]; congr 1; (try dsimp only); grind)
              · refine g_iload C dX3_steepest_90 0 rfl ?_
                refine g_goto C dX3_steepest_92 (tgt := 96) (by decide) ?_
                refine g_istore_n C dX3_steepest_96 (lv' := [(3, .int (iI (-(mTold (g 6) (g 18) 0 ear k - (mTold (g 6) (g 18) 0 ear (k - 1)))))), (5, .int (iI (-(mTold (g 6) (g 18) 0 ear k - (mTold (g 6) (g 18) 0 ear (k - 1)))))), (4, .int (iI k)), (2, .int (iI (mMean (g 6) (g 18) 0 ear))), (0, .ref m), (1, .int (iI ear))]) 3 rfl (Nat.le_of_ble_eq_true rfl) rfl ?_
                refine g_iinc C dX3_steepest_97 (v := k + 1) (lv' := [(4, .int (iI (k + 1))), (3, .int (iI (-(mTold (g 6) (g 18) 0 ear k - (mTold (g 6) (g 18) 0 ear (k - 1)))))), (5, .int (iI (-(mTold (g 6) (g 18) 0 ear k - (mTold (g 6) (g 18) 0 ear (k - 1)))))), (2, .int (iI (mMean (g 6) (g 18) 0 ear))), (0, .ref m), (1, .int (iI ear))]) 2 rfl rfl (Nat.le_of_ble_eq_true rfl) rfl ?_
                refine g_goto C dX3_steepest_100 (tgt := 37) (by decide) ?_
                refine gW.loc [0, 1, 3, 4, 5] (lv' := [(4, .int (iI (k + 1))), (3, .int (iI (-(mTold (g 6) (g 18) 0 ear k - (mTold (g 6) (g 18) 0 ear (k - 1)))))), (2, .int (iI (mMean (g 6) (g 18) 0 ear))), (0, .ref m), (1, .int (iI ear))]) rfl ?_
                exact ih (k + 1) (-(mTold (g 6) (g 18) 0 ear k - (mTold (g 6) (g 18) 0 ear (k - 1)))) (by omega) (by omega) (by omega) (by rw [← hs, mSteep_step (b := g 6 0) (k := k) (by omega)]; congr 1; (try dsimp only); grind)
      exact L37 (g 6 0 + 1).toNat 1 0 (by omega) (by omega) (by decide) rfl
    · refine g_iload_n C dX3_steepest_30 0 rfl ?_
      refine g_iret C E dX3_steepest_31 rfl ?_
      try rw [hb1]
      exact ⟨rI (show mMean (g 6) (g 18) 0 ear = if mMean (g 6) (g 18) 0 ear < 0 then mMean (g 6) (g 18) 0 ear else mSteep (fun tone => mTold (g 6) (g 18) 0 ear tone) (g 6 0 - 1).toNat 1 0 from (by rw [if_pos (by omega)])), M6⟩
theorem c_X3_unproved {G : gG} {h : gH} {h0 : gH} {m : Nat} {ad : Nat → Nat} {f : Nat → Int} {g : Nat → Int → Int} (M : mSt G h0 h m ad f g) (w : Int) (hw1 : -2147483648 ≤ w) (hw2 : w ≤ 2147483647) (hf8 : f 8 = 0 ∨ f 8 = 1) (hO8 : f 8 = 1 → mOk (g 6) (g 18)) : gC G yX3_unproved (.code yX3_unproved cX3_unproved 4 (some .int)) 1 0 0 [.ref m, .int (iI w)] h (fun r h' => r = some (.int (iI (if mUnpV (f 8) (g 18) w = -1 then 0 else mUnpV (f 8) (g 18) w))) ∧ mSt G h0 h' m ad (if mUnpV (f 8) (g 18) w = -1 then va_up (va_up f 0 0) 0 1 else va_up f 0 0) g) := by
  refine gC.of (by decide) (Nat.le_of_ble_eq_true rfl) rfl ?_
  intro X C E hI
  have C : gCtx G X cX3_unproved 4 RX3 1 (some .int) := C
  rcases id hf8 with e8 | e8
  · refine g_aload_n C dX3_unproved_0 0 rfl ?_
    refine g_iconst C dX3_unproved_1 ?_
    refine g_put C dX3_unproved_2 kcX3 0 q1463 (fun _ _ _ _ h9 => h9) M.o rfl (Nat.le_of_ble_eq_true rfl) rfl rfl (Nat.le_of_ble_eq_true rfl) (fs2 := mFs ad (va_up f 0 0)) rfl (fun h1 hh2 => ?_)
    have M3 : mSt G h0 h1 m ad (va_up f 0 0) g := M.put hh2 rfl
    refine g_iconst C dX3_unproved_5 ?_
    refine g_istore_n C dX3_unproved_6 (lv' := [(2, .int (iI 0)), (0, .ref m), (1, .int (iI w))]) 2 rfl (Nat.le_of_ble_eq_true rfl) rfl ?_
    refine g_iconst C dX3_unproved_7 ?_
    refine g_istore_n C dX3_unproved_8 (lv' := [(3, .int (iI 0)), (2, .int (iI 0)), (0, .ref m), (1, .int (iI w))]) 3 rfl (Nat.le_of_ble_eq_true rfl) rfl ?_
    refine g_aload_n C dX3_unproved_9 2 rfl ?_
    refine g_get C dX3_unproved_10 kcX3 8 q1471 (fun _ _ _ _ h9 => h9) M3.o (Nat.le_of_ble_eq_true rfl) (w := .int (iI (f 8))) rfl ?_
    rw [show f 8 = 0 from e8]
    refine g_if_eq C dX3_unproved_13 (tgt := 56) (by decide) (gRo (by decide) (by decide)) (fun _ => ?_) (fun q => absurd (by decide) q)
    refine g_aload_n C dX3_unproved_56 2 rfl ?_
    refine g_iconst C dX3_unproved_57 ?_
    refine g_put C dX3_unproved_58 kcX3 0 q1463 (fun _ _ _ _ h9 => h9) M3.o rfl (Nat.le_of_ble_eq_true rfl) rfl rfl (Nat.le_of_ble_eq_true rfl) (fs2 := mFs ad (va_up (va_up f 0 0) 0 1)) rfl (fun h4 hh5 => ?_)
    have M6 : mSt G h0 h4 m ad (va_up (va_up f 0 0) 0 1) g := M3.put hh5 rfl
    refine g_iconst C dX3_unproved_61 ?_
    refine g_iret C E dX3_unproved_62 rfl ?_
    have hU : mUnpV (f 8) (g 18) w = -1 := by unfold mUnpV; rw [if_neg (by omega)]
    rw [hU]
    exact ⟨rfl, M6⟩
  · have hO := hO8 e8
    obtain ⟨hI_, hr, hn, hT, hS_⟩ := id hO
    obtain ⟨hi0, hi1, hi2, hi3, hi4, hi5, hiA, hiR⟩ := id hI_
    obtain ⟨hs1, hs3, hs4, hs5, hs6, hs7, hs8, hs11, hs2⟩ := id hS_
    refine g_aload_n C dX3_unproved_0 0 rfl ?_
    refine g_iconst C dX3_unproved_1 ?_
    refine g_put C dX3_unproved_2 kcX3 0 q1463 (fun _ _ _ _ h9 => h9) M.o rfl (Nat.le_of_ble_eq_true rfl) rfl rfl (Nat.le_of_ble_eq_true rfl) (fs2 := mFs ad (va_up f 0 0)) rfl (fun h7 hh8 => ?_)
    have M9 : mSt G h0 h7 m ad (va_up f 0 0) g := M.put hh8 rfl
    refine g_iconst C dX3_unproved_5 ?_
    refine g_istore_n C dX3_unproved_6 (lv' := [(2, .int (iI 0)), (0, .ref m), (1, .int (iI w))]) 2 rfl (Nat.le_of_ble_eq_true rfl) rfl ?_
    refine g_iconst C dX3_unproved_7 ?_
    refine g_istore_n C dX3_unproved_8 (lv' := [(3, .int (iI 0)), (2, .int (iI 0)), (0, .ref m), (1, .int (iI w))]) 3 rfl (Nat.le_of_ble_eq_true rfl) rfl ?_
    have L9 : ∀ (n : Nat) (k : Int) (a : Int) (hk : 0 ≤ k ∧ k ≤ g 18 0) (hn9 : g 18 0 - k < n) (ha : 0 ≤ a ∧ a ≤ k) (hs : mUnp (mUnpP (g 18)) w (g 18 0 - k).toNat k a = mUnp (mUnpP (g 18)) w (g 18 0 - 0).toNat 0 0), gW X h7 0 0 9 [(3, .int (iI k)), (2, .int (iI a)), (0, .ref m), (1, .int (iI w))] [] := by
      intro n
      induction n with
      | zero => intro k a hk hn9 ha hs; exfalso; omega
      | succ n ih =>
        intro k a hk hn9 ha hs
        refine g_aload_n C dX3_unproved_9 2 rfl ?_
        refine g_get C dX3_unproved_10 kcX3 8 q1471 (fun _ _ _ _ h9 => h9) M9.o (Nat.le_of_ble_eq_true rfl) (w := .int (iI (f 8))) rfl ?_
        rw [show f 8 = 1 from e8]
        refine g_if_eq C dX3_unproved_13 (tgt := 56) (by decide) (gRo (by decide) (by decide)) (fun q => absurd q (by decide)) (fun _ => ?_)
        refine g_iload_n C dX3_unproved_16 0 rfl ?_
        refine g_aload_n C dX3_unproved_17 2 rfl ?_
        refine g_get C dX3_unproved_18 kcX3 18 q1481 (fun _ _ _ _ h9 => h9) M9.o (Nat.le_of_ble_eq_true rfl) (w := .ref (ad 18)) rfl ?_
        refine g_iconst C dX3_unproved_21 ?_
        refine g_iald C dX3_unproved_22 (v := g 18 0) M9.a18 (by decide) (by decide) (by decide) rfl ?_
        refine g_icmp_ge C dX3_unproved_23 (tgt := 56) (by decide) (gRo (by omega) (by omega)) (hr _) (fun c23 => ?_) (fun c23 => ?_)
        · refine g_aload_n C dX3_unproved_56 2 rfl ?_
          refine g_iconst C dX3_unproved_57 ?_
          refine g_put C dX3_unproved_58 kcX3 0 q1463 (fun _ _ _ _ h9 => h9) M9.o rfl (Nat.le_of_ble_eq_true rfl) rfl rfl (Nat.le_of_ble_eq_true rfl) (fs2 := mFs ad (va_up (va_up f 0 0) 0 1)) rfl (fun h10 hh11 => ?_)
          have M12 : mSt G h0 h10 m ad (va_up (va_up f 0 0) 0 1) g := M9.put hh11 rfl
          refine g_iconst C dX3_unproved_61 ?_
          refine g_iret C E dX3_unproved_62 rfl ?_
          have hU : mUnpV (f 8) (g 18) w = -1 := by unfold mUnpV; rw [if_pos e8, ← hs, mUnp_end (by omega)]
          rw [hU]
          exact ⟨rfl, M12⟩
        · refine g_aload_n C dX3_unproved_26 2 rfl ?_
          refine g_get C dX3_unproved_27 kcX3 18 q1481 (fun _ _ _ _ h9 => h9) M9.o (Nat.le_of_ble_eq_true rfl) (w := .ref (ad 18)) rfl ?_
          refine g_iload_n C dX3_unproved_30 0 rfl ?_
          refine g_iconst C dX3_unproved_31 ?_
          refine g_callS C dX3_unproved_32 lkX3_213 (As := [.int (iI k), .int (iI 4)]) (c_X3_at k 4) rfl rfl ⟨Nat.le_of_ble_eq_true rfl, Nat.le_of_ble_eq_true rfl⟩ (Nat.le_of_ble_eq_true rfl) ?_
          rintro _ _ ⟨rfl, rfl⟩
          refine g_iald C dX3_unproved_35 (v := g 18 (112 + 11 * k + 4)) M9.a18 (by decide) (by omega) (by omega) rfl ?_
          refine g_iconst C dX3_unproved_36 ?_
          refine g_icmp_le C dX3_unproved_37 (tgt := 50) (by decide) (hr _) (gRo (by decide) (by decide)) (fun c37 => ?_) (fun c37 => ?_)
          · refine g_iinc C dX3_unproved_50 (v := k + 1) (lv' := [(3, .int (iI (k + 1))), (2, .int (iI a)), (0, .ref m), (1, .int (iI w))]) 0 rfl rfl (Nat.le_of_ble_eq_true rfl) rfl ?_
            refine g_goto C dX3_unproved_53 (tgt := 9) (by decide) ?_
            exact ih (k + 1) a (by omega) (by omega) (by omega) (by rw [← hs, mUnp_step (b := g 18 0) (k := k) (by omega)]; rw [show mUnpP (g 18) k = false from decide_eq_false (by show ¬ 2 < g 18 (112 + 11 * k + 4); omega)]; rfl)
          · refine g_iload_n C dX3_unproved_40 1 rfl ?_
            refine g_iload_n C dX3_unproved_41 3 rfl ?_
            refine g_icmp_ne C dX3_unproved_42 (tgt := 47) (by decide) (gRo (by omega) (by omega)) (gRo (by omega) (by omega)) (fun c42 => ?_) (fun c42 => ?_)
            · refine g_iinc C dX3_unproved_47 (v := a + 1) (lv' := [(2, .int (iI (a + 1))), (3, .int (iI k)), (0, .ref m), (1, .int (iI w))]) 1 rfl rfl (Nat.le_of_ble_eq_true rfl) rfl ?_
              refine g_iinc C dX3_unproved_50 (v := k + 1) (lv' := [(3, .int (iI (k + 1))), (2, .int (iI (a + 1))), (0, .ref m), (1, .int (iI w))]) 1 rfl rfl (Nat.le_of_ble_eq_true rfl) rfl ?_
              refine g_goto C dX3_unproved_53 (tgt := 9) (by decide) ?_
              exact ih (k + 1) (a + 1) (by omega) (by omega) (by omega) (by rw [← hs, mUnp_step (b := g 18 0) (k := k) (by omega)]; rw [if_pos (show mUnpP (g 18) k = true from decide_eq_true (by show 2 < g 18 (112 + 11 * k + 4); omega)), if_neg (by assumption)])
            · refine g_iload_n C dX3_unproved_45 0 rfl ?_
              refine g_iret C E dX3_unproved_46 rfl ?_
              have hU : mUnpV (f 8) (g 18) w = k := by unfold mUnpV; rw [if_pos e8, ← hs, mUnp_step (b := g 18 0) (k := k) (by omega), if_pos (show mUnpP (g 18) k = true from decide_eq_true (by show 2 < g 18 (112 + 11 * k + 4); omega)), if_pos (by assumption)]
              rw [hU, if_neg (by omega), if_neg (by omega)]
              exact ⟨rfl, M9⟩
    exact L9 (g 18 0 + 1).toNat 0 0 (by omega) (by omega) (by decide) rfl
theorem c_X3_plateau {G : gG} {h : gH} {h0 : gH} {m : Nat} {ad : Nat → Nat} {f : Nat → Int} {g : Nat → Int → Int} (M : mSt G h0 h m ad f g) (route : Int) (ear : Int) (tone : Int) (what : Int) (hroute1 : -2147483648 ≤ route) (hroute2 : route ≤ 2147483647) (hear1 : -2147483648 ≤ ear) (hear2 : ear ≤ 2147483647) (htone1 : -2147483648 ≤ tone) (htone2 : tone ≤ 2147483647) (hwhat1 : -2147483648 ≤ what) (hwhat2 : what ≤ 2147483647) (hf8 : f 8 = 0 ∨ f 8 = 1) (hO8 : f 8 = 1 → mOk (g 6) (g 18)) : gC G yX3_plateau (.code yX3_plateau cX3_plateau 9 (some .int)) 4 0 0 [.ref m, .int (iI route), .int (iI ear), .int (iI tone), .int (iI what)] h (fun r h' => r = some (.int (iI (mAns (mW1 (mOne (f 8) (g 6) route ear tone && mIn what 0 2)) (mPlat (g 6) route ear tone what)))) ∧ mSt G h0 h' m ad (mRef f (mW1 (mOne (f 8) (g 6) route ear tone && mIn what 0 2))) g) := by
  refine gC.of (by decide) (Nat.le_of_ble_eq_true rfl) rfl ?_
  intro X C E hI
  have C : gCtx G X cX3_plateau 9 RX3 4 (some .int) := C
  refine g_aload_n C dX3_plateau_0 0 rfl ?_
  refine g_aload_n C dX3_plateau_1 0 rfl ?_
  refine g_iload_n C dX3_plateau_2 1 rfl ?_
  refine g_iload_n C dX3_plateau_3 2 rfl ?_
  refine g_iload_n C dX3_plateau_4 3 rfl ?_
  refine g_callV C dX3_plateau_5 lkX3_188 M.o rfl (As := [.int (iI route), .int (iI ear), .int (iI tone)]) (c_X3_isOne M route ear tone (by omega) (by omega) (by omega) (by omega) (by omega) (by omega) hf8 hO8) rfl rfl ⟨Nat.le_of_ble_eq_true rfl, Nat.le_of_ble_eq_true rfl⟩ (Nat.le_of_ble_eq_true rfl) ?_
  rintro _ _ ⟨rfl, rfl⟩
  refine g_ifF C dX3_plateau_8 (tgt := 25) (by decide) (fun c8 => ?_) (fun c8 => ?_)
  · refine g_iconst C dX3_plateau_25 ?_
    refine g_callS C dX3_plateau_26 lkX3_191 (As := [.int (iI 0)]) (c_X3_unless false) rfl rfl ⟨Nat.le_of_ble_eq_true rfl, Nat.le_of_ble_eq_true rfl⟩ (Nat.le_of_ble_eq_true rfl) ?_
    rintro _ _ ⟨rfl, rfl⟩
    show gW X h 0 0 29 [(0, .ref m), (1, .int (iI route)), (2, .int (iI ear)), (3, .int (iI tone)), (4, .int (iI what))] [.int (iI 1), .ref m]
    refine g_callV C dX3_plateau_29 lkX3_156 M.o rfl (As := [.int (iI 1)]) (c_X3_isRefused M 1 (by decide) (by decide)) rfl rfl ⟨Nat.le_of_ble_eq_true rfl, Nat.le_of_ble_eq_true rfl⟩ (Nat.le_of_ble_eq_true rfl) ?_
    rintro _ h1 ⟨rfl, M2⟩
    show gW X h1 0 0 32 [(0, .ref m), (1, .int (iI route)), (2, .int (iI ear)), (3, .int (iI tone)), (4, .int (iI what))] [.int (iI (gb true))]
    refine g_ifF C dX3_plateau_32 (tgt := 37) (by decide) (fun q => absurd q (by decide)) (fun q => ?_)
    refine g_iconst C dX3_plateau_35 ?_
    refine g_iret C E dX3_plateau_36 rfl ?_
    try rw [c8]
    exact ⟨rfl, M2⟩
  · have fb3 := mOne_t c8
    have hO := hO8 fb3.1
    obtain ⟨hI_, hr, hn, hT, hS_⟩ := id hO
    obtain ⟨hi0, hi1, hi2, hi3, hi4, hi5, hiA, hiR⟩ := id hI_
    obtain ⟨hs1, hs3, hs4, hs5, hs6, hs7, hs8, hs11, hs2⟩ := id hS_
    refine g_iload C dX3_plateau_11 4 rfl ?_
    refine g_iconst C dX3_plateau_13 ?_
    refine g_iconst C dX3_plateau_14 ?_
    refine g_callS C dX3_plateau_15 lkX3_70 (As := [.int (iI what), .int (iI 0), .int (iI 2)]) (c_X3_in what 0 2 (by omega) (by omega) (by decide) (by decide) (by decide) (by decide)) rfl rfl ⟨Nat.le_of_ble_eq_true rfl, Nat.le_of_ble_eq_true rfl⟩ (Nat.le_of_ble_eq_true rfl) ?_
    rintro _ _ ⟨rfl, rfl⟩
    refine g_ifF C dX3_plateau_18 (tgt := 25) (by decide) (fun c18 => ?_) (fun c18 => ?_)
    · have fb4 := mIn_f.mp c18
      refine g_iconst C dX3_plateau_25 ?_
      refine g_callS C dX3_plateau_26 lkX3_191 (As := [.int (iI 0)]) (c_X3_unless false) rfl rfl ⟨Nat.le_of_ble_eq_true rfl, Nat.le_of_ble_eq_true rfl⟩ (Nat.le_of_ble_eq_true rfl) ?_
      rintro _ _ ⟨rfl, rfl⟩
      show gW X h 0 0 29 [(0, .ref m), (1, .int (iI route)), (2, .int (iI ear)), (3, .int (iI tone)), (4, .int (iI what))] [.int (iI 1), .ref m]
      refine g_callV C dX3_plateau_29 lkX3_156 M.o rfl (As := [.int (iI 1)]) (c_X3_isRefused M 1 (by decide) (by decide)) rfl rfl ⟨Nat.le_of_ble_eq_true rfl, Nat.le_of_ble_eq_true rfl⟩ (Nat.le_of_ble_eq_true rfl) ?_
      rintro _ h5 ⟨rfl, M6⟩
      show gW X h5 0 0 32 [(0, .ref m), (1, .int (iI route)), (2, .int (iI ear)), (3, .int (iI tone)), (4, .int (iI what))] [.int (iI (gb true))]
      refine g_ifF C dX3_plateau_32 (tgt := 37) (by decide) (fun q => absurd q (by decide)) (fun q => ?_)
      refine g_iconst C dX3_plateau_35 ?_
      refine g_iret C E dX3_plateau_36 rfl ?_
      try rw [c8]
      try rw [c18]
      exact ⟨rfl, M6⟩
    · have fb7 := mIn_t.mp c18
      refine g_iconst C dX3_plateau_21 ?_
      refine g_goto C dX3_plateau_22 (tgt := 26) (by decide) ?_
      refine g_callS C dX3_plateau_26 lkX3_191 (As := [.int (iI 1)]) (c_X3_unless true) rfl rfl ⟨Nat.le_of_ble_eq_true rfl, Nat.le_of_ble_eq_true rfl⟩ (Nat.le_of_ble_eq_true rfl) ?_
      rintro _ _ ⟨rfl, rfl⟩
      show gW X h 0 0 29 [(0, .ref m), (1, .int (iI route)), (2, .int (iI ear)), (3, .int (iI tone)), (4, .int (iI what))] [.int (iI 0), .ref m]
      refine g_callV C dX3_plateau_29 lkX3_156 M.o rfl (As := [.int (iI 0)]) (c_X3_isRefused M 0 (by decide) (by decide)) rfl rfl ⟨Nat.le_of_ble_eq_true rfl, Nat.le_of_ble_eq_true rfl⟩ (Nat.le_of_ble_eq_true rfl) ?_
      rintro _ h8 ⟨rfl, M9⟩
      show gW X h8 0 0 32 [(0, .ref m), (1, .int (iI route)), (2, .int (iI ear)), (3, .int (iI tone)), (4, .int (iI what))] [.int (iI (gb false))]
      refine g_ifF C dX3_plateau_32 (tgt := 37) (by decide) (fun q => ?_) (fun q => absurd q (by decide))
      refine g_bipush C dX3_plateau_37 (by decide) ?_
      refine g_istore C dX3_plateau_39 (lv' := [(5, .int (iI (-2))), (0, .ref m), (1, .int (iI route)), (2, .int (iI ear)), (3, .int (iI tone)), (4, .int (iI what))]) (Nat.le_of_ble_eq_true rfl) rfl ?_
      refine g_bipush C dX3_plateau_41 (by decide) ?_
      refine g_istore C dX3_plateau_43 (lv' := [(6, .int (iI (-2))), (5, .int (iI (-2))), (0, .ref m), (1, .int (iI route)), (2, .int (iI ear)), (3, .int (iI tone)), (4, .int (iI what))]) (Nat.le_of_ble_eq_true rfl) rfl ?_
      refine g_iconst C dX3_plateau_45 ?_
      refine g_istore C dX3_plateau_46 (lv' := [(7, .int (iI 0)), (6, .int (iI (-2))), (5, .int (iI (-2))), (0, .ref m), (1, .int (iI route)), (2, .int (iI ear)), (3, .int (iI tone)), (4, .int (iI what))]) (Nat.le_of_ble_eq_true rfl) rfl ?_
      refine g_iconst C dX3_plateau_48 ?_
      refine g_istore C dX3_plateau_49 (lv' := [(8, .int (iI 0)), (7, .int (iI 0)), (6, .int (iI (-2))), (5, .int (iI (-2))), (0, .ref m), (1, .int (iI route)), (2, .int (iI ear)), (3, .int (iI tone)), (4, .int (iI what))]) (Nat.le_of_ble_eq_true rfl) rfl ?_
      have L51 : ∀ (n : Nat) (k : Int) (a : Int) (b : Int) (c : Int) (hk : 0 ≤ k ∧ k ≤ 25) (hn9 : 25 - k < n) (ha : -2 ≤ a ∧ a ≤ 24) (hs : mPl (mPlP (g 6) route ear tone) (25 - k).toNat k a b c = mPl (mPlP (g 6) route ear tone) 25 0 (-2) (-2) 0), gW X h8 0 0 51 [(8, .int (iI k)), (7, .int (iI c)), (6, .int (iI b)), (5, .int (iI a)), (0, .ref m), (1, .int (iI route)), (2, .int (iI ear)), (3, .int (iI tone)), (4, .int (iI what))] [] := by
        intro n
        induction n with
        | zero => intro k a b c hk hn9 ha hs; exfalso; omega
        | succ n ih =>
          intro k a b c hk hn9 ha hs
          refine g_iload C dX3_plateau_51 0 rfl ?_
          refine g_bipush C dX3_plateau_53 (by decide) ?_
          refine g_icmp_gt C dX3_plateau_55 (tgt := 106) (by decide) (gRo (by omega) (by omega)) (gRo (by decide) (by decide)) (fun c55 => ?_) (fun c55 => ?_)
          · refine g_iload C dX3_plateau_106 8 rfl ?_
            refine g_if_ne C dX3_plateau_108 (tgt := 116) (by decide) (gRo (by omega) (by omega)) (fun c108 => ?_) (fun c108 => ?_)
            · refine g_iload C dX3_plateau_116 8 rfl ?_
              refine g_iconst C dX3_plateau_118 ?_
              refine g_icmp_ne C dX3_plateau_119 (tgt := 127) (by decide) (gRo (by omega) (by omega)) (gRo (by decide) (by decide)) (fun c119 => ?_) (fun c119 => ?_)
              · refine g_iload C dX3_plateau_127 1 rfl ?_
                refine g_iret C E dX3_plateau_129 rfl ?_
                try rw [c8]
                try rw [c18]
                exact ⟨rI (show c = mPlat (g 6) route ear tone what from (by unfold mPlat; rw [← hs, mPl_end (by omega)]; grind)), M9⟩
              · refine g_iload C dX3_plateau_122 2 rfl ?_
                refine g_goto C dX3_plateau_124 (tgt := 129) (by decide) ?_
                refine g_iret C E dX3_plateau_129 rfl ?_
                try rw [c8]
                try rw [c18]
                exact ⟨rI (show b = mPlat (g 6) route ear tone what from (by unfold mPlat; rw [← hs, mPl_end (by omega)]; grind)), M9⟩
            · refine g_iload C dX3_plateau_111 3 rfl ?_
              refine g_goto C dX3_plateau_113 (tgt := 129) (by decide) ?_
              refine g_iret C E dX3_plateau_129 rfl ?_
              try rw [c8]
              try rw [c18]
              exact ⟨rI (show a = mPlat (g 6) route ear tone what from (by unfold mPlat; rw [← hs, mPl_end (by omega)]; grind)), M9⟩
          · refine g_aload_n C dX3_plateau_58 4 rfl ?_
            refine g_iload_n C dX3_plateau_59 5 rfl ?_
            refine g_iload_n C dX3_plateau_60 6 rfl ?_
            refine g_iload_n C dX3_plateau_61 7 rfl ?_
            refine g_iload C dX3_plateau_62 0 rfl ?_
            refine g_callV C dX3_plateau_64 lkX3_205 M9.o rfl (As := [.int (iI route), .int (iI ear), .int (iI tone), .int (iI k)]) (c_X3_leastOf M9 route ear tone k hO (by omega) (by omega) (by omega) (by omega)) rfl rfl ⟨Nat.le_of_ble_eq_true rfl, Nat.le_of_ble_eq_true rfl⟩ (Nat.le_of_ble_eq_true rfl) ?_
            rintro _ _ ⟨rfl, rfl⟩
            show gW X h8 0 0 67 [(8, .int (iI k)), (7, .int (iI c)), (6, .int (iI b)), (5, .int (iI a)), (0, .ref m), (1, .int (iI route)), (2, .int (iI ear)), (3, .int (iI tone)), (4, .int (iI what))] [.int (iI (mLeast (g 6) route ear tone k))]
            have b10 := mLeast_b (g 6) route ear tone k
            refine g_aload_n C dX3_plateau_67 4 rfl ?_
            refine g_iload_n C dX3_plateau_68 5 rfl ?_
            refine g_iload_n C dX3_plateau_69 6 rfl ?_
            refine g_iload_n C dX3_plateau_70 7 rfl ?_
            refine g_callV C dX3_plateau_71 lkX3_209 M9.o rfl (As := [.int (iI route), .int (iI ear), .int (iI tone)]) (c_X3_ownOf M9 route ear tone (by omega) (by omega) (by omega)) rfl rfl ⟨Nat.le_of_ble_eq_true rfl, Nat.le_of_ble_eq_true rfl⟩ (Nat.le_of_ble_eq_true rfl) ?_
            rintro _ _ ⟨rfl, rfl⟩
            show gW X h8 0 0 74 [(8, .int (iI k)), (7, .int (iI c)), (6, .int (iI b)), (5, .int (iI a)), (0, .ref m), (1, .int (iI route)), (2, .int (iI ear)), (3, .int (iI tone)), (4, .int (iI what))] [.int (iI (g 6 (6 + 12 * route + 6 * ear + tone))), .int (iI (mLeast (g 6) route ear tone k))]
            have b11 := hiA (6 + 12 * route + 6 * ear + tone) (by omega) (by omega)
            refine g_icmp_ne C dX3_plateau_74 (tgt := 100) (by decide) (gRo (by omega) (by omega)) (gRo (by omega) (by omega)) (fun c74 => ?_) (fun c74 => ?_)
            · refine g_iinc C dX3_plateau_100 (v := k + 1) (lv' := [(8, .int (iI (k + 1))), (7, .int (iI c)), (6, .int (iI b)), (5, .int (iI a)), (0, .ref m), (1, .int (iI route)), (2, .int (iI ear)), (3, .int (iI tone)), (4, .int (iI what))]) 0 rfl rfl (Nat.le_of_ble_eq_true rfl) rfl ?_
              refine g_goto C dX3_plateau_103 (tgt := 51) (by decide) ?_
              exact ih (k + 1) a b c (by omega) (by omega) (by omega) (by rw [← hs, mPl_step (e := 25) (k := k) (by omega)]; rw [show mPlP (g 6) route ear tone k = false from decide_eq_false (by assumption)]; rfl)
            · refine g_iload C dX3_plateau_77 3 rfl ?_
              refine g_bipush C dX3_plateau_79 (by decide) ?_
              refine g_icmp_ne C dX3_plateau_81 (tgt := 89) (by decide) (gRo (by omega) (by omega)) (gRo (by decide) (by decide)) (fun c81 => ?_) (fun c81 => ?_)
              · refine g_iload C dX3_plateau_89 3 rfl ?_
                refine g_istore C dX3_plateau_91 (lv' := [(5, .int (iI a)), (8, .int (iI k)), (7, .int (iI c)), (6, .int (iI b)), (0, .ref m), (1, .int (iI route)), (2, .int (iI ear)), (3, .int (iI tone)), (4, .int (iI what))]) (Nat.le_of_ble_eq_true rfl) rfl ?_
                refine g_iload C dX3_plateau_93 1 rfl ?_
                refine g_istore C dX3_plateau_95 (lv' := [(6, .int (iI k)), (5, .int (iI a)), (8, .int (iI k)), (7, .int (iI c)), (0, .ref m), (1, .int (iI route)), (2, .int (iI ear)), (3, .int (iI tone)), (4, .int (iI what))]) (Nat.le_of_ble_eq_true rfl) rfl ?_
                refine g_iinc C dX3_plateau_97 (v := c + 1) (lv' := [(7, .int (iI (c + 1))), (6, .int (iI k)), (5, .int (iI a)), (8, .int (iI k)), (0, .ref m), (1, .int (iI route)), (2, .int (iI ear)), (3, .int (iI tone)), (4, .int (iI what))]) 3 rfl rfl (Nat.le_of_ble_eq_true rfl) rfl ?_
                refine g_iinc C dX3_plateau_100 (v := k + 1) (lv' := [(8, .int (iI (k + 1))), (7, .int (iI (c + 1))), (6, .int (iI k)), (5, .int (iI a)), (0, .ref m), (1, .int (iI route)), (2, .int (iI ear)), (3, .int (iI tone)), (4, .int (iI what))]) 3 rfl rfl (Nat.le_of_ble_eq_true rfl) rfl ?_
                refine g_goto C dX3_plateau_103 (tgt := 51) (by decide) ?_
                exact ih (k + 1) a k (c + 1) (by omega) (by omega) (by omega) (by rw [← hs, mPl_step (e := 25) (k := k) (by omega)]; rw [if_pos (show mPlP (g 6) route ear tone k = true from decide_eq_true (by assumption))]; congr 1; grind)
              · refine g_iload C dX3_plateau_84 0 rfl ?_
                refine g_goto C dX3_plateau_86 (tgt := 91) (by decide) ?_
                refine g_istore C dX3_plateau_91 (lv' := [(5, .int (iI k)), (8, .int (iI k)), (7, .int (iI c)), (6, .int (iI b)), (0, .ref m), (1, .int (iI route)), (2, .int (iI ear)), (3, .int (iI tone)), (4, .int (iI what))]) (Nat.le_of_ble_eq_true rfl) rfl ?_
                refine g_iload C dX3_plateau_93 1 rfl ?_
                refine g_istore C dX3_plateau_95 (lv' := [(6, .int (iI k)), (5, .int (iI k)), (8, .int (iI k)), (7, .int (iI c)), (0, .ref m), (1, .int (iI route)), (2, .int (iI ear)), (3, .int (iI tone)), (4, .int (iI what))]) (Nat.le_of_ble_eq_true rfl) rfl ?_
                refine g_iinc C dX3_plateau_97 (v := c + 1) (lv' := [(7, .int (iI (c + 1))), (6, .int (iI k)), (5, .int (iI k)), (8, .int (iI k)), (0, .ref m), (1, .int (iI route)), (2, .int (iI ear)), (3, .int (iI tone)), (4, .int (iI what))]) 3 rfl rfl (Nat.le_of_ble_eq_true rfl) rfl ?_
                refine g_iinc C dX3_plateau_100 (v := k + 1) (lv' := [(8, .int (iI (k + 1))), (7, .int (iI (c + 1))), (6, .int (iI k)), (5, .int (iI k)), (0, .ref m), (1, .int (iI route)), (2, .int (iI ear)), (3, .int (iI tone)), (4, .int (iI what))]) 3 rfl rfl (Nat.le_of_ble_eq_true rfl) rfl ?_
                refine g_goto C dX3_plateau_103 (tgt := 51) (by decide) ?_
                exact ih (k + 1) k k (c + 1) (by omega) (by omega) (by omega) (by rw [← hs, mPl_step (e := 25) (k := k) (by omega)]; rw [if_pos (show mPlP (g 6) route ear tone k = true from decide_eq_true (by assumption))]; congr 1; grind)
      exact L51 26 0 (-2) (-2) 0 (by omega) (by omega) (by decide) rfl
theorem c_X3_zone {G : gG} {h : gH} {h0 : gH} {m : Nat} {ad : Nat → Nat} {f : Nat → Int} {g : Nat → Int → Int} (M : mSt G h0 h m ad f g) (route : Int) (ear : Int) (tone : Int) (level : Int) (noise : Int) (hroute1 : -2147483648 ≤ route) (hroute2 : route ≤ 2147483647) (hear1 : -2147483648 ≤ ear) (hear2 : ear ≤ 2147483647) (htone1 : -2147483648 ≤ tone) (htone2 : tone ≤ 2147483647) (hlevel1 : -2147483648 ≤ level) (hlevel2 : level ≤ 2147483647) (hnoise1 : -2147483648 ≤ noise) (hnoise2 : noise ≤ 2147483647) (hf8 : f 8 = 0 ∨ f 8 = 1) (hO8 : f 8 = 1 → mOk (g 6) (g 18)) : gC G yX3_zone (.code yX3_zone cX3_zone 9 (some .int)) 3 0 0 [.ref m, .int (iI route), .int (iI ear), .int (iI tone), .int (iI level), .int (iI noise)] h (fun r h' => r = some (.int (iI (mAns (mW2 (mOne (f 8) (g 6) route ear tone) (mIn level 0 24 && mIn noise (-1) 24)) (mZone (g 6) route ear tone level noise)))) ∧ mSt G h0 h' m ad (mRef f (mW2 (mOne (f 8) (g 6) route ear tone) (mIn level 0 24 && mIn noise (-1) 24))) g) := by
  refine gC.of (by decide) (Nat.le_of_ble_eq_true rfl) rfl ?_
  intro X C E hI
  have C : gCtx G X cX3_zone 9 RX3 3 (some .int) := C
  refine g_aload_n C dX3_zone_0 0 rfl ?_
  refine g_aload_n C dX3_zone_1 0 rfl ?_
  refine g_iload_n C dX3_zone_2 1 rfl ?_
  refine g_iload_n C dX3_zone_3 2 rfl ?_
  refine g_iload_n C dX3_zone_4 3 rfl ?_
  refine g_callV C dX3_zone_5 lkX3_188 M.o rfl (As := [.int (iI route), .int (iI ear), .int (iI tone)]) (c_X3_isOne M route ear tone (by omega) (by omega) (by omega) (by omega) (by omega) (by omega) hf8 hO8) rfl rfl ⟨Nat.le_of_ble_eq_true rfl, Nat.le_of_ble_eq_true rfl⟩ (Nat.le_of_ble_eq_true rfl) ?_
  rintro _ _ ⟨rfl, rfl⟩
  refine g_iload C dX3_zone_8 4 rfl ?_
  refine g_iconst C dX3_zone_10 ?_
  refine g_bipush C dX3_zone_11 (by decide) ?_
  refine g_callS C dX3_zone_13 lkX3_70 (As := [.int (iI level), .int (iI 0), .int (iI 24)]) (c_X3_in level 0 24 (by omega) (by omega) (by decide) (by decide) (by decide) (by decide)) rfl rfl ⟨Nat.le_of_ble_eq_true rfl, Nat.le_of_ble_eq_true rfl⟩ (Nat.le_of_ble_eq_true rfl) ?_
  rintro _ _ ⟨rfl, rfl⟩
  refine g_ifF C dX3_zone_16 (tgt := 34) (by decide) (fun c16 => ?_) (fun c16 => ?_)
  · have fb1 := mIn_f.mp c16
    refine g_iconst C dX3_zone_34 ?_
    cases hb2 : mOne (f 8) (g 6) route ear tone
    · refine g_callS C dX3_zone_35 lkX3_195 (As := [.int (iI (gb false)), .int (iI 0)]) (c_X3_unless_2 false false) rfl rfl ⟨Nat.le_of_ble_eq_true rfl, Nat.le_of_ble_eq_true rfl⟩ (Nat.le_of_ble_eq_true rfl) ?_
      rintro _ _ ⟨rfl, rfl⟩
      show gW X h 0 0 38 [(0, .ref m), (1, .int (iI route)), (2, .int (iI ear)), (3, .int (iI tone)), (4, .int (iI level)), (5, .int (iI noise))] [.int (iI 1), .ref m]
      refine g_callV C dX3_zone_38 lkX3_156 M.o rfl (As := [.int (iI 1)]) (c_X3_isRefused M 1 (by decide) (by decide)) rfl rfl ⟨Nat.le_of_ble_eq_true rfl, Nat.le_of_ble_eq_true rfl⟩ (Nat.le_of_ble_eq_true rfl) ?_
      rintro _ h3 ⟨rfl, M4⟩
      show gW X h3 0 0 41 [(0, .ref m), (1, .int (iI route)), (2, .int (iI ear)), (3, .int (iI tone)), (4, .int (iI level)), (5, .int (iI noise))] [.int (iI (gb true))]
      refine g_ifF C dX3_zone_41 (tgt := 46) (by decide) (fun q => absurd q (by decide)) (fun q => ?_)
      refine g_iconst C dX3_zone_44 ?_
      refine g_iret C E dX3_zone_45 rfl ?_
      try rw [c16]
      try rw [hb2]
      exact ⟨rfl, M4⟩
    · have fb5 := mOne_t hb2
      have hO := hO8 fb5.1
      obtain ⟨hI_, hr, hn, hT, hS_⟩ := id hO
      obtain ⟨hi0, hi1, hi2, hi3, hi4, hi5, hiA, hiR⟩ := id hI_
      obtain ⟨hs1, hs3, hs4, hs5, hs6, hs7, hs8, hs11, hs2⟩ := id hS_
      refine g_callS C dX3_zone_35 lkX3_195 (As := [.int (iI (gb true)), .int (iI 0)]) (c_X3_unless_2 true false) rfl rfl ⟨Nat.le_of_ble_eq_true rfl, Nat.le_of_ble_eq_true rfl⟩ (Nat.le_of_ble_eq_true rfl) ?_
      rintro _ _ ⟨rfl, rfl⟩
      show gW X h 0 0 38 [(0, .ref m), (1, .int (iI route)), (2, .int (iI ear)), (3, .int (iI tone)), (4, .int (iI level)), (5, .int (iI noise))] [.int (iI 2), .ref m]
      refine g_callV C dX3_zone_38 lkX3_156 M.o rfl (As := [.int (iI 2)]) (c_X3_isRefused M 2 (by decide) (by decide)) rfl rfl ⟨Nat.le_of_ble_eq_true rfl, Nat.le_of_ble_eq_true rfl⟩ (Nat.le_of_ble_eq_true rfl) ?_
      rintro _ h6 ⟨rfl, M7⟩
      show gW X h6 0 0 41 [(0, .ref m), (1, .int (iI route)), (2, .int (iI ear)), (3, .int (iI tone)), (4, .int (iI level)), (5, .int (iI noise))] [.int (iI (gb true))]
      refine g_ifF C dX3_zone_41 (tgt := 46) (by decide) (fun q => absurd q (by decide)) (fun q => ?_)
      refine g_iconst C dX3_zone_44 ?_
      refine g_iret C E dX3_zone_45 rfl ?_
      try rw [c16]
      try rw [hb2]
      exact ⟨rfl, M7⟩
  · have fb8 := mIn_t.mp c16
    refine g_iload C dX3_zone_19 5 rfl ?_
    refine g_iconst C dX3_zone_21 ?_
    refine g_bipush C dX3_zone_22 (by decide) ?_
    refine g_callS C dX3_zone_24 lkX3_70 (As := [.int (iI noise), .int (iI (-1)), .int (iI 24)]) (c_X3_in noise (-1) 24 (by omega) (by omega) (by decide) (by decide) (by decide) (by decide)) rfl rfl ⟨Nat.le_of_ble_eq_true rfl, Nat.le_of_ble_eq_true rfl⟩ (Nat.le_of_ble_eq_true rfl) ?_
    rintro _ _ ⟨rfl, rfl⟩
    refine g_ifF C dX3_zone_27 (tgt := 34) (by decide) (fun c27 => ?_) (fun c27 => ?_)
    · have fb9 := mIn_f.mp c27
      refine g_iconst C dX3_zone_34 ?_
      cases hb10 : mOne (f 8) (g 6) route ear tone
      · refine g_callS C dX3_zone_35 lkX3_195 (As := [.int (iI (gb false)), .int (iI 0)]) (c_X3_unless_2 false false) rfl rfl ⟨Nat.le_of_ble_eq_true rfl, Nat.le_of_ble_eq_true rfl⟩ (Nat.le_of_ble_eq_true rfl) ?_
        rintro _ _ ⟨rfl, rfl⟩
        show gW X h 0 0 38 [(0, .ref m), (1, .int (iI route)), (2, .int (iI ear)), (3, .int (iI tone)), (4, .int (iI level)), (5, .int (iI noise))] [.int (iI 1), .ref m]
        refine g_callV C dX3_zone_38 lkX3_156 M.o rfl (As := [.int (iI 1)]) (c_X3_isRefused M 1 (by decide) (by decide)) rfl rfl ⟨Nat.le_of_ble_eq_true rfl, Nat.le_of_ble_eq_true rfl⟩ (Nat.le_of_ble_eq_true rfl) ?_
        rintro _ h11 ⟨rfl, M12⟩
        show gW X h11 0 0 41 [(0, .ref m), (1, .int (iI route)), (2, .int (iI ear)), (3, .int (iI tone)), (4, .int (iI level)), (5, .int (iI noise))] [.int (iI (gb true))]
        refine g_ifF C dX3_zone_41 (tgt := 46) (by decide) (fun q => absurd q (by decide)) (fun q => ?_)
        refine g_iconst C dX3_zone_44 ?_
        refine g_iret C E dX3_zone_45 rfl ?_
        try rw [c16]
        try rw [c27]
        try rw [hb10]
        exact ⟨rfl, M12⟩
      · have fb13 := mOne_t hb10
        have hO := hO8 fb13.1
        obtain ⟨hI_, hr, hn, hT, hS_⟩ := id hO
        obtain ⟨hi0, hi1, hi2, hi3, hi4, hi5, hiA, hiR⟩ := id hI_
        obtain ⟨hs1, hs3, hs4, hs5, hs6, hs7, hs8, hs11, hs2⟩ := id hS_
        refine g_callS C dX3_zone_35 lkX3_195 (As := [.int (iI (gb true)), .int (iI 0)]) (c_X3_unless_2 true false) rfl rfl ⟨Nat.le_of_ble_eq_true rfl, Nat.le_of_ble_eq_true rfl⟩ (Nat.le_of_ble_eq_true rfl) ?_
        rintro _ _ ⟨rfl, rfl⟩
        show gW X h 0 0 38 [(0, .ref m), (1, .int (iI route)), (2, .int (iI ear)), (3, .int (iI tone)), (4, .int (iI level)), (5, .int (iI noise))] [.int (iI 2), .ref m]
        refine g_callV C dX3_zone_38 lkX3_156 M.o rfl (As := [.int (iI 2)]) (c_X3_isRefused M 2 (by decide) (by decide)) rfl rfl ⟨Nat.le_of_ble_eq_true rfl, Nat.le_of_ble_eq_true rfl⟩ (Nat.le_of_ble_eq_true rfl) ?_
        rintro _ h14 ⟨rfl, M15⟩
        show gW X h14 0 0 41 [(0, .ref m), (1, .int (iI route)), (2, .int (iI ear)), (3, .int (iI tone)), (4, .int (iI level)), (5, .int (iI noise))] [.int (iI (gb true))]
        refine g_ifF C dX3_zone_41 (tgt := 46) (by decide) (fun q => absurd q (by decide)) (fun q => ?_)
        refine g_iconst C dX3_zone_44 ?_
        refine g_iret C E dX3_zone_45 rfl ?_
        try rw [c16]
        try rw [c27]
        try rw [hb10]
        exact ⟨rfl, M15⟩
    · have fb16 := mIn_t.mp c27
      refine g_iconst C dX3_zone_30 ?_
      refine g_goto C dX3_zone_31 (tgt := 35) (by decide) ?_
      cases hb17 : mOne (f 8) (g 6) route ear tone
      · refine g_callS C dX3_zone_35 lkX3_195 (As := [.int (iI (gb false)), .int (iI 1)]) (c_X3_unless_2 false true) rfl rfl ⟨Nat.le_of_ble_eq_true rfl, Nat.le_of_ble_eq_true rfl⟩ (Nat.le_of_ble_eq_true rfl) ?_
        rintro _ _ ⟨rfl, rfl⟩
        show gW X h 0 0 38 [(0, .ref m), (1, .int (iI route)), (2, .int (iI ear)), (3, .int (iI tone)), (4, .int (iI level)), (5, .int (iI noise))] [.int (iI 1), .ref m]
        refine g_callV C dX3_zone_38 lkX3_156 M.o rfl (As := [.int (iI 1)]) (c_X3_isRefused M 1 (by decide) (by decide)) rfl rfl ⟨Nat.le_of_ble_eq_true rfl, Nat.le_of_ble_eq_true rfl⟩ (Nat.le_of_ble_eq_true rfl) ?_
        rintro _ h18 ⟨rfl, M19⟩
        show gW X h18 0 0 41 [(0, .ref m), (1, .int (iI route)), (2, .int (iI ear)), (3, .int (iI tone)), (4, .int (iI level)), (5, .int (iI noise))] [.int (iI (gb true))]
        refine g_ifF C dX3_zone_41 (tgt := 46) (by decide) (fun q => absurd q (by decide)) (fun q => ?_)
        refine g_iconst C dX3_zone_44 ?_
        refine g_iret C E dX3_zone_45 rfl ?_
        try rw [c16]
        try rw [c27]
        try rw [hb17]
        exact ⟨rfl, M19⟩
      · have fb20 := mOne_t hb17
        have hO := hO8 fb20.1
        obtain ⟨hI_, hr, hn, hT, hS_⟩ := id hO
        obtain ⟨hi0, hi1, hi2, hi3, hi4, hi5, hiA, hiR⟩ := id hI_
        obtain ⟨hs1, hs3, hs4, hs5, hs6, hs7, hs8, hs11, hs2⟩ := id hS_
        refine g_callS C dX3_zone_35 lkX3_195 (As := [.int (iI (gb true)), .int (iI 1)]) (c_X3_unless_2 true true) rfl rfl ⟨Nat.le_of_ble_eq_true rfl, Nat.le_of_ble_eq_true rfl⟩ (Nat.le_of_ble_eq_true rfl) ?_
        rintro _ _ ⟨rfl, rfl⟩
        show gW X h 0 0 38 [(0, .ref m), (1, .int (iI route)), (2, .int (iI ear)), (3, .int (iI tone)), (4, .int (iI level)), (5, .int (iI noise))] [.int (iI 0), .ref m]
        refine g_callV C dX3_zone_38 lkX3_156 M.o rfl (As := [.int (iI 0)]) (c_X3_isRefused M 0 (by decide) (by decide)) rfl rfl ⟨Nat.le_of_ble_eq_true rfl, Nat.le_of_ble_eq_true rfl⟩ (Nat.le_of_ble_eq_true rfl) ?_
        rintro _ h21 ⟨rfl, M22⟩
        show gW X h21 0 0 41 [(0, .ref m), (1, .int (iI route)), (2, .int (iI ear)), (3, .int (iI tone)), (4, .int (iI level)), (5, .int (iI noise))] [.int (iI (gb false))]
        refine g_ifF C dX3_zone_41 (tgt := 46) (by decide) (fun q => ?_) (fun q => absurd q (by decide))
        refine g_aload_n C dX3_zone_46 0 rfl ?_
        refine g_iload_n C dX3_zone_47 1 rfl ?_
        refine g_iload_n C dX3_zone_48 2 rfl ?_
        refine g_iload_n C dX3_zone_49 3 rfl ?_
        refine g_iload C dX3_zone_50 4 rfl ?_
        refine g_iload C dX3_zone_52 5 rfl ?_
        refine g_callV C dX3_zone_54 lkX3_198 M22.o rfl (As := [.int (iI route), .int (iI ear), .int (iI tone), .int (iI level), .int (iI noise)]) (c_X3_heardBy M22 route ear tone level noise hO (by omega) (by omega) (by omega) (by omega) (by omega)) rfl rfl ⟨Nat.le_of_ble_eq_true rfl, Nat.le_of_ble_eq_true rfl⟩ (Nat.le_of_ble_eq_true rfl) ?_
        rintro _ _ ⟨rfl, rfl⟩
        show gW X h21 0 0 57 [(0, .ref m), (1, .int (iI route)), (2, .int (iI ear)), (3, .int (iI tone)), (4, .int (iI level)), (5, .int (iI noise))] [.int (iI (mHB (g 6) route ear tone level noise))]
        have b23 := mHB_b (g 6) route ear tone level noise
        refine g_istore C dX3_zone_57 (lv' := [(6, .int (iI (mHB (g 6) route ear tone level noise))), (0, .ref m), (1, .int (iI route)), (2, .int (iI ear)), (3, .int (iI tone)), (4, .int (iI level)), (5, .int (iI noise))]) (Nat.le_of_ble_eq_true rfl) rfl ?_
        refine g_iload C dX3_zone_59 0 rfl ?_
        refine g_iload_n C dX3_zone_61 3 rfl ?_
        refine g_ishr C dX3_zone_62 (mHB_sh (by omega)) ?_
        refine g_iconst C dX3_zone_63 ?_
        refine g_iand C dX3_zone_64 (mHB_an (by omega)) ?_
        refine g_istore C dX3_zone_65 (lv' := [(7, .int (iI (gb (mHear (g 6) route ear tone level noise ear)))), (6, .int (iI (mHB (g 6) route ear tone level noise))), (0, .ref m), (1, .int (iI route)), (2, .int (iI ear)), (3, .int (iI tone)), (4, .int (iI level)), (5, .int (iI noise))]) (Nat.le_of_ble_eq_true rfl) rfl ?_
        refine g_aload_n C dX3_zone_67 2 rfl ?_
        refine g_iload_n C dX3_zone_68 3 rfl ?_
        refine g_iload_n C dX3_zone_69 4 rfl ?_
        refine g_iload_n C dX3_zone_70 5 rfl ?_
        refine g_iload C dX3_zone_71 6 rfl ?_
        refine g_iconst C dX3_zone_73 ?_
        refine g_callV C dX3_zone_74 lkX3_198 M22.o rfl (As := [.int (iI route), .int (iI ear), .int (iI tone), .int (iI level), .int (iI (-1))]) (c_X3_heardBy M22 route ear tone level (-1) hO (by omega) (by omega) (by omega) (by omega) (by omega)) rfl rfl ⟨Nat.le_of_ble_eq_true rfl, Nat.le_of_ble_eq_true rfl⟩ (Nat.le_of_ble_eq_true rfl) ?_
        rintro _ _ ⟨rfl, rfl⟩
        show gW X h21 0 0 77 [(7, .int (iI (gb (mHear (g 6) route ear tone level noise ear)))), (6, .int (iI (mHB (g 6) route ear tone level noise))), (0, .ref m), (1, .int (iI route)), (2, .int (iI ear)), (3, .int (iI tone)), (4, .int (iI level)), (5, .int (iI noise))] [.int (iI (mHB (g 6) route ear tone level (-1)))]
        have b24 := mHB_b (g 6) route ear tone level (-1)
        refine g_iload_n C dX3_zone_77 4 rfl ?_
        refine g_ishr C dX3_zone_78 (mHB_sh (by omega)) ?_
        refine g_iconst C dX3_zone_79 ?_
        refine g_iand C dX3_zone_80 (mHB_an (by omega)) ?_
        refine g_istore C dX3_zone_81 (lv' := [(8, .int (iI (gb (mHear (g 6) route ear tone level (-1) ear)))), (7, .int (iI (gb (mHear (g 6) route ear tone level noise ear)))), (6, .int (iI (mHB (g 6) route ear tone level noise))), (0, .ref m), (1, .int (iI route)), (2, .int (iI ear)), (3, .int (iI tone)), (4, .int (iI level)), (5, .int (iI noise))]) (Nat.le_of_ble_eq_true rfl) rfl ?_
        refine g_iload C dX3_zone_83 1 rfl ?_
        refine g_iconst C dX3_zone_85 ?_
        refine g_iload C dX3_zone_86 2 rfl ?_
        refine g_iconst C dX3_zone_88 ?_
        refine g_iload_n C dX3_zone_89 5 rfl ?_
        refine g_isub C dX3_zone_90 (v := 1 - ear) rfl ?_
        refine g_ishr C dX3_zone_91 (mHB_sh (by omega)) ?_
        refine g_iconst C dX3_zone_92 ?_
        refine g_iand C dX3_zone_93 (mHB_an (by omega)) ?_
        refine g_imul C dX3_zone_94 (v := 2 * (gb (mHear (g 6) route ear tone level noise (1 - ear)))) rfl ?_
        refine g_iadd C dX3_zone_95 (v := gb (mHear (g 6) route ear tone level noise ear) + (2 * (gb (mHear (g 6) route ear tone level noise (1 - ear))))) rfl ?_
        refine g_iload C dX3_zone_96 0 rfl ?_
        refine g_iconst C dX3_zone_98 ?_
        refine g_icmp_ne C dX3_zone_99 (tgt := 111) (by decide) (gb_R _) (gRo (by decide) (by decide)) (fun c99 => ?_) (fun c99 => ?_)
        · refine g_iconst C dX3_zone_111 ?_
          refine g_iadd C dX3_zone_112 (v := gb (mHear (g 6) route ear tone level noise ear) + (2 * (gb (mHear (g 6) route ear tone level noise (1 - ear)))) + 0) rfl ?_
          refine g_iret C E dX3_zone_113 rfl ?_
          try rw [c16]
          try rw [c27]
          try rw [hb17]
          exact ⟨rI (show gb (mHear (g 6) route ear tone level noise ear) + (2 * (gb (mHear (g 6) route ear tone level noise (1 - ear)))) + 0 = mZone (g 6) route ear tone level noise from (by unfold mZone; grind [gb])), M22⟩
        · refine g_iload C dX3_zone_102 1 rfl ?_
          refine g_ifT C dX3_zone_104 (tgt := 111) (by decide) (fun c104 => ?_) (fun c104 => ?_)
          · refine g_iconst C dX3_zone_111 ?_
            refine g_iadd C dX3_zone_112 (v := gb (mHear (g 6) route ear tone level noise ear) + (2 * (gb (mHear (g 6) route ear tone level noise (1 - ear)))) + 0) rfl ?_
            refine g_iret C E dX3_zone_113 rfl ?_
            try rw [c16]
            try rw [c27]
            try rw [hb17]
            exact ⟨rI (show gb (mHear (g 6) route ear tone level noise ear) + (2 * (gb (mHear (g 6) route ear tone level noise (1 - ear)))) + 0 = mZone (g 6) route ear tone level noise from (by unfold mZone; grind [gb])), M22⟩
          · refine g_iconst C dX3_zone_107 ?_
            refine g_goto C dX3_zone_108 (tgt := 112) (by decide) ?_
            refine g_iadd C dX3_zone_112 (v := gb (mHear (g 6) route ear tone level noise ear) + (2 * (gb (mHear (g 6) route ear tone level noise (1 - ear)))) + 4) rfl ?_
            refine g_iret C E dX3_zone_113 rfl ?_
            try rw [c16]
            try rw [c27]
            try rw [hb17]
            exact ⟨rI (show gb (mHear (g 6) route ear tone level noise ear) + (2 * (gb (mHear (g 6) route ear tone level noise (1 - ear)))) + 4 = mZone (g 6) route ear tone level noise from (by unfold mZone; grind [gb])), M22⟩
theorem c_X3_provable {G : gG} {h : gH} {h0 : gH} {m : Nat} {ad : Nat → Nat} {f : Nat → Int} {g : Nat → Int → Int} (M : mSt G h0 h m ad f g) (route : Int) (ear : Int) (tone : Int) (what : Int) (hroute1 : -2147483648 ≤ route) (hroute2 : route ≤ 2147483647) (hear1 : -2147483648 ≤ ear) (hear2 : ear ≤ 2147483647) (htone1 : -2147483648 ≤ tone) (htone2 : tone ≤ 2147483647) (hwhat1 : -2147483648 ≤ what) (hwhat2 : what ≤ 2147483647) (hf8 : f 8 = 0 ∨ f 8 = 1) (hO8 : f 8 = 1 → mOk (g 6) (g 18)) : gC G yX3_provable (.code yX3_provable cX3_provable 11 (some .int)) 4 0 0 [.ref m, .int (iI route), .int (iI ear), .int (iI tone), .int (iI what)] h (fun r h' => r = some (.int (iI (mAns (mW1 (mOne (f 8) (g 6) route ear tone && mIn what 0 2)) (mProv (g 6) route ear tone what)))) ∧ mSt G h0 h' m ad (mRef f (mW1 (mOne (f 8) (g 6) route ear tone && mIn what 0 2))) g) := by
  refine gC.of (by decide) (Nat.le_of_ble_eq_true rfl) rfl ?_
  intro X C E hI
  have C : gCtx G X cX3_provable 11 RX3 4 (some .int) := C
  refine g_aload_n C dX3_provable_0 0 rfl ?_
  refine g_aload_n C dX3_provable_1 0 rfl ?_
  refine g_iload_n C dX3_provable_2 1 rfl ?_
  refine g_iload_n C dX3_provable_3 2 rfl ?_
  refine g_iload_n C dX3_provable_4 3 rfl ?_
  refine g_callV C dX3_provable_5 lkX3_188 M.o rfl (As := [.int (iI route), .int (iI ear), .int (iI tone)]) (c_X3_isOne M route ear tone (by omega) (by omega) (by omega) (by omega) (by omega) (by omega) hf8 hO8) rfl rfl ⟨Nat.le_of_ble_eq_true rfl, Nat.le_of_ble_eq_true rfl⟩ (Nat.le_of_ble_eq_true rfl) ?_
  rintro _ _ ⟨rfl, rfl⟩
  refine g_ifF C dX3_provable_8 (tgt := 25) (by decide) (fun c8 => ?_) (fun c8 => ?_)
  · refine g_iconst C dX3_provable_25 ?_
    refine g_callS C dX3_provable_26 lkX3_191 (As := [.int (iI 0)]) (c_X3_unless false) rfl rfl ⟨Nat.le_of_ble_eq_true rfl, Nat.le_of_ble_eq_true rfl⟩ (Nat.le_of_ble_eq_true rfl) ?_
    rintro _ _ ⟨rfl, rfl⟩
    show gW X h 0 0 29 [(0, .ref m), (1, .int (iI route)), (2, .int (iI ear)), (3, .int (iI tone)), (4, .int (iI what))] [.int (iI 1), .ref m]
    refine g_callV C dX3_provable_29 lkX3_156 M.o rfl (As := [.int (iI 1)]) (c_X3_isRefused M 1 (by decide) (by decide)) rfl rfl ⟨Nat.le_of_ble_eq_true rfl, Nat.le_of_ble_eq_true rfl⟩ (Nat.le_of_ble_eq_true rfl) ?_
    rintro _ h1 ⟨rfl, M2⟩
    show gW X h1 0 0 32 [(0, .ref m), (1, .int (iI route)), (2, .int (iI ear)), (3, .int (iI tone)), (4, .int (iI what))] [.int (iI (gb true))]
    refine g_ifF C dX3_provable_32 (tgt := 37) (by decide) (fun q => absurd q (by decide)) (fun q => ?_)
    refine g_iconst C dX3_provable_35 ?_
    refine g_iret C E dX3_provable_36 rfl ?_
    try rw [c8]
    exact ⟨rfl, M2⟩
  · have fb3 := mOne_t c8
    have hO := hO8 fb3.1
    obtain ⟨hI_, hr, hn, hT, hS_⟩ := id hO
    obtain ⟨hi0, hi1, hi2, hi3, hi4, hi5, hiA, hiR⟩ := id hI_
    obtain ⟨hs1, hs3, hs4, hs5, hs6, hs7, hs8, hs11, hs2⟩ := id hS_
    refine g_iload C dX3_provable_11 4 rfl ?_
    refine g_iconst C dX3_provable_13 ?_
    refine g_iconst C dX3_provable_14 ?_
    refine g_callS C dX3_provable_15 lkX3_70 (As := [.int (iI what), .int (iI 0), .int (iI 2)]) (c_X3_in what 0 2 (by omega) (by omega) (by decide) (by decide) (by decide) (by decide)) rfl rfl ⟨Nat.le_of_ble_eq_true rfl, Nat.le_of_ble_eq_true rfl⟩ (Nat.le_of_ble_eq_true rfl) ?_
    rintro _ _ ⟨rfl, rfl⟩
    refine g_ifF C dX3_provable_18 (tgt := 25) (by decide) (fun c18 => ?_) (fun c18 => ?_)
    · have fb4 := mIn_f.mp c18
      refine g_iconst C dX3_provable_25 ?_
      refine g_callS C dX3_provable_26 lkX3_191 (As := [.int (iI 0)]) (c_X3_unless false) rfl rfl ⟨Nat.le_of_ble_eq_true rfl, Nat.le_of_ble_eq_true rfl⟩ (Nat.le_of_ble_eq_true rfl) ?_
      rintro _ _ ⟨rfl, rfl⟩
      show gW X h 0 0 29 [(0, .ref m), (1, .int (iI route)), (2, .int (iI ear)), (3, .int (iI tone)), (4, .int (iI what))] [.int (iI 1), .ref m]
      refine g_callV C dX3_provable_29 lkX3_156 M.o rfl (As := [.int (iI 1)]) (c_X3_isRefused M 1 (by decide) (by decide)) rfl rfl ⟨Nat.le_of_ble_eq_true rfl, Nat.le_of_ble_eq_true rfl⟩ (Nat.le_of_ble_eq_true rfl) ?_
      rintro _ h5 ⟨rfl, M6⟩
      show gW X h5 0 0 32 [(0, .ref m), (1, .int (iI route)), (2, .int (iI ear)), (3, .int (iI tone)), (4, .int (iI what))] [.int (iI (gb true))]
      refine g_ifF C dX3_provable_32 (tgt := 37) (by decide) (fun q => absurd q (by decide)) (fun q => ?_)
      refine g_iconst C dX3_provable_35 ?_
      refine g_iret C E dX3_provable_36 rfl ?_
      try rw [c8]
      try rw [c18]
      exact ⟨rfl, M6⟩
    · have fb7 := mIn_t.mp c18
      refine g_iconst C dX3_provable_21 ?_
      refine g_goto C dX3_provable_22 (tgt := 26) (by decide) ?_
      refine g_callS C dX3_provable_26 lkX3_191 (As := [.int (iI 1)]) (c_X3_unless true) rfl rfl ⟨Nat.le_of_ble_eq_true rfl, Nat.le_of_ble_eq_true rfl⟩ (Nat.le_of_ble_eq_true rfl) ?_
      rintro _ _ ⟨rfl, rfl⟩
      show gW X h 0 0 29 [(0, .ref m), (1, .int (iI route)), (2, .int (iI ear)), (3, .int (iI tone)), (4, .int (iI what))] [.int (iI 0), .ref m]
      refine g_callV C dX3_provable_29 lkX3_156 M.o rfl (As := [.int (iI 0)]) (c_X3_isRefused M 0 (by decide) (by decide)) rfl rfl ⟨Nat.le_of_ble_eq_true rfl, Nat.le_of_ble_eq_true rfl⟩ (Nat.le_of_ble_eq_true rfl) ?_
      rintro _ h8 ⟨rfl, M9⟩
      show gW X h8 0 0 32 [(0, .ref m), (1, .int (iI route)), (2, .int (iI ear)), (3, .int (iI tone)), (4, .int (iI what))] [.int (iI (gb false))]
      refine g_ifF C dX3_provable_32 (tgt := 37) (by decide) (fun q => ?_) (fun q => absurd q (by decide))
      refine g_aload_n C dX3_provable_37 0 rfl ?_
      refine g_iconst C dX3_provable_38 ?_
      refine g_iconst C dX3_provable_39 ?_
      refine g_iload_n C dX3_provable_40 2 rfl ?_
      refine g_isub C dX3_provable_41 (v := 1 - ear) rfl ?_
      refine g_iload_n C dX3_provable_42 3 rfl ?_
      refine g_iconst C dX3_provable_43 ?_
      refine g_callV C dX3_provable_44 lkX3_205 M9.o rfl (As := [.int (iI 0), .int (iI (1 - ear)), .int (iI tone), .int (iI (-1))]) (c_X3_leastOf M9 0 (1 - ear) tone (-1) hO (by omega) (by omega) (by omega) (by omega)) rfl rfl ⟨Nat.le_of_ble_eq_true rfl, Nat.le_of_ble_eq_true rfl⟩ (Nat.le_of_ble_eq_true rfl) ?_
      rintro _ _ ⟨rfl, rfl⟩
      show gW X h8 0 0 47 [(0, .ref m), (1, .int (iI route)), (2, .int (iI ear)), (3, .int (iI tone)), (4, .int (iI what))] [.int (iI (mLeast (g 6) 0 (1 - ear) tone (-1)))]
      have b10 := mLeast_b (g 6) 0 (1 - ear) tone (-1)
      refine g_iconst C dX3_provable_47 ?_
      refine g_iadd C dX3_provable_48 (v := mLeast (g 6) 0 (1 - ear) tone (-1) + 2) rfl ?_
      refine g_istore C dX3_provable_49 (lv' := [(5, .int (iI (mLeast (g 6) 0 (1 - ear) tone (-1) + 2))), (0, .ref m), (1, .int (iI route)), (2, .int (iI ear)), (3, .int (iI tone)), (4, .int (iI what))]) (Nat.le_of_ble_eq_true rfl) rfl ?_
      refine g_bipush C dX3_provable_51 (by decide) ?_
      refine g_aload_n C dX3_provable_53 1 rfl ?_
      refine g_iconst C dX3_provable_54 ?_
      refine g_iload_n C dX3_provable_55 3 rfl ?_
      refine g_iload_n C dX3_provable_56 4 rfl ?_
      refine g_iconst C dX3_provable_57 ?_
      refine g_callV C dX3_provable_58 lkX3_205 M9.o rfl (As := [.int (iI 1), .int (iI ear), .int (iI tone), .int (iI (-1))]) (c_X3_leastOf M9 1 ear tone (-1) hO (by omega) (by omega) (by omega) (by omega)) rfl rfl ⟨Nat.le_of_ble_eq_true rfl, Nat.le_of_ble_eq_true rfl⟩ (Nat.le_of_ble_eq_true rfl) ?_
      rintro _ _ ⟨rfl, rfl⟩
      show gW X h8 0 0 61 [(5, .int (iI (mLeast (g 6) 0 (1 - ear) tone (-1) + 2))), (0, .ref m), (1, .int (iI route)), (2, .int (iI ear)), (3, .int (iI tone)), (4, .int (iI what))] [.int (iI (mLeast (g 6) 1 ear tone (-1))), .int (iI 24)]
      have b11 := mLeast_b (g 6) 1 ear tone (-1)
      refine g_aload_n C dX3_provable_61 1 rfl ?_
      refine g_get C dX3_provable_62 kcX3 6 q1469 (fun _ _ _ _ h9 => h9) M9.o (Nat.le_of_ble_eq_true rfl) (w := .ref (ad 6)) rfl ?_
      refine g_iconst C dX3_provable_65 ?_
      refine g_iald C dX3_provable_66 (v := g 6 1) M9.a6 (by decide) (by decide) (by decide) rfl ?_
      refine g_iadd C dX3_provable_67 (v := mLeast (g 6) 1 ear tone (-1) + g 6 1) rfl ?_
      refine g_iconst C dX3_provable_68 ?_
      refine g_isub C dX3_provable_69 (v := mLeast (g 6) 1 ear tone (-1) + g 6 1 - 1) rfl ?_
      refine g_callS C dX3_provable_70 lkX3_238 (As := [.int (iI 24), .int (iI (mLeast (g 6) 1 ear tone (-1) + g 6 1 - 1))]) (c_X3_lesser 24 (mLeast (g 6) 1 ear tone (-1) + g 6 1 - 1) (by decide) (by decide) (by omega) (by omega)) rfl rfl ⟨Nat.le_of_ble_eq_true rfl, Nat.le_of_ble_eq_true rfl⟩ (Nat.le_of_ble_eq_true rfl) ?_
      rintro _ _ ⟨rfl, rfl⟩
      refine g_istore C dX3_provable_73 (lv' := [(6, .int (iI (min 24 (mLeast (g 6) 1 ear tone (-1) + g 6 1 - 1)))), (5, .int (iI (mLeast (g 6) 0 (1 - ear) tone (-1) + 2))), (0, .ref m), (1, .int (iI route)), (2, .int (iI ear)), (3, .int (iI tone)), (4, .int (iI what))]) (Nat.le_of_ble_eq_true rfl) rfl ?_
      refine g_iconst C dX3_provable_75 ?_
      refine g_istore C dX3_provable_76 (lv' := [(7, .int (iI 0)), (6, .int (iI (min 24 (mLeast (g 6) 1 ear tone (-1) + g 6 1 - 1)))), (5, .int (iI (mLeast (g 6) 0 (1 - ear) tone (-1) + 2))), (0, .ref m), (1, .int (iI route)), (2, .int (iI ear)), (3, .int (iI tone)), (4, .int (iI what))]) (Nat.le_of_ble_eq_true rfl) rfl ?_
      refine g_bipush C dX3_provable_78 (by decide) ?_
      refine g_istore C dX3_provable_80 (lv' := [(8, .int (iI (-2))), (7, .int (iI 0)), (6, .int (iI (min 24 (mLeast (g 6) 1 ear tone (-1) + g 6 1 - 1)))), (5, .int (iI (mLeast (g 6) 0 (1 - ear) tone (-1) + 2))), (0, .ref m), (1, .int (iI route)), (2, .int (iI ear)), (3, .int (iI tone)), (4, .int (iI what))]) (Nat.le_of_ble_eq_true rfl) rfl ?_
      refine g_iconst C dX3_provable_82 ?_
      refine g_istore C dX3_provable_83 (lv' := [(9, .int (iI 0)), (8, .int (iI (-2))), (7, .int (iI 0)), (6, .int (iI (min 24 (mLeast (g 6) 1 ear tone (-1) + g 6 1 - 1)))), (5, .int (iI (mLeast (g 6) 0 (1 - ear) tone (-1) + 2))), (0, .ref m), (1, .int (iI route)), (2, .int (iI ear)), (3, .int (iI tone)), (4, .int (iI what))]) (Nat.le_of_ble_eq_true rfl) rfl ?_
      have L85 : ∀ (n : Nat) (nz : Int) (b : Int) (a : Int) (c : Int) (hm : 0 ≤ c ∧ c + 2 ≤ nz ∧ nz ≤ 28) (hn9 : 27 - c < n) (hl : 0 ≤ b ∧ b ≤ 4) (hla : -2 ≤ a ∧ a ≤ 25) (hs : mPv (fun n => mLeast (g 6) route ear tone n) (min 24 (mLeast (g 6) 1 ear tone (-1) + g 6 1 - 1)) (g 6 4) (g 6 3) (27 - c).toNat nz b a c = mPv3 (g 6) route ear tone), gW X h8 0 0 85 [(9, .int (iI c)), (8, .int (iI a)), (7, .int (iI b)), (6, .int (iI (min 24 (mLeast (g 6) 1 ear tone (-1) + g 6 1 - 1)))), (5, .int (iI nz)), (0, .ref m), (1, .int (iI route)), (2, .int (iI ear)), (3, .int (iI tone)), (4, .int (iI what))] [] := by
        intro n
        induction n with
        | zero => intro nz b a c hm hn9 hl hla hs; exfalso; omega
        | succ n ih =>
          intro nz b a c hm hn9 hl hla hs
          refine g_iload C dX3_provable_85 4 rfl ?_
          refine g_iload C dX3_provable_87 3 rfl ?_
          refine g_icmp_gt C dX3_provable_89 (tgt := 152) (by decide) (gRo (by omega) (by omega)) (gRo (by omega) (by omega)) (fun c89 => ?_) (fun c89 => ?_)
          · refine g_iload C dX3_provable_152 2 rfl ?_
            refine g_aload_n C dX3_provable_154 5 rfl ?_
            refine g_get C dX3_provable_155 kcX3 6 q1469 (fun _ _ _ _ h9 => h9) M9.o (Nat.le_of_ble_eq_true rfl) (w := .ref (ad 6)) rfl ?_
            refine g_iconst C dX3_provable_158 ?_
            refine g_iald C dX3_provable_159 (v := g 6 4) M9.a6 (by decide) (by decide) (by decide) rfl ?_
            refine g_icmp_ne C dX3_provable_160 (tgt := 167) (by decide) (gRo (by omega) (by omega)) (hiR _) (fun c160 => ?_) (fun c160 => ?_)
            · refine g_iconst C dX3_provable_167 ?_
              refine g_istore C dX3_provable_168 (lv' := [(10, .int (iI 0)), (9, .int (iI c)), (8, .int (iI a)), (7, .int (iI b)), (6, .int (iI (min 24 (mLeast (g 6) 1 ear tone (-1) + g 6 1 - 1)))), (5, .int (iI nz)), (0, .ref m), (1, .int (iI route)), (2, .int (iI ear)), (3, .int (iI tone)), (4, .int (iI what))]) (Nat.le_of_ble_eq_true rfl) rfl ?_
              refine g_iload C dX3_provable_170 10 rfl ?_
              refine g_iconst C dX3_provable_172 ?_
              refine g_icmp_ne C dX3_provable_173 (tgt := 181) (by decide) (gRo (by omega) (by omega)) (gRo (by decide) (by decide)) (fun c173 => ?_) (fun c173 => ?_)
              · refine g_iload C dX3_provable_181 10 rfl ?_
                refine g_iconst C dX3_provable_183 ?_
                refine g_icmp_ne C dX3_provable_184 (tgt := 202) (by decide) (gRo (by omega) (by omega)) (gRo (by decide) (by decide)) (fun c184 => ?_) (fun c184 => ?_)
                · refine g_iload C dX3_provable_202 0 rfl ?_
                  refine g_if_eq C dX3_provable_204 (tgt := 211) (by decide) (gRo (by decide) (by decide)) (fun _ => ?_) (fun q => absurd (by decide) q)
                  refine g_iconst C dX3_provable_211 ?_
                  refine g_iret C E dX3_provable_212 rfl ?_
                  try rw [c8]
                  try rw [c18]
                  exact ⟨rI (show 3 = mProv (g 6) route ear tone what from (by unfold mProv; rw [← hs, mPv_stop (by omega)]; grind)), M9⟩
                · refine g_iload C dX3_provable_187 0 rfl ?_
                  refine g_if_eq C dX3_provable_189 (tgt := 197) (by decide) (gRo (by decide) (by decide)) (fun _ => ?_) (fun q => absurd (by decide) q)
                  refine g_bipush C dX3_provable_197 (by decide) ?_
                  refine g_goto C dX3_provable_199 (tgt := 212) (by decide) ?_
                  refine g_iret C E dX3_provable_212 rfl ?_
                  try rw [c8]
                  try rw [c18]
                  exact ⟨rI (show -2 = mProv (g 6) route ear tone what from (by unfold mProv; rw [← hs, mPv_stop (by omega)]; grind)), M9⟩
              · refine g_iload C dX3_provable_176 1 rfl ?_
                refine g_goto C dX3_provable_178 (tgt := 212) (by decide) ?_
                refine g_iret C E dX3_provable_212 rfl ?_
                try rw [c8]
                try rw [c18]
                exact ⟨rI (show c = mProv (g 6) route ear tone what from (by unfold mProv; rw [← hs, mPv_stop (by omega)]; grind)), M9⟩
            · refine g_iconst C dX3_provable_163 ?_
              refine g_goto C dX3_provable_164 (tgt := 168) (by decide) ?_
              refine g_istore C dX3_provable_168 (lv' := [(10, .int (iI 1)), (9, .int (iI c)), (8, .int (iI a)), (7, .int (iI b)), (6, .int (iI (min 24 (mLeast (g 6) 1 ear tone (-1) + g 6 1 - 1)))), (5, .int (iI nz)), (0, .ref m), (1, .int (iI route)), (2, .int (iI ear)), (3, .int (iI tone)), (4, .int (iI what))]) (Nat.le_of_ble_eq_true rfl) rfl ?_
              refine g_iload C dX3_provable_170 10 rfl ?_
              refine g_iconst C dX3_provable_172 ?_
              refine g_icmp_ne C dX3_provable_173 (tgt := 181) (by decide) (gRo (by omega) (by omega)) (gRo (by decide) (by decide)) (fun c173 => ?_) (fun c173 => ?_)
              · refine g_iload C dX3_provable_181 10 rfl ?_
                refine g_iconst C dX3_provable_183 ?_
                refine g_icmp_ne C dX3_provable_184 (tgt := 202) (by decide) (gRo (by omega) (by omega)) (gRo (by decide) (by decide)) (fun c184 => ?_) (fun c184 => ?_)
                · refine g_iload C dX3_provable_202 0 rfl ?_
                  refine g_if_eq C dX3_provable_204 (tgt := 211) (by decide) (gRo (by decide) (by decide)) (fun q => absurd q (by decide)) (fun _ => ?_)
                  refine g_iconst C dX3_provable_207 ?_
                  refine g_goto C dX3_provable_208 (tgt := 212) (by decide) ?_
                  refine g_iret C E dX3_provable_212 rfl ?_
                  try rw [c8]
                  try rw [c18]
                  exact ⟨rI (show 2 = mProv (g 6) route ear tone what from (by unfold mProv; rw [← hs, mPv_stop (by omega)]; grind)), M9⟩
                · refine g_iload C dX3_provable_187 0 rfl ?_
                  refine g_if_eq C dX3_provable_189 (tgt := 197) (by decide) (gRo (by decide) (by decide)) (fun q => absurd q (by decide)) (fun _ => ?_)
                  refine g_iload C dX3_provable_192 2 rfl ?_
                  refine g_goto C dX3_provable_194 (tgt := 212) (by decide) ?_
                  refine g_iret C E dX3_provable_212 rfl ?_
                  try rw [c8]
                  try rw [c18]
                  exact ⟨rI (show a = mProv (g 6) route ear tone what from (by unfold mProv; rw [← hs, mPv_stop (by omega)]; grind)), M9⟩
              · refine g_iload C dX3_provable_176 1 rfl ?_
                refine g_goto C dX3_provable_178 (tgt := 212) (by decide) ?_
                refine g_iret C E dX3_provable_212 rfl ?_
                try rw [c8]
                try rw [c18]
                exact ⟨rI (show c = mProv (g 6) route ear tone what from (by unfold mProv; rw [← hs, mPv_stop (by omega)]; grind)), M9⟩
          · refine g_iload C dX3_provable_92 2 rfl ?_
            refine g_aload_n C dX3_provable_94 5 rfl ?_
            refine g_get C dX3_provable_95 kcX3 6 q1469 (fun _ _ _ _ h9 => h9) M9.o (Nat.le_of_ble_eq_true rfl) (w := .ref (ad 6)) rfl ?_
            refine g_iconst C dX3_provable_98 ?_
            refine g_iald C dX3_provable_99 (v := g 6 4) M9.a6 (by decide) (by decide) (by decide) rfl ?_
            refine g_icmp_ge C dX3_provable_100 (tgt := 152) (by decide) (gRo (by omega) (by omega)) (hiR _) (fun c100 => ?_) (fun c100 => ?_)
            · refine g_iload C dX3_provable_152 2 rfl ?_
              refine g_aload_n C dX3_provable_154 5 rfl ?_
              refine g_get C dX3_provable_155 kcX3 6 q1469 (fun _ _ _ _ h9 => h9) M9.o (Nat.le_of_ble_eq_true rfl) (w := .ref (ad 6)) rfl ?_
              refine g_iconst C dX3_provable_158 ?_
              refine g_iald C dX3_provable_159 (v := g 6 4) M9.a6 (by decide) (by decide) (by decide) rfl ?_
              refine g_icmp_ne C dX3_provable_160 (tgt := 167) (by decide) (gRo (by omega) (by omega)) (hiR _) (fun c160 => ?_) (fun c160 => ?_)
              · refine g_iconst C dX3_provable_167 ?_
                refine g_istore C dX3_provable_168 (lv' := [(10, .int (iI 0)), (9, .int (iI c)), (8, .int (iI a)), (7, .int (iI b)), (6, .int (iI (min 24 (mLeast (g 6) 1 ear tone (-1) + g 6 1 - 1)))), (5, .int (iI nz)), (0, .ref m), (1, .int (iI route)), (2, .int (iI ear)), (3, .int (iI tone)), (4, .int (iI what))]) (Nat.le_of_ble_eq_true rfl) rfl ?_
                refine g_iload C dX3_provable_170 10 rfl ?_
                refine g_iconst C dX3_provable_172 ?_
                refine g_icmp_ne C dX3_provable_173 (tgt := 181) (by decide) (gRo (by omega) (by omega)) (gRo (by decide) (by decide)) (fun c173 => ?_) (fun c173 => ?_)
                · refine g_iload C dX3_provable_181 10 rfl ?_
                  refine g_iconst C dX3_provable_183 ?_
                  refine g_icmp_ne C dX3_provable_184 (tgt := 202) (by decide) (gRo (by omega) (by omega)) (gRo (by decide) (by decide)) (fun c184 => ?_) (fun c184 => ?_)
                  · refine g_iload C dX3_provable_202 0 rfl ?_
                    refine g_if_eq C dX3_provable_204 (tgt := 211) (by decide) (gRo (by decide) (by decide)) (fun _ => ?_) (fun q => absurd (by decide) q)
                    refine g_iconst C dX3_provable_211 ?_
                    refine g_iret C E dX3_provable_212 rfl ?_
                    try rw [c8]
                    try rw [c18]
                    exact ⟨rI (show 3 = mProv (g 6) route ear tone what from (by unfold mProv; rw [← hs, mPv_stop (by omega)]; grind)), M9⟩
                  · refine g_iload C dX3_provable_187 0 rfl ?_
                    refine g_if_eq C dX3_provable_189 (tgt := 197) (by decide) (gRo (by decide) (by decide)) (fun _ => ?_) (fun q => absurd (by decide) q)
                    refine g_bipush C dX3_provable_197 (by decide) ?_
                    refine g_goto C dX3_provable_199 (tgt := 212) (by decide) ?_
                    refine g_iret C E dX3_provable_212 rfl ?_
                    try rw [c8]
                    try rw [c18]
                    exact ⟨rI (show -2 = mProv (g 6) route ear tone what from (by unfold mProv; rw [← hs, mPv_stop (by omega)]; grind)), M9⟩
                · refine g_iload C dX3_provable_176 1 rfl ?_
                  refine g_goto C dX3_provable_178 (tgt := 212) (by decide) ?_
                  refine g_iret C E dX3_provable_212 rfl ?_
                  try rw [c8]
                  try rw [c18]
                  exact ⟨rI (show c = mProv (g 6) route ear tone what from (by unfold mProv; rw [← hs, mPv_stop (by omega)]; grind)), M9⟩
              · refine g_iconst C dX3_provable_163 ?_
                refine g_goto C dX3_provable_164 (tgt := 168) (by decide) ?_
                refine g_istore C dX3_provable_168 (lv' := [(10, .int (iI 1)), (9, .int (iI c)), (8, .int (iI a)), (7, .int (iI b)), (6, .int (iI (min 24 (mLeast (g 6) 1 ear tone (-1) + g 6 1 - 1)))), (5, .int (iI nz)), (0, .ref m), (1, .int (iI route)), (2, .int (iI ear)), (3, .int (iI tone)), (4, .int (iI what))]) (Nat.le_of_ble_eq_true rfl) rfl ?_
                refine g_iload C dX3_provable_170 10 rfl ?_
                refine g_iconst C dX3_provable_172 ?_
                refine g_icmp_ne C dX3_provable_173 (tgt := 181) (by decide) (gRo (by omega) (by omega)) (gRo (by decide) (by decide)) (fun c173 => ?_) (fun c173 => ?_)
                · refine g_iload C dX3_provable_181 10 rfl ?_
                  refine g_iconst C dX3_provable_183 ?_
                  refine g_icmp_ne C dX3_provable_184 (tgt := 202) (by decide) (gRo (by omega) (by omega)) (gRo (by decide) (by decide)) (fun c184 => ?_) (fun c184 => ?_)
                  · refine g_iload C dX3_provable_202 0 rfl ?_
                    refine g_if_eq C dX3_provable_204 (tgt := 211) (by decide) (gRo (by decide) (by decide)) (fun q => absurd q (by decide)) (fun _ => ?_)
                    refine g_iconst C dX3_provable_207 ?_
                    refine g_goto C dX3_provable_208 (tgt := 212) (by decide) ?_
                    refine g_iret C E dX3_provable_212 rfl ?_
                    try rw [c8]
                    try rw [c18]
                    exact ⟨rI (show 2 = mProv (g 6) route ear tone what from (by unfold mProv; rw [← hs, mPv_stop (by omega)]; grind)), M9⟩
                  · refine g_iload C dX3_provable_187 0 rfl ?_
                    refine g_if_eq C dX3_provable_189 (tgt := 197) (by decide) (gRo (by decide) (by decide)) (fun q => absurd q (by decide)) (fun _ => ?_)
                    refine g_iload C dX3_provable_192 2 rfl ?_
                    refine g_goto C dX3_provable_194 (tgt := 212) (by decide) ?_
                    refine g_iret C E dX3_provable_212 rfl ?_
                    try rw [c8]
                    try rw [c18]
                    exact ⟨rI (show a = mProv (g 6) route ear tone what from (by unfold mProv; rw [← hs, mPv_stop (by omega)]; grind)), M9⟩
                · refine g_iload C dX3_provable_176 1 rfl ?_
                  refine g_goto C dX3_provable_178 (tgt := 212) (by decide) ?_
                  refine g_iret C E dX3_provable_212 rfl ?_
                  try rw [c8]
                  try rw [c18]
                  exact ⟨rI (show c = mProv (g 6) route ear tone what from (by unfold mProv; rw [← hs, mPv_stop (by omega)]; grind)), M9⟩
            · refine g_aload_n C dX3_provable_103 5 rfl ?_
              refine g_iload_n C dX3_provable_104 6 rfl ?_
              refine g_iload_n C dX3_provable_105 7 rfl ?_
              refine g_iload_n C dX3_provable_106 8 rfl ?_
              refine g_iload C dX3_provable_107 4 rfl ?_
              refine g_callV C dX3_provable_109 lkX3_205 M9.o rfl (As := [.int (iI route), .int (iI ear), .int (iI tone), .int (iI nz)]) (c_X3_leastOf M9 route ear tone nz hO (by omega) (by omega) (by omega) (by omega)) rfl rfl ⟨Nat.le_of_ble_eq_true rfl, Nat.le_of_ble_eq_true rfl⟩ (Nat.le_of_ble_eq_true rfl) ?_
              rintro _ _ ⟨rfl, rfl⟩
              show gW X h8 0 0 112 [(9, .int (iI c)), (8, .int (iI a)), (7, .int (iI b)), (6, .int (iI (min 24 (mLeast (g 6) 1 ear tone (-1) + g 6 1 - 1)))), (5, .int (iI nz)), (0, .ref m), (1, .int (iI route)), (2, .int (iI ear)), (3, .int (iI tone)), (4, .int (iI what))] [.int (iI (mLeast (g 6) route ear tone nz))]
              have b12 := mLeast_b (g 6) route ear tone nz
              refine g_istore C dX3_provable_112 (lv' := [(10, .int (iI (mLeast (g 6) route ear tone nz))), (9, .int (iI c)), (8, .int (iI a)), (7, .int (iI b)), (6, .int (iI (min 24 (mLeast (g 6) 1 ear tone (-1) + g 6 1 - 1)))), (5, .int (iI nz)), (0, .ref m), (1, .int (iI route)), (2, .int (iI ear)), (3, .int (iI tone)), (4, .int (iI what))]) (Nat.le_of_ble_eq_true rfl) rfl ?_
              refine g_iload C dX3_provable_114 0 rfl ?_
              refine g_iload C dX3_provable_116 2 rfl ?_
              refine g_icmp_ne C dX3_provable_118 (tgt := 128) (by decide) (gRo (by omega) (by omega)) (gRo (by omega) (by omega)) (fun c118 => ?_) (fun c118 => ?_)
              · refine g_iconst C dX3_provable_128 ?_
                refine g_istore C dX3_provable_129 (lv' := [(7, .int (iI 1)), (10, .int (iI (mLeast (g 6) route ear tone nz))), (9, .int (iI c)), (8, .int (iI a)), (6, .int (iI (min 24 (mLeast (g 6) 1 ear tone (-1) + g 6 1 - 1)))), (5, .int (iI nz)), (0, .ref m), (1, .int (iI route)), (2, .int (iI ear)), (3, .int (iI tone)), (4, .int (iI what))]) (Nat.le_of_ble_eq_true rfl) rfl ?_
                refine g_iload C dX3_provable_131 1 rfl ?_
                refine g_istore C dX3_provable_133 (lv' := [(8, .int (iI (mLeast (g 6) route ear tone nz))), (7, .int (iI 1)), (10, .int (iI (mLeast (g 6) route ear tone nz))), (9, .int (iI c)), (6, .int (iI (min 24 (mLeast (g 6) 1 ear tone (-1) + g 6 1 - 1)))), (5, .int (iI nz)), (0, .ref m), (1, .int (iI route)), (2, .int (iI ear)), (3, .int (iI tone)), (4, .int (iI what))]) (Nat.le_of_ble_eq_true rfl) rfl ?_
                refine g_iinc C dX3_provable_135 (v := c + 1) (lv' := [(9, .int (iI (c + 1))), (8, .int (iI (mLeast (g 6) route ear tone nz))), (7, .int (iI 1)), (10, .int (iI (mLeast (g 6) route ear tone nz))), (6, .int (iI (min 24 (mLeast (g 6) 1 ear tone (-1) + g 6 1 - 1)))), (5, .int (iI nz)), (0, .ref m), (1, .int (iI route)), (2, .int (iI ear)), (3, .int (iI tone)), (4, .int (iI what))]) 3 rfl rfl (Nat.le_of_ble_eq_true rfl) rfl ?_
                refine g_iload C dX3_provable_138 5 rfl ?_
                refine g_aload_n C dX3_provable_140 6 rfl ?_
                refine g_get C dX3_provable_141 kcX3 6 q1469 (fun _ _ _ _ h9 => h9) M9.o (Nat.le_of_ble_eq_true rfl) (w := .ref (ad 6)) rfl ?_
                refine g_iconst C dX3_provable_144 ?_
                refine g_iald C dX3_provable_145 (v := g 6 3) M9.a6 (by decide) (by decide) (by decide) rfl ?_
                refine g_iadd C dX3_provable_146 (v := nz + g 6 3) rfl ?_
                refine g_istore C dX3_provable_147 (lv' := [(5, .int (iI (nz + g 6 3))), (9, .int (iI (c + 1))), (8, .int (iI (mLeast (g 6) route ear tone nz))), (7, .int (iI 1)), (10, .int (iI (mLeast (g 6) route ear tone nz))), (6, .int (iI (min 24 (mLeast (g 6) 1 ear tone (-1) + g 6 1 - 1)))), (0, .ref m), (1, .int (iI route)), (2, .int (iI ear)), (3, .int (iI tone)), (4, .int (iI what))]) (Nat.le_of_ble_eq_true rfl) rfl ?_
                refine g_goto C dX3_provable_149 (tgt := 85) (by decide) ?_
                refine gW.loc [1, 2, 3, 5, 0, 6, 7, 8, 9, 10] (lv' := [(9, .int (iI (c + 1))), (8, .int (iI (mLeast (g 6) route ear tone nz))), (7, .int (iI 1)), (6, .int (iI (min 24 (mLeast (g 6) 1 ear tone (-1) + g 6 1 - 1)))), (5, .int (iI (nz + g 6 3))), (0, .ref m), (1, .int (iI route)), (2, .int (iI ear)), (3, .int (iI tone)), (4, .int (iI what))]) rfl ?_
                exact ih (nz + g 6 3) 1 (mLeast (g 6) route ear tone nz) (c + 1) (by omega) (by omega) (by omega) (by omega) (by rw [← hs, mPv_step (q := fun n => mLeast (g 6) route ear tone n) (most := min 24 (mLeast (g 6) 1 ear tone (-1) + g 6 1 - 1)) (fl := g 6 4) (rise := g 6 3) (nz := nz) (like := b) (last := a) (many := c) (by omega) (by omega) (by omega)]; rw [if_neg (show ¬ mLeast (g 6) route ear tone nz = a from by assumption)])
              · refine g_iload C dX3_provable_121 3 rfl ?_
                refine g_iconst C dX3_provable_123 ?_
                refine g_iadd C dX3_provable_124 (v := b + 1) rfl ?_
                refine g_goto C dX3_provable_125 (tgt := 129) (by decide) ?_
                refine g_istore C dX3_provable_129 (lv' := [(7, .int (iI (b + 1))), (10, .int (iI (mLeast (g 6) route ear tone nz))), (9, .int (iI c)), (8, .int (iI a)), (6, .int (iI (min 24 (mLeast (g 6) 1 ear tone (-1) + g 6 1 - 1)))), (5, .int (iI nz)), (0, .ref m), (1, .int (iI route)), (2, .int (iI ear)), (3, .int (iI tone)), (4, .int (iI what))]) (Nat.le_of_ble_eq_true rfl) rfl ?_
                refine g_iload C dX3_provable_131 1 rfl ?_
                refine g_istore C dX3_provable_133 (lv' := [(8, .int (iI (mLeast (g 6) route ear tone nz))), (7, .int (iI (b + 1))), (10, .int (iI (mLeast (g 6) route ear tone nz))), (9, .int (iI c)), (6, .int (iI (min 24 (mLeast (g 6) 1 ear tone (-1) + g 6 1 - 1)))), (5, .int (iI nz)), (0, .ref m), (1, .int (iI route)), (2, .int (iI ear)), (3, .int (iI tone)), (4, .int (iI what))]) (Nat.le_of_ble_eq_true rfl) rfl ?_
                refine g_iinc C dX3_provable_135 (v := c + 1) (lv' := [(9, .int (iI (c + 1))), (8, .int (iI (mLeast (g 6) route ear tone nz))), (7, .int (iI (b + 1))), (10, .int (iI (mLeast (g 6) route ear tone nz))), (6, .int (iI (min 24 (mLeast (g 6) 1 ear tone (-1) + g 6 1 - 1)))), (5, .int (iI nz)), (0, .ref m), (1, .int (iI route)), (2, .int (iI ear)), (3, .int (iI tone)), (4, .int (iI what))]) 3 rfl rfl (Nat.le_of_ble_eq_true rfl) rfl ?_
                refine g_iload C dX3_provable_138 5 rfl ?_
                refine g_aload_n C dX3_provable_140 6 rfl ?_
                refine g_get C dX3_provable_141 kcX3 6 q1469 (fun _ _ _ _ h9 => h9) M9.o (Nat.le_of_ble_eq_true rfl) (w := .ref (ad 6)) rfl ?_
                refine g_iconst C dX3_provable_144 ?_
                refine g_iald C dX3_provable_145 (v := g 6 3) M9.a6 (by decide) (by decide) (by decide) rfl ?_
                refine g_iadd C dX3_provable_146 (v := nz + g 6 3) rfl ?_
                refine g_istore C dX3_provable_147 (lv' := [(5, .int (iI (nz + g 6 3))), (9, .int (iI (c + 1))), (8, .int (iI (mLeast (g 6) route ear tone nz))), (7, .int (iI (b + 1))), (10, .int (iI (mLeast (g 6) route ear tone nz))), (6, .int (iI (min 24 (mLeast (g 6) 1 ear tone (-1) + g 6 1 - 1)))), (0, .ref m), (1, .int (iI route)), (2, .int (iI ear)), (3, .int (iI tone)), (4, .int (iI what))]) (Nat.le_of_ble_eq_true rfl) rfl ?_
                refine g_goto C dX3_provable_149 (tgt := 85) (by decide) ?_
                refine gW.loc [1, 2, 3, 5, 0, 6, 7, 8, 9, 10] (lv' := [(9, .int (iI (c + 1))), (8, .int (iI (mLeast (g 6) route ear tone nz))), (7, .int (iI (b + 1))), (6, .int (iI (min 24 (mLeast (g 6) 1 ear tone (-1) + g 6 1 - 1)))), (5, .int (iI (nz + g 6 3))), (0, .ref m), (1, .int (iI route)), (2, .int (iI ear)), (3, .int (iI tone)), (4, .int (iI what))]) rfl ?_
                exact ih (nz + g 6 3) (b + 1) (mLeast (g 6) route ear tone nz) (c + 1) (by omega) (by omega) (by omega) (by omega) (by rw [← hs, mPv_step (q := fun n => mLeast (g 6) route ear tone n) (most := min 24 (mLeast (g 6) 1 ear tone (-1) + g 6 1 - 1)) (fl := g 6 4) (rise := g 6 3) (nz := nz) (like := b) (last := a) (many := c) (by omega) (by omega) (by omega)]; rw [if_pos (show mLeast (g 6) route ear tone nz = a from by assumption)])
      exact L85 28 (mLeast (g 6) 0 (1 - ear) tone (-1) + 2) 0 (-2) 0 (by omega) (by omega) (by decide) (by decide) rfl
